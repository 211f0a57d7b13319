set_option maxRecDepth 100000
/-! java/util/AbstractCollection -/
def RJ0 : String := "java/util/AbstractCollection"
abbrev cJ0_init : ByteArray := prog_33_method_1_code
def yJ0_init : MethodName := ⟨RJ0, "<init>", "()V"⟩
theorem q91 : (Jvm.Cond.initialized "java/util/AbstractCollection") ∈ lw_all := lw_g (lw_at lw_m1 3 rfl) rfl
theorem q198 : (Jvm.Cond.instanceMethod ({ cls := "java/util/AbstractCollection", name := "<init>", desc := "()V" } : Jvm.MethodName)) ∈ lw_all := lw_g (lw_at lw_m1 110 rfl) rfl
theorem q199 : (Jvm.Cond.code ({ cls := "java/util/AbstractCollection", name := "<init>", desc := "()V" } : Jvm.MethodName) prog_33_method_1_code (1 : Nat) (Option.none : Option Jvm.ClassFile.FieldType)) ∈ lw_all := lw_g (lw_at lw_m1 111 rfl) rfl
theorem q200 : (Jvm.Cond.methodLink "java/util/AbstractCollection" (1 : Nat) ({ cls := "java/lang/Object", name := "<init>", desc := "()V" } : Jvm.MethodName)) ∈ lw_all := lw_g (lw_at lw_m1 112 rfl) rfl
/-! java/util/ArrayDeque -/
def RJ1 : String := "java/util/ArrayDeque"
def TJ1 : u_T := fun k => match k with
  | 0 => ("java/util/ArrayDeque", "elements", "[Ljava/lang/Object;", false)
  | 1 => ("java/util/ArrayDeque", "head", "I", false)
  | _ => ("java/util/ArrayDeque", "tail", "I", false)
def tyJ1 : Nat → FieldType := fun k => match k with
  | 0 => .array (.object "java/lang/Object")
  | 1 => .int
  | _ => .int
abbrev wsJ10 : List Cond := u_ws RJ1 TJ1 3
theorem nmJ1 : ∀ a, a < 3 → ∀ b, b < 3 → a ≠ b → (TJ1 a).2.1 ≠ (TJ1 b).2.1 := by decide +kernel
theorem tyJ1_ok : ∀ k, k < 3 → parseFieldDescriptor (TJ1 k).2.2.1 = some (tyJ1 k) := by decide +kernel
abbrev cJ1_init : ByteArray := prog_34_method_3_code
def yJ1_init : MethodName := ⟨RJ1, "<init>", "()V"⟩
abbrev cJ1_addLast : ByteArray := prog_34_method_13_code
def yJ1_addLast : MethodName := ⟨RJ1, "addLast", "(Ljava/lang/Object;)V"⟩
abbrev cJ1_inc : ByteArray := prog_34_method_6_code
def yJ1_inc : MethodName := ⟨RJ1, "inc", "(II)I"⟩
abbrev cJ1_grow : ByteArray := prog_34_method_1_code
def yJ1_grow : MethodName := ⟨RJ1, "grow", "(I)V"⟩
abbrev cJ1_newCapacity : ByteArray := prog_34_method_2_code
def yJ1_newCapacity : MethodName := ⟨RJ1, "newCapacity", "(II)I"⟩
abbrev cJ1_isEmpty : ByteArray := prog_34_method_38_code
def yJ1_isEmpty : MethodName := ⟨RJ1, "isEmpty", "()Z"⟩
abbrev cJ1_removeFirst : ByteArray := prog_34_method_18_code
def yJ1_removeFirst : MethodName := ⟨RJ1, "removeFirst", "()Ljava/lang/Object;"⟩
abbrev cJ1_pollFirst : ByteArray := prog_34_method_20_code
def yJ1_pollFirst : MethodName := ⟨RJ1, "pollFirst", "()Ljava/lang/Object;"⟩
abbrev cJ1_elementAt : ByteArray := prog_34_method_10_code
def yJ1_elementAt : MethodName := ⟨RJ1, "elementAt", "([Ljava/lang/Object;I)Ljava/lang/Object;"⟩
abbrev cJ1_size : ByteArray := prog_34_method_37_code
def yJ1_size : MethodName := ⟨RJ1, "size", "()I"⟩
abbrev cJ1_sub : ByteArray := prog_34_method_9_code
def yJ1_sub : MethodName := ⟨RJ1, "sub", "(III)I"⟩
abbrev cJ1_removeLast : ByteArray := prog_34_method_19_code
def yJ1_removeLast : MethodName := ⟨RJ1, "removeLast", "()Ljava/lang/Object;"⟩
abbrev cJ1_pollLast : ByteArray := prog_34_method_21_code
def yJ1_pollLast : MethodName := ⟨RJ1, "pollLast", "()Ljava/lang/Object;"⟩
abbrev cJ1_dec : ByteArray := prog_34_method_7_code
def yJ1_dec : MethodName := ⟨RJ1, "dec", "(II)I"⟩
theorem q92 : (Jvm.Cond.initialized "java/util/ArrayDeque") ∈ lw_all := lw_g (lw_at lw_m1 4 rfl) rfl
theorem q193 : (Jvm.Cond.instantiable "java/util/ArrayDeque" (3 : Nat)) ∈ lw_all := lw_g (lw_at lw_m1 105 rfl) rfl
theorem q195 : (Jvm.Cond.instanceMethod ({ cls := "java/util/ArrayDeque", name := "<init>", desc := "()V" } : Jvm.MethodName)) ∈ lw_all := lw_g (lw_at lw_m1 107 rfl) rfl
theorem q196 : (Jvm.Cond.code ({ cls := "java/util/ArrayDeque", name := "<init>", desc := "()V" } : Jvm.MethodName) prog_34_method_3_code (1 : Nat) (Option.none : Option Jvm.ClassFile.FieldType)) ∈ lw_all := lw_g (lw_at lw_m1 108 rfl) rfl
theorem q197 : (Jvm.Cond.methodLink "java/util/ArrayDeque" (42 : Nat) ({ cls := "java/util/AbstractCollection", name := "<init>", desc := "()V" } : Jvm.MethodName)) ∈ lw_all := lw_g (lw_at lw_m1 109 rfl) rfl
theorem q201 : (Jvm.Cond.classLink "java/util/ArrayDeque" (47 : Nat) "java/lang/Object") ∈ lw_all := lw_g (lw_at lw_m1 113 rfl) rfl
theorem q203 : (Jvm.Cond.fieldLink "java/util/ArrayDeque" (3 : Nat) "java/util/ArrayDeque" "elements" "[Ljava/lang/Object;") ∈ lw_all := lw_g (lw_at lw_m1 115 rfl) rfl
theorem q204 : (Jvm.Cond.fieldLink "java/util/ArrayDeque" (24 : Nat) "java/util/ArrayDeque" "head" "I") ∈ lw_all := lw_g (lw_at lw_m1 116 rfl) rfl
theorem q205 : (Jvm.Cond.fieldLink "java/util/ArrayDeque" (20 : Nat) "java/util/ArrayDeque" "tail" "I") ∈ lw_all := lw_g (lw_at lw_m1 117 rfl) rfl
theorem q206 : (Jvm.Cond.lays "java/util/ArrayDeque" "java/util/ArrayDeque" "elements" "[Ljava/lang/Object;") ∈ lw_all := lw_g (lw_at lw_m1 118 rfl) rfl
theorem q207 : (Jvm.Cond.soleField "java/util/ArrayDeque" "elements") ∈ lw_all := lw_g (lw_at lw_m1 119 rfl) rfl
theorem q208 : (Jvm.Cond.lays "java/util/ArrayDeque" "java/util/ArrayDeque" "head" "I") ∈ lw_all := lw_g (lw_at lw_m1 120 rfl) rfl
theorem q209 : (Jvm.Cond.soleField "java/util/ArrayDeque" "head") ∈ lw_all := lw_g (lw_at lw_m1 121 rfl) rfl
theorem q210 : (Jvm.Cond.lays "java/util/ArrayDeque" "java/util/ArrayDeque" "tail" "I") ∈ lw_all := lw_g (lw_at lw_m1 122 rfl) rfl
theorem q211 : (Jvm.Cond.soleField "java/util/ArrayDeque" "tail") ∈ lw_all := lw_g (lw_at lw_m1 123 rfl) rfl
theorem q212 : (Jvm.Cond.superclass "java/util/ArrayDeque" "java/util/AbstractCollection") ∈ lw_all := lw_g (lw_at lw_m1 124 rfl) rfl
theorem q450 : (Jvm.Cond.instanceMethod ({ cls := "java/util/ArrayDeque", name := "addLast", desc := "(Ljava/lang/Object;)V" } : Jvm.MethodName)) ∈ lw_all := lw_g (lw_at lw_m2 122 rfl) rfl
theorem q451 : (Jvm.Cond.selects "java/util/ArrayDeque" ({ cls := "java/util/ArrayDeque", name := "addLast", desc := "(Ljava/lang/Object;)V" } : Jvm.MethodName) ({ cls := "java/util/ArrayDeque", name := "addLast", desc := "(Ljava/lang/Object;)V" } : Jvm.MethodName)) ∈ lw_all := lw_g (lw_at lw_m2 123 rfl) rfl
theorem q452 : (Jvm.Cond.code ({ cls := "java/util/ArrayDeque", name := "addLast", desc := "(Ljava/lang/Object;)V" } : Jvm.MethodName) prog_34_method_13_code (3 : Nat) (Option.none : Option Jvm.ClassFile.FieldType)) ∈ lw_all := lw_g (lw_at lw_m2 124 rfl) rfl
theorem q453 : (Jvm.Cond.methodLink "java/util/ArrayDeque" (74 : Nat) ({ cls := "java/util/ArrayDeque", name := "inc", desc := "(II)I" } : Jvm.MethodName)) ∈ lw_all := lw_g (lw_at lw_m2 125 rfl) rfl
theorem q454 : (Jvm.Cond.static ({ cls := "java/util/ArrayDeque", name := "inc", desc := "(II)I" } : Jvm.MethodName)) ∈ lw_all := lw_g (lw_at lw_m2 126 rfl) rfl
theorem q455 : (Jvm.Cond.code ({ cls := "java/util/ArrayDeque", name := "inc", desc := "(II)I" } : Jvm.MethodName) prog_34_method_6_code (2 : Nat) (Option.some Jvm.ClassFile.FieldType.int)) ∈ lw_all := lw_g (lw_at lw_m2 127 rfl) rfl
theorem q456 : (Jvm.Cond.methodLink "java/util/ArrayDeque" (71 : Nat) ({ cls := "java/util/ArrayDeque", name := "grow", desc := "(I)V" } : Jvm.MethodName)) ∈ lw_all := lw_g (lw_at lw_m2 128 rfl) rfl
theorem q457 : (Jvm.Cond.privateMethod ({ cls := "java/util/ArrayDeque", name := "grow", desc := "(I)V" } : Jvm.MethodName)) ∈ lw_tbl := lw_at lw_m2 129 rfl
theorem q458 : (Jvm.Cond.instanceMethod ({ cls := "java/util/ArrayDeque", name := "grow", desc := "(I)V" } : Jvm.MethodName)) ∈ lw_all := lw_g (lw_at lw_m2 130 rfl) rfl
theorem q459 : (Jvm.Cond.code ({ cls := "java/util/ArrayDeque", name := "grow", desc := "(I)V" } : Jvm.MethodName) prog_34_method_1_code (9 : Nat) (Option.none : Option Jvm.ClassFile.FieldType)) ∈ lw_all := lw_g (lw_at lw_m2 131 rfl) rfl
theorem q460 : (Jvm.Cond.constant "java/util/ArrayDeque" (9 : Nat) (2147483639 : Int32)) ∈ lw_all := lw_g (lw_at lw_m2 132 rfl) rfl
theorem q461 : (Jvm.Cond.methodLink "java/util/ArrayDeque" (10 : Nat) ({ cls := "java/util/ArrayDeque", name := "newCapacity", desc := "(II)I" } : Jvm.MethodName)) ∈ lw_all := lw_g (lw_at lw_m2 133 rfl) rfl
theorem q462 : (Jvm.Cond.privateMethod ({ cls := "java/util/ArrayDeque", name := "newCapacity", desc := "(II)I" } : Jvm.MethodName)) ∈ lw_tbl := lw_at lw_m2 134 rfl
theorem q463 : (Jvm.Cond.instanceMethod ({ cls := "java/util/ArrayDeque", name := "newCapacity", desc := "(II)I" } : Jvm.MethodName)) ∈ lw_all := lw_g (lw_at lw_m2 135 rfl) rfl
theorem q464 : (Jvm.Cond.code ({ cls := "java/util/ArrayDeque", name := "newCapacity", desc := "(II)I" } : Jvm.MethodName) prog_34_method_2_code (5 : Nat) (Option.some Jvm.ClassFile.FieldType.int)) ∈ lw_all := lw_g (lw_at lw_m2 136 rfl) rfl
theorem q465 : (Jvm.Cond.classLink "java/util/ArrayDeque" (33 : Nat) "java/lang/IllegalStateException") ∈ lw_all := lw_g (lw_at lw_m2 137 rfl) rfl
theorem q476 : (Jvm.Cond.stringRef "java/util/ArrayDeque" (35 : Nat) "Sorry, deque too big") ∈ lw_tbl := lw_at lw_m2 148 rfl
theorem q477 : (Jvm.Cond.methodLink "java/util/ArrayDeque" (37 : Nat) ({ cls := "java/lang/IllegalStateException", name := "<init>", desc := "(Ljava/lang/String;)V" } : Jvm.MethodName)) ∈ lw_all := lw_g (lw_at lw_m2 149 rfl) rfl
theorem q486 : (Jvm.Cond.constant "java/util/ArrayDeque" (41 : Nat) (2147483647 : Int32)) ∈ lw_all := lw_g (lw_at lw_m2 158 rfl) rfl
theorem q487 : (Jvm.Cond.methodLink "java/util/ArrayDeque" (14 : Nat) ({ cls := "java/util/Arrays", name := "copyOf", desc := "([Ljava/lang/Object;I)[Ljava/lang/Object;" } : Jvm.MethodName)) ∈ lw_all := lw_g (lw_at lw_m2 159 rfl) rfl
theorem q505 : (Jvm.Cond.selects "java/util/ArrayDeque" ({ cls := "java/lang/Object", name := "getClass", desc := "()Ljava/lang/Class;" } : Jvm.MethodName) ({ cls := "java/lang/Object", name := "getClass", desc := "()Ljava/lang/Class;" } : Jvm.MethodName)) ∈ lw_all := lw_g (lw_at lw_m2 177 rfl) rfl
theorem q519 : (Jvm.Cond.methodLink "java/util/ArrayDeque" (27 : Nat) ({ cls := "java/lang/System", name := "arraycopy", desc := "(Ljava/lang/Object;ILjava/lang/Object;II)V" } : Jvm.MethodName)) ∈ lw_all := lw_g (lw_at lw_m2 191 rfl) rfl
theorem q521 : (Jvm.Cond.instanceMethod ({ cls := "java/util/ArrayDeque", name := "isEmpty", desc := "()Z" } : Jvm.MethodName)) ∈ lw_all := lw_g (lw_at lw_m2 193 rfl) rfl
theorem q522 : (Jvm.Cond.selects "java/util/ArrayDeque" ({ cls := "java/util/ArrayDeque", name := "isEmpty", desc := "()Z" } : Jvm.MethodName) ({ cls := "java/util/ArrayDeque", name := "isEmpty", desc := "()Z" } : Jvm.MethodName)) ∈ lw_all := lw_g (lw_at lw_m2 194 rfl) rfl
theorem q523 : (Jvm.Cond.code ({ cls := "java/util/ArrayDeque", name := "isEmpty", desc := "()Z" } : Jvm.MethodName) prog_34_method_38_code (1 : Nat) (Option.some Jvm.ClassFile.FieldType.boolean)) ∈ lw_all := lw_g (lw_at lw_m2 195 rfl) rfl
theorem q525 : (Jvm.Cond.instanceMethod ({ cls := "java/util/ArrayDeque", name := "removeFirst", desc := "()Ljava/lang/Object;" } : Jvm.MethodName)) ∈ lw_all := lw_g (lw_at lw_m2 197 rfl) rfl
theorem q526 : (Jvm.Cond.selects "java/util/ArrayDeque" ({ cls := "java/util/ArrayDeque", name := "removeFirst", desc := "()Ljava/lang/Object;" } : Jvm.MethodName) ({ cls := "java/util/ArrayDeque", name := "removeFirst", desc := "()Ljava/lang/Object;" } : Jvm.MethodName)) ∈ lw_all := lw_g (lw_at lw_m2 198 rfl) rfl
theorem q527 : (Jvm.Cond.code ({ cls := "java/util/ArrayDeque", name := "removeFirst", desc := "()Ljava/lang/Object;" } : Jvm.MethodName) prog_34_method_18_code (2 : Nat) (Option.some (Jvm.ClassFile.FieldType.object "java/lang/Object"))) ∈ lw_all := lw_g (lw_at lw_m2 199 rfl) rfl
theorem q528 : (Jvm.Cond.methodLink "java/util/ArrayDeque" (93 : Nat) ({ cls := "java/util/ArrayDeque", name := "pollFirst", desc := "()Ljava/lang/Object;" } : Jvm.MethodName)) ∈ lw_all := lw_g (lw_at lw_m2 200 rfl) rfl
theorem q529 : (Jvm.Cond.instanceMethod ({ cls := "java/util/ArrayDeque", name := "pollFirst", desc := "()Ljava/lang/Object;" } : Jvm.MethodName)) ∈ lw_all := lw_g (lw_at lw_m2 201 rfl) rfl
theorem q530 : (Jvm.Cond.selects "java/util/ArrayDeque" ({ cls := "java/util/ArrayDeque", name := "pollFirst", desc := "()Ljava/lang/Object;" } : Jvm.MethodName) ({ cls := "java/util/ArrayDeque", name := "pollFirst", desc := "()Ljava/lang/Object;" } : Jvm.MethodName)) ∈ lw_all := lw_g (lw_at lw_m2 202 rfl) rfl
theorem q531 : (Jvm.Cond.code ({ cls := "java/util/ArrayDeque", name := "pollFirst", desc := "()Ljava/lang/Object;" } : Jvm.MethodName) prog_34_method_20_code (4 : Nat) (Option.some (Jvm.ClassFile.FieldType.object "java/lang/Object"))) ∈ lw_all := lw_g (lw_at lw_m2 203 rfl) rfl
theorem q532 : (Jvm.Cond.methodLink "java/util/ArrayDeque" (103 : Nat) ({ cls := "java/util/ArrayDeque", name := "elementAt", desc := "([Ljava/lang/Object;I)Ljava/lang/Object;" } : Jvm.MethodName)) ∈ lw_all := lw_g (lw_at lw_m2 204 rfl) rfl
theorem q533 : (Jvm.Cond.static ({ cls := "java/util/ArrayDeque", name := "elementAt", desc := "([Ljava/lang/Object;I)Ljava/lang/Object;" } : Jvm.MethodName)) ∈ lw_all := lw_g (lw_at lw_m2 205 rfl) rfl
theorem q534 : (Jvm.Cond.code ({ cls := "java/util/ArrayDeque", name := "elementAt", desc := "([Ljava/lang/Object;I)Ljava/lang/Object;" } : Jvm.MethodName) prog_34_method_10_code (2 : Nat) (Option.some (Jvm.ClassFile.FieldType.object "java/lang/Object"))) ∈ lw_all := lw_g (lw_at lw_m2 206 rfl) rfl
theorem q535 : (Jvm.Cond.classLink "java/util/ArrayDeque" (97 : Nat) "java/util/NoSuchElementException") ∈ lw_all := lw_g (lw_at lw_m2 207 rfl) rfl
theorem q544 : (Jvm.Cond.methodLink "java/util/ArrayDeque" (99 : Nat) ({ cls := "java/util/NoSuchElementException", name := "<init>", desc := "()V" } : Jvm.MethodName)) ∈ lw_all := lw_g (lw_at lw_m2 216 rfl) rfl
theorem q708 : (Jvm.Cond.instanceMethod ({ cls := "java/util/ArrayDeque", name := "size", desc := "()I" } : Jvm.MethodName)) ∈ lw_all := lw_g (lw_at lw_m3 140 rfl) rfl
theorem q709 : (Jvm.Cond.selects "java/util/ArrayDeque" ({ cls := "java/util/ArrayDeque", name := "size", desc := "()I" } : Jvm.MethodName) ({ cls := "java/util/ArrayDeque", name := "size", desc := "()I" } : Jvm.MethodName)) ∈ lw_all := lw_g (lw_at lw_m3 141 rfl) rfl
theorem q710 : (Jvm.Cond.code ({ cls := "java/util/ArrayDeque", name := "size", desc := "()I" } : Jvm.MethodName) prog_34_method_37_code (1 : Nat) (Option.some Jvm.ClassFile.FieldType.int)) ∈ lw_all := lw_g (lw_at lw_m3 142 rfl) rfl
theorem q711 : (Jvm.Cond.methodLink "java/util/ArrayDeque" (127 : Nat) ({ cls := "java/util/ArrayDeque", name := "sub", desc := "(III)I" } : Jvm.MethodName)) ∈ lw_all := lw_g (lw_at lw_m3 143 rfl) rfl
theorem q712 : (Jvm.Cond.static ({ cls := "java/util/ArrayDeque", name := "sub", desc := "(III)I" } : Jvm.MethodName)) ∈ lw_all := lw_g (lw_at lw_m3 144 rfl) rfl
theorem q713 : (Jvm.Cond.code ({ cls := "java/util/ArrayDeque", name := "sub", desc := "(III)I" } : Jvm.MethodName) prog_34_method_9_code (3 : Nat) (Option.some Jvm.ClassFile.FieldType.int)) ∈ lw_all := lw_g (lw_at lw_m3 145 rfl) rfl
theorem q1446 : (Jvm.Cond.instanceMethod ({ cls := "java/util/ArrayDeque", name := "removeLast", desc := "()Ljava/lang/Object;" } : Jvm.MethodName)) ∈ lw_all := lw_g (lw_at lw_m6 158 rfl) rfl
theorem q1447 : (Jvm.Cond.selects "java/util/ArrayDeque" ({ cls := "java/util/ArrayDeque", name := "removeLast", desc := "()Ljava/lang/Object;" } : Jvm.MethodName) ({ cls := "java/util/ArrayDeque", name := "removeLast", desc := "()Ljava/lang/Object;" } : Jvm.MethodName)) ∈ lw_all := lw_g (lw_at lw_m6 159 rfl) rfl
theorem q1448 : (Jvm.Cond.code ({ cls := "java/util/ArrayDeque", name := "removeLast", desc := "()Ljava/lang/Object;" } : Jvm.MethodName) prog_34_method_19_code (2 : Nat) (Option.some (Jvm.ClassFile.FieldType.object "java/lang/Object"))) ∈ lw_all := lw_g (lw_at lw_m6 160 rfl) rfl
theorem q1449 : (Jvm.Cond.methodLink "java/util/ArrayDeque" (100 : Nat) ({ cls := "java/util/ArrayDeque", name := "pollLast", desc := "()Ljava/lang/Object;" } : Jvm.MethodName)) ∈ lw_all := lw_g (lw_at lw_m6 161 rfl) rfl
theorem q1450 : (Jvm.Cond.instanceMethod ({ cls := "java/util/ArrayDeque", name := "pollLast", desc := "()Ljava/lang/Object;" } : Jvm.MethodName)) ∈ lw_all := lw_g (lw_at lw_m6 162 rfl) rfl
theorem q1451 : (Jvm.Cond.selects "java/util/ArrayDeque" ({ cls := "java/util/ArrayDeque", name := "pollLast", desc := "()Ljava/lang/Object;" } : Jvm.MethodName) ({ cls := "java/util/ArrayDeque", name := "pollLast", desc := "()Ljava/lang/Object;" } : Jvm.MethodName)) ∈ lw_all := lw_g (lw_at lw_m6 163 rfl) rfl
theorem q1452 : (Jvm.Cond.code ({ cls := "java/util/ArrayDeque", name := "pollLast", desc := "()Ljava/lang/Object;" } : Jvm.MethodName) prog_34_method_21_code (4 : Nat) (Option.some (Jvm.ClassFile.FieldType.object "java/lang/Object"))) ∈ lw_all := lw_g (lw_at lw_m6 164 rfl) rfl
theorem q1453 : (Jvm.Cond.methodLink "java/util/ArrayDeque" (68 : Nat) ({ cls := "java/util/ArrayDeque", name := "dec", desc := "(II)I" } : Jvm.MethodName)) ∈ lw_all := lw_g (lw_at lw_m6 165 rfl) rfl
theorem q1454 : (Jvm.Cond.static ({ cls := "java/util/ArrayDeque", name := "dec", desc := "(II)I" } : Jvm.MethodName)) ∈ lw_all := lw_g (lw_at lw_m6 166 rfl) rfl
theorem q1455 : (Jvm.Cond.code ({ cls := "java/util/ArrayDeque", name := "dec", desc := "(II)I" } : Jvm.MethodName) prog_34_method_7_code (2 : Nat) (Option.some Jvm.ClassFile.FieldType.int)) ∈ lw_all := lw_g (lw_at lw_m6 167 rfl) rfl
theorem q2262 : (Jvm.Cond.castable "java/util/ArrayDeque" "java/lang/Object") ∈ lw_tbl := lw_at lw_m10 14 rfl
theorem in_J1 : ∀ w ∈ wsJ10, w ∈ lw_all := lw_in wsJ10 [206, 208, 210] (by decide +kernel) (by decide +kernel)
/-! java/lang/Integer -/
def RJ10 : String := "java/lang/Integer"
def TJ10 : u_T := fun k => match k with
  | _ => ("java/lang/Integer", "value", "I", true)
def tyJ10 : Nat → FieldType := fun k => match k with
  | _ => .int
abbrev wsJ100 : List Cond := u_ws RJ10 TJ10 1
theorem nmJ10 : ∀ a, a < 1 → ∀ b, b < 1 → a ≠ b → (TJ10 a).2.1 ≠ (TJ10 b).2.1 := by decide +kernel
theorem tyJ10_ok : ∀ k, k < 1 → parseFieldDescriptor (TJ10 k).2.2.1 = some (tyJ10 k) := by decide +kernel
abbrev cJ10_valueOf : ByteArray := prog_19_method_22_code
def yJ10_valueOf : MethodName := ⟨RJ10, "valueOf", "(I)Ljava/lang/Integer;"⟩
abbrev cJ10_init : ByteArray := prog_19_method_23_code
def yJ10_init : MethodName := ⟨RJ10, "<init>", "(I)V"⟩
abbrev cJ10_intValue : ByteArray := prog_19_method_27_code
def yJ10_intValue : MethodName := ⟨RJ10, "intValue", "()I"⟩
abbrev cJ10_stringSize : ByteArray := prog_19_method_13_code
def yJ10_stringSize : MethodName := ⟨RJ10, "stringSize", "(I)I"⟩
abbrev cJ10_getChars : ByteArray := prog_19_method_12_code
def yJ10_getChars : MethodName := ⟨RJ10, "getChars", "(II[B)I"⟩
theorem q104 : (Jvm.Cond.initialized "java/lang/Integer") ∈ lw_all := lw_g (lw_at lw_m1 16 rfl) rfl
theorem q429 : (Jvm.Cond.static ({ cls := "java/lang/Integer", name := "valueOf", desc := "(I)Ljava/lang/Integer;" } : Jvm.MethodName)) ∈ lw_all := lw_g (lw_at lw_m2 101 rfl) rfl
theorem q430 : (Jvm.Cond.code ({ cls := "java/lang/Integer", name := "valueOf", desc := "(I)Ljava/lang/Integer;" } : Jvm.MethodName) prog_19_method_22_code (1 : Nat) (Option.some (Jvm.ClassFile.FieldType.object "java/lang/Integer"))) ∈ lw_all := lw_g (lw_at lw_m2 102 rfl) rfl
theorem q431 : (Jvm.Cond.fieldLink "java/lang/Integer" (191 : Nat) "java/lang/Integer$IntegerCache" "high" "I") ∈ lw_all := lw_g (lw_at lw_m2 103 rfl) rfl
theorem q433 : (Jvm.Cond.fieldLink "java/lang/Integer" (195 : Nat) "java/lang/Integer$IntegerCache" "cache" "[Ljava/lang/Integer;") ∈ lw_all := lw_g (lw_at lw_m2 105 rfl) rfl
theorem q435 : (Jvm.Cond.classLink "java/lang/Integer" (1 : Nat) "java/lang/Integer") ∈ lw_all := lw_g (lw_at lw_m2 107 rfl) rfl
theorem q436 : (Jvm.Cond.instantiable "java/lang/Integer" (1 : Nat)) ∈ lw_all := lw_g (lw_at lw_m2 108 rfl) rfl
theorem q437 : (Jvm.Cond.methodLink "java/lang/Integer" (199 : Nat) ({ cls := "java/lang/Integer", name := "<init>", desc := "(I)V" } : Jvm.MethodName)) ∈ lw_all := lw_g (lw_at lw_m2 109 rfl) rfl
theorem q438 : (Jvm.Cond.instanceMethod ({ cls := "java/lang/Integer", name := "<init>", desc := "(I)V" } : Jvm.MethodName)) ∈ lw_all := lw_g (lw_at lw_m2 110 rfl) rfl
theorem q439 : (Jvm.Cond.code ({ cls := "java/lang/Integer", name := "<init>", desc := "(I)V" } : Jvm.MethodName) prog_19_method_23_code (2 : Nat) (Option.none : Option Jvm.ClassFile.FieldType)) ∈ lw_all := lw_g (lw_at lw_m2 111 rfl) rfl
theorem q440 : (Jvm.Cond.methodLink "java/lang/Integer" (202 : Nat) ({ cls := "java/lang/Number", name := "<init>", desc := "()V" } : Jvm.MethodName)) ∈ lw_all := lw_g (lw_at lw_m2 112 rfl) rfl
theorem q444 : (Jvm.Cond.fieldLink "java/lang/Integer" (205 : Nat) "java/lang/Integer" "value" "I") ∈ lw_all := lw_g (lw_at lw_m2 116 rfl) rfl
theorem q445 : (Jvm.Cond.laysFinal "java/lang/Integer" "java/lang/Integer" "value" "I") ∈ lw_all := lw_g (lw_at lw_m2 117 rfl) rfl
theorem q446 : (Jvm.Cond.soleField "java/lang/Integer" "value") ∈ lw_all := lw_g (lw_at lw_m2 118 rfl) rfl
theorem q447 : (Jvm.Cond.superclass "java/lang/Integer" "java/lang/Number") ∈ lw_all := lw_g (lw_at lw_m2 119 rfl) rfl
theorem q502 : (Jvm.Cond.selects "java/lang/Integer" ({ cls := "java/lang/Object", name := "getClass", desc := "()Ljava/lang/Class;" } : Jvm.MethodName) ({ cls := "java/lang/Object", name := "getClass", desc := "()Ljava/lang/Class;" } : Jvm.MethodName)) ∈ lw_all := lw_g (lw_at lw_m2 174 rfl) rfl
theorem q558 : (Jvm.Cond.instanceMethod ({ cls := "java/lang/Integer", name := "intValue", desc := "()I" } : Jvm.MethodName)) ∈ lw_all := lw_g (lw_at lw_m2 230 rfl) rfl
theorem q559 : (Jvm.Cond.selects "java/lang/Integer" ({ cls := "java/lang/Integer", name := "intValue", desc := "()I" } : Jvm.MethodName) ({ cls := "java/lang/Integer", name := "intValue", desc := "()I" } : Jvm.MethodName)) ∈ lw_all := lw_g (lw_at lw_m2 231 rfl) rfl
theorem q560 : (Jvm.Cond.code ({ cls := "java/lang/Integer", name := "intValue", desc := "()I" } : Jvm.MethodName) prog_19_method_27_code (1 : Nat) (Option.some Jvm.ClassFile.FieldType.int)) ∈ lw_all := lw_g (lw_at lw_m2 232 rfl) rfl
theorem q1030 : (Jvm.Cond.static ({ cls := "java/lang/Integer", name := "stringSize", desc := "(I)I" } : Jvm.MethodName)) ∈ lw_all := lw_g (lw_at lw_m4 222 rfl) rfl
theorem q1031 : (Jvm.Cond.code ({ cls := "java/lang/Integer", name := "stringSize", desc := "(I)I" } : Jvm.MethodName) prog_19_method_13_code (4 : Nat) (Option.some Jvm.ClassFile.FieldType.int)) ∈ lw_all := lw_g (lw_at lw_m4 223 rfl) rfl
theorem q1033 : (Jvm.Cond.static ({ cls := "java/lang/Integer", name := "getChars", desc := "(II[B)I" } : Jvm.MethodName)) ∈ lw_all := lw_g (lw_at lw_m4 225 rfl) rfl
theorem q1034 : (Jvm.Cond.code ({ cls := "java/lang/Integer", name := "getChars", desc := "(II[B)I" } : Jvm.MethodName) prog_19_method_12_code (7 : Nat) (Option.some Jvm.ClassFile.FieldType.int)) ∈ lw_all := lw_g (lw_at lw_m4 226 rfl) rfl
theorem q1035 : (Jvm.Cond.fieldLink "java/lang/Integer" (83 : Nat) "java/lang/Integer" "DigitOnes" "[B") ∈ lw_all := lw_g (lw_at lw_m4 227 rfl) rfl
theorem q1036 : (Jvm.Cond.laysStatic "java/lang/Integer" "DigitOnes" "[B") ∈ lw_tbl := lw_at lw_m4 228 rfl
theorem q1037 : (Jvm.Cond.fieldLink "java/lang/Integer" (87 : Nat) "java/lang/Integer" "DigitTens" "[B") ∈ lw_all := lw_g (lw_at lw_m4 229 rfl) rfl
theorem q1038 : (Jvm.Cond.laysStatic "java/lang/Integer" "DigitTens" "[B") ∈ lw_tbl := lw_at lw_m4 230 rfl
theorem q2267 : (Jvm.Cond.castable "java/lang/Integer" "java/lang/Object") ∈ lw_tbl := lw_at lw_m10 19 rfl
theorem in_J10 : ∀ w ∈ wsJ100, w ∈ lw_all := lw_in wsJ100 [445] (by decide +kernel) (by decide +kernel)
/-! java/lang/RuntimeException -/
def RJ11 : String := "java/lang/RuntimeException"
abbrev cJ11_init : ByteArray := prog_24_method_2_code
def yJ11_init : MethodName := ⟨RJ11, "<init>", "(Ljava/lang/String;)V"⟩
abbrev cJ11_init_2 : ByteArray := prog_24_method_1_code
def yJ11_init_2 : MethodName := ⟨RJ11, "<init>", "()V"⟩
abbrev cJ11_init_3 : ByteArray := prog_24_method_3_code
def yJ11_init_3 : MethodName := ⟨RJ11, "<init>", "(Ljava/lang/String;Ljava/lang/Throwable;)V"⟩
theorem q106 : (Jvm.Cond.initialized "java/lang/RuntimeException") ∈ lw_all := lw_g (lw_at lw_m1 18 rfl) rfl
theorem q468 : (Jvm.Cond.declares ({ cls := "java/lang/RuntimeException", name := "<init>", desc := "()V" } : Jvm.MethodName)) ∈ lw_tbl := lw_at lw_m2 140 rfl
theorem q469 : (Jvm.Cond.declares ({ cls := "java/lang/RuntimeException", name := "<init>", desc := "(Ljava/lang/String;)V" } : Jvm.MethodName)) ∈ lw_tbl := lw_at lw_m2 141 rfl
theorem q481 : (Jvm.Cond.instanceMethod ({ cls := "java/lang/RuntimeException", name := "<init>", desc := "(Ljava/lang/String;)V" } : Jvm.MethodName)) ∈ lw_all := lw_g (lw_at lw_m2 153 rfl) rfl
theorem q482 : (Jvm.Cond.code ({ cls := "java/lang/RuntimeException", name := "<init>", desc := "(Ljava/lang/String;)V" } : Jvm.MethodName) prog_24_method_2_code (2 : Nat) (Option.none : Option Jvm.ClassFile.FieldType)) ∈ lw_all := lw_g (lw_at lw_m2 154 rfl) rfl
theorem q483 : (Jvm.Cond.methodLink "java/lang/RuntimeException" (7 : Nat) ({ cls := "java/lang/Exception", name := "<init>", desc := "(Ljava/lang/String;)V" } : Jvm.MethodName)) ∈ lw_all := lw_g (lw_at lw_m2 155 rfl) rfl
theorem q548 : (Jvm.Cond.instanceMethod ({ cls := "java/lang/RuntimeException", name := "<init>", desc := "()V" } : Jvm.MethodName)) ∈ lw_all := lw_g (lw_at lw_m2 220 rfl) rfl
theorem q549 : (Jvm.Cond.code ({ cls := "java/lang/RuntimeException", name := "<init>", desc := "()V" } : Jvm.MethodName) prog_24_method_1_code (1 : Nat) (Option.none : Option Jvm.ClassFile.FieldType)) ∈ lw_all := lw_g (lw_at lw_m2 221 rfl) rfl
theorem q550 : (Jvm.Cond.methodLink "java/lang/RuntimeException" (1 : Nat) ({ cls := "java/lang/Exception", name := "<init>", desc := "()V" } : Jvm.MethodName)) ∈ lw_all := lw_g (lw_at lw_m2 222 rfl) rfl
theorem q729 : (Jvm.Cond.instanceMethod ({ cls := "java/lang/RuntimeException", name := "<init>", desc := "(Ljava/lang/String;Ljava/lang/Throwable;)V" } : Jvm.MethodName)) ∈ lw_all := lw_g (lw_at lw_m3 161 rfl) rfl
theorem q730 : (Jvm.Cond.code ({ cls := "java/lang/RuntimeException", name := "<init>", desc := "(Ljava/lang/String;Ljava/lang/Throwable;)V" } : Jvm.MethodName) prog_24_method_3_code (3 : Nat) (Option.none : Option Jvm.ClassFile.FieldType)) ∈ lw_all := lw_g (lw_at lw_m3 162 rfl) rfl
theorem q731 : (Jvm.Cond.methodLink "java/lang/RuntimeException" (10 : Nat) ({ cls := "java/lang/Exception", name := "<init>", desc := "(Ljava/lang/String;Ljava/lang/Throwable;)V" } : Jvm.MethodName)) ∈ lw_all := lw_g (lw_at lw_m3 163 rfl) rfl
/-! java/lang/IllegalStateException -/
def RJ12 : String := "java/lang/IllegalStateException"
def TJ12 : u_T := fun k => match k with
  | 0 => ("java/lang/Throwable", "cause", "Ljava/lang/Throwable;", false)
  | 1 => ("java/lang/Throwable", "stackTrace", "[Ljava/lang/StackTraceElement;", false)
  | 2 => ("java/lang/Throwable", "suppressedExceptions", "Ljava/util/List;", false)
  | 3 => ("java/lang/Throwable", "detailMessage", "Ljava/lang/String;", false)
  | 4 => ("java/lang/Throwable", "backtrace", "Ljava/lang/Object;", false)
  | _ => ("java/lang/Throwable", "depth", "I", false)
def tyJ12 : Nat → FieldType := fun k => match k with
  | 0 => .object "java/lang/Throwable"
  | 1 => .array (.object "java/lang/StackTraceElement")
  | 2 => .object "java/util/List"
  | 3 => .object "java/lang/String"
  | 4 => .object "java/lang/Object"
  | _ => .int
abbrev wsJ120 : List Cond := u_ws RJ12 TJ12 6
theorem nmJ12 : ∀ a, a < 6 → ∀ b, b < 6 → a ≠ b → (TJ12 a).2.1 ≠ (TJ12 b).2.1 := by decide +kernel
theorem tyJ12_ok : ∀ k, k < 6 → parseFieldDescriptor (TJ12 k).2.2.1 = some (tyJ12 k) := by decide +kernel
abbrev cJ12_init : ByteArray := prog_18_method_2_code
def yJ12_init : MethodName := ⟨RJ12, "<init>", "(Ljava/lang/String;)V"⟩
abbrev cJ12_init_2 : ByteArray := prog_18_method_3_code
def yJ12_init_2 : MethodName := ⟨RJ12, "<init>", "(Ljava/lang/String;Ljava/lang/Throwable;)V"⟩
theorem q107 : (Jvm.Cond.initialized "java/lang/IllegalStateException") ∈ lw_all := lw_g (lw_at lw_m1 19 rfl) rfl
theorem q323 : (Jvm.Cond.selects "java/lang/IllegalStateException" ({ cls := "java/lang/Throwable", name := "fillInStackTrace", desc := "()Ljava/lang/Throwable;" } : Jvm.MethodName) ({ cls := "java/lang/Throwable", name := "fillInStackTrace", desc := "()Ljava/lang/Throwable;" } : Jvm.MethodName)) ∈ lw_all := lw_g (lw_at lw_m1 235 rfl) rfl
theorem q466 : (Jvm.Cond.instantiable "java/lang/IllegalStateException" (6 : Nat)) ∈ lw_all := lw_g (lw_at lw_m2 138 rfl) rfl
theorem q467 : (Jvm.Cond.castable "java/lang/IllegalStateException" "java/lang/IllegalStateException") ∈ lw_tbl := lw_at lw_m2 139 rfl
theorem q470 : (Jvm.Cond.selects "java/lang/IllegalStateException" ({ cls := "java/lang/Throwable", name := "fillInStackTrace", desc := "(I)Ljava/lang/Throwable;" } : Jvm.MethodName) ({ cls := "java/lang/Throwable", name := "fillInStackTrace", desc := "(I)Ljava/lang/Throwable;" } : Jvm.MethodName)) ∈ lw_all := lw_g (lw_at lw_m2 142 rfl) rfl
theorem q471 : (Jvm.Cond.lays "java/lang/IllegalStateException" "java/lang/Throwable" "cause" "Ljava/lang/Throwable;") ∈ lw_all := lw_g (lw_at lw_m2 143 rfl) rfl
theorem q472 : (Jvm.Cond.lays "java/lang/IllegalStateException" "java/lang/Throwable" "stackTrace" "[Ljava/lang/StackTraceElement;") ∈ lw_all := lw_g (lw_at lw_m2 144 rfl) rfl
theorem q473 : (Jvm.Cond.lays "java/lang/IllegalStateException" "java/lang/Throwable" "suppressedExceptions" "Ljava/util/List;") ∈ lw_all := lw_g (lw_at lw_m2 145 rfl) rfl
theorem q474 : (Jvm.Cond.lays "java/lang/IllegalStateException" "java/lang/Throwable" "detailMessage" "Ljava/lang/String;") ∈ lw_all := lw_g (lw_at lw_m2 146 rfl) rfl
theorem q475 : (Jvm.Cond.lays "java/lang/IllegalStateException" "java/lang/Throwable" "backtrace" "Ljava/lang/Object;") ∈ lw_all := lw_g (lw_at lw_m2 147 rfl) rfl
theorem q478 : (Jvm.Cond.instanceMethod ({ cls := "java/lang/IllegalStateException", name := "<init>", desc := "(Ljava/lang/String;)V" } : Jvm.MethodName)) ∈ lw_all := lw_g (lw_at lw_m2 150 rfl) rfl
theorem q479 : (Jvm.Cond.code ({ cls := "java/lang/IllegalStateException", name := "<init>", desc := "(Ljava/lang/String;)V" } : Jvm.MethodName) prog_18_method_2_code (2 : Nat) (Option.none : Option Jvm.ClassFile.FieldType)) ∈ lw_all := lw_g (lw_at lw_m2 151 rfl) rfl
theorem q480 : (Jvm.Cond.methodLink "java/lang/IllegalStateException" (7 : Nat) ({ cls := "java/lang/RuntimeException", name := "<init>", desc := "(Ljava/lang/String;)V" } : Jvm.MethodName)) ∈ lw_all := lw_g (lw_at lw_m2 152 rfl) rfl
theorem q484 : (Jvm.Cond.lays "java/lang/IllegalStateException" "java/lang/Throwable" "depth" "I") ∈ lw_all := lw_g (lw_at lw_m2 156 rfl) rfl
theorem q485 : (Jvm.Cond.superclass "java/lang/IllegalStateException" "java/lang/RuntimeException") ∈ lw_all := lw_g (lw_at lw_m2 157 rfl) rfl
theorem q501 : (Jvm.Cond.selects "java/lang/IllegalStateException" ({ cls := "java/lang/Object", name := "getClass", desc := "()Ljava/lang/Class;" } : Jvm.MethodName) ({ cls := "java/lang/Object", name := "getClass", desc := "()Ljava/lang/Class;" } : Jvm.MethodName)) ∈ lw_all := lw_g (lw_at lw_m2 173 rfl) rfl
theorem q737 : (Jvm.Cond.instanceMethod ({ cls := "java/lang/IllegalStateException", name := "<init>", desc := "(Ljava/lang/String;Ljava/lang/Throwable;)V" } : Jvm.MethodName)) ∈ lw_all := lw_g (lw_at lw_m3 169 rfl) rfl
theorem q738 : (Jvm.Cond.code ({ cls := "java/lang/IllegalStateException", name := "<init>", desc := "(Ljava/lang/String;Ljava/lang/Throwable;)V" } : Jvm.MethodName) prog_18_method_3_code (3 : Nat) (Option.none : Option Jvm.ClassFile.FieldType)) ∈ lw_all := lw_g (lw_at lw_m3 170 rfl) rfl
theorem q739 : (Jvm.Cond.methodLink "java/lang/IllegalStateException" (10 : Nat) ({ cls := "java/lang/RuntimeException", name := "<init>", desc := "(Ljava/lang/String;Ljava/lang/Throwable;)V" } : Jvm.MethodName)) ∈ lw_all := lw_g (lw_at lw_m3 171 rfl) rfl
theorem q1200 : (Jvm.Cond.selects "java/lang/IllegalStateException" ({ cls := "java/lang/Throwable", name := "getCause", desc := "()Ljava/lang/Throwable;" } : Jvm.MethodName) ({ cls := "java/lang/Throwable", name := "getCause", desc := "()Ljava/lang/Throwable;" } : Jvm.MethodName)) ∈ lw_all := lw_g (lw_at lw_m5 152 rfl) rfl
theorem q2268 : (Jvm.Cond.castable "java/lang/IllegalStateException" "java/lang/Object") ∈ lw_tbl := lw_at lw_m10 20 rfl
theorem in_J12 : ∀ w ∈ wsJ120, w ∈ lw_all := lw_in wsJ120 [471, 472, 473, 474, 475, 484] (by decide +kernel) (by decide +kernel)
/-! java/util/Arrays -/
def RJ13 : String := "java/util/Arrays"
abbrev cJ13_copyOf : ByteArray := prog_35_method_119_code
def yJ13_copyOf : MethodName := ⟨RJ13, "copyOf", "([Ljava/lang/Object;I)[Ljava/lang/Object;"⟩
abbrev cJ13_copyOf_2 : ByteArray := prog_35_method_120_code
def yJ13_copyOf_2 : MethodName := ⟨RJ13, "copyOf", "([Ljava/lang/Object;ILjava/lang/Class;)[Ljava/lang/Object;"⟩
abbrev cJ13_copyOf_3 : ByteArray := prog_35_method_121_code
def yJ13_copyOf_3 : MethodName := ⟨RJ13, "copyOf", "([BI)[B"⟩
abbrev cJ13_fill : ByteArray := prog_35_method_110_code
def yJ13_fill : MethodName := ⟨RJ13, "fill", "([BIIB)V"⟩
abbrev cJ13_rangeCheck : ByteArray := prog_35_method_30_code
def yJ13_rangeCheck : MethodName := ⟨RJ13, "rangeCheck", "(III)V"⟩
abbrev cJ13_copyOfRange : ByteArray := prog_35_method_132_code
def yJ13_copyOfRange : MethodName := ⟨RJ13, "copyOfRange", "([BII)[B"⟩
abbrev cJ13_copyOfRangeByte : ByteArray := prog_35_method_133_code
def yJ13_copyOfRangeByte : MethodName := ⟨RJ13, "copyOfRangeByte", "([BII)[B"⟩
abbrev cJ13_checkLength : ByteArray := prog_35_method_131_code
def yJ13_checkLength : MethodName := ⟨RJ13, "checkLength", "(II)V"⟩
theorem q108 : (Jvm.Cond.initialized "java/util/Arrays") ∈ lw_all := lw_g (lw_at lw_m1 20 rfl) rfl
theorem q488 : (Jvm.Cond.static ({ cls := "java/util/Arrays", name := "copyOf", desc := "([Ljava/lang/Object;I)[Ljava/lang/Object;" } : Jvm.MethodName)) ∈ lw_all := lw_g (lw_at lw_m2 160 rfl) rfl
theorem q489 : (Jvm.Cond.code ({ cls := "java/util/Arrays", name := "copyOf", desc := "([Ljava/lang/Object;I)[Ljava/lang/Object;" } : Jvm.MethodName) prog_35_method_119_code (2 : Nat) (Option.some (Jvm.ClassFile.FieldType.array (Jvm.ClassFile.FieldType.object "java/lang/Object")))) ∈ lw_all := lw_g (lw_at lw_m2 161 rfl) rfl
theorem q490 : (Jvm.Cond.methodLink "java/util/Arrays" (86 : Nat) ({ cls := "java/lang/Object", name := "getClass", desc := "()Ljava/lang/Class;" } : Jvm.MethodName)) ∈ lw_all := lw_g (lw_at lw_m2 162 rfl) rfl
theorem q508 : (Jvm.Cond.methodLink "java/util/Arrays" (300 : Nat) ({ cls := "java/util/Arrays", name := "copyOf", desc := "([Ljava/lang/Object;ILjava/lang/Class;)[Ljava/lang/Object;" } : Jvm.MethodName)) ∈ lw_all := lw_g (lw_at lw_m2 180 rfl) rfl
theorem q509 : (Jvm.Cond.static ({ cls := "java/util/Arrays", name := "copyOf", desc := "([Ljava/lang/Object;ILjava/lang/Class;)[Ljava/lang/Object;" } : Jvm.MethodName)) ∈ lw_all := lw_g (lw_at lw_m2 181 rfl) rfl
theorem q510 : (Jvm.Cond.code ({ cls := "java/util/Arrays", name := "copyOf", desc := "([Ljava/lang/Object;ILjava/lang/Class;)[Ljava/lang/Object;" } : Jvm.MethodName) prog_35_method_120_code (4 : Nat) (Option.some (Jvm.ClassFile.FieldType.array (Jvm.ClassFile.FieldType.object "java/lang/Object")))) ∈ lw_all := lw_g (lw_at lw_m2 182 rfl) rfl
theorem q511 : (Jvm.Cond.classLink "java/util/Arrays" (110 : Nat) "[Ljava/lang/Object;") ∈ lw_all := lw_g (lw_at lw_m2 183 rfl) rfl
theorem q512 : (Jvm.Cond.classLink "java/util/Arrays" (2 : Nat) "java/lang/Object") ∈ lw_all := lw_g (lw_at lw_m2 184 rfl) rfl
theorem q513 : (Jvm.Cond.methodLink "java/util/Arrays" (304 : Nat) ({ cls := "java/lang/Math", name := "min", desc := "(II)I" } : Jvm.MethodName)) ∈ lw_all := lw_g (lw_at lw_m2 185 rfl) rfl
theorem q516 : (Jvm.Cond.methodLink "java/util/Arrays" (150 : Nat) ({ cls := "java/lang/System", name := "arraycopy", desc := "(Ljava/lang/Object;ILjava/lang/Object;II)V" } : Jvm.MethodName)) ∈ lw_all := lw_g (lw_at lw_m2 188 rfl) rfl
theorem q917 : (Jvm.Cond.static ({ cls := "java/util/Arrays", name := "copyOf", desc := "([BI)[B" } : Jvm.MethodName)) ∈ lw_all := lw_g (lw_at lw_m4 109 rfl) rfl
theorem q918 : (Jvm.Cond.code ({ cls := "java/util/Arrays", name := "copyOf", desc := "([BI)[B" } : Jvm.MethodName) prog_35_method_121_code (3 : Nat) (Option.some (Jvm.ClassFile.FieldType.array Jvm.ClassFile.FieldType.byte))) ∈ lw_all := lw_g (lw_at lw_m4 110 rfl) rfl
theorem q919 : (Jvm.Cond.methodLink "java/util/Arrays" (310 : Nat) ({ cls := "[B", name := "clone", desc := "()Ljava/lang/Object;" } : Jvm.MethodName)) ∈ lw_all := lw_g (lw_at lw_m4 111 rfl) rfl
theorem q923 : (Jvm.Cond.classLink "java/util/Arrays" (311 : Nat) "[B") ∈ lw_all := lw_g (lw_at lw_m4 115 rfl) rfl
theorem q933 : (Jvm.Cond.static ({ cls := "java/util/Arrays", name := "fill", desc := "([BIIB)V" } : Jvm.MethodName)) ∈ lw_all := lw_g (lw_at lw_m4 125 rfl) rfl
theorem q934 : (Jvm.Cond.code ({ cls := "java/util/Arrays", name := "fill", desc := "([BIIB)V" } : Jvm.MethodName) prog_35_method_110_code (5 : Nat) (Option.none : Option Jvm.ClassFile.FieldType)) ∈ lw_all := lw_g (lw_at lw_m4 126 rfl) rfl
theorem q935 : (Jvm.Cond.methodLink "java/util/Arrays" (13 : Nat) ({ cls := "java/util/Arrays", name := "rangeCheck", desc := "(III)V" } : Jvm.MethodName)) ∈ lw_all := lw_g (lw_at lw_m4 127 rfl) rfl
theorem q936 : (Jvm.Cond.static ({ cls := "java/util/Arrays", name := "rangeCheck", desc := "(III)V" } : Jvm.MethodName)) ∈ lw_all := lw_g (lw_at lw_m4 128 rfl) rfl
theorem q937 : (Jvm.Cond.code ({ cls := "java/util/Arrays", name := "rangeCheck", desc := "(III)V" } : Jvm.MethodName) prog_35_method_30_code (3 : Nat) (Option.none : Option Jvm.ClassFile.FieldType)) ∈ lw_all := lw_g (lw_at lw_m4 129 rfl) rfl
theorem q938 : (Jvm.Cond.classLink "java/util/Arrays" (43 : Nat) "java/lang/IllegalArgumentException") ∈ lw_all := lw_g (lw_at lw_m4 130 rfl) rfl
theorem q939 : (Jvm.Cond.classLink "java/util/Arrays" (45 : Nat) "java/lang/StringBuilder") ∈ lw_all := lw_g (lw_at lw_m4 131 rfl) rfl
theorem q940 : (Jvm.Cond.methodLink "java/util/Arrays" (47 : Nat) ({ cls := "java/lang/StringBuilder", name := "<init>", desc := "()V" } : Jvm.MethodName)) ∈ lw_all := lw_g (lw_at lw_m4 132 rfl) rfl
theorem q941 : (Jvm.Cond.stringRef "java/util/Arrays" (48 : Nat) "fromIndex(") ∈ lw_tbl := lw_at lw_m4 133 rfl
theorem q942 : (Jvm.Cond.methodLink "java/util/Arrays" (50 : Nat) ({ cls := "java/lang/StringBuilder", name := "append", desc := "(Ljava/lang/String;)Ljava/lang/StringBuilder;" } : Jvm.MethodName)) ∈ lw_all := lw_g (lw_at lw_m4 134 rfl) rfl
theorem q1022 : (Jvm.Cond.methodLink "java/util/Arrays" (54 : Nat) ({ cls := "java/lang/StringBuilder", name := "append", desc := "(I)Ljava/lang/StringBuilder;" } : Jvm.MethodName)) ∈ lw_all := lw_g (lw_at lw_m4 214 rfl) rfl
theorem q1047 : (Jvm.Cond.stringRef "java/util/Arrays" (57 : Nat) ") > toIndex(") ∈ lw_tbl := lw_at lw_m4 239 rfl
theorem q1048 : (Jvm.Cond.stringRef "java/util/Arrays" (59 : Nat) ")") ∈ lw_tbl := lw_at lw_m5 0 rfl
theorem q1049 : (Jvm.Cond.methodLink "java/util/Arrays" (61 : Nat) ({ cls := "java/lang/StringBuilder", name := "toString", desc := "()Ljava/lang/String;" } : Jvm.MethodName)) ∈ lw_all := lw_g (lw_at lw_m5 1 rfl) rfl
theorem q1070 : (Jvm.Cond.static ({ cls := "java/util/Arrays", name := "copyOfRange", desc := "([BII)[B" } : Jvm.MethodName)) ∈ lw_all := lw_g (lw_at lw_m5 22 rfl) rfl
theorem q1071 : (Jvm.Cond.code ({ cls := "java/util/Arrays", name := "copyOfRange", desc := "([BII)[B" } : Jvm.MethodName) prog_35_method_132_code (3 : Nat) (Option.some (Jvm.ClassFile.FieldType.array Jvm.ClassFile.FieldType.byte))) ∈ lw_all := lw_g (lw_at lw_m5 23 rfl) rfl
theorem q1072 : (Jvm.Cond.methodLink "java/util/Arrays" (339 : Nat) ({ cls := "java/util/Arrays", name := "copyOfRangeByte", desc := "([BII)[B" } : Jvm.MethodName)) ∈ lw_all := lw_g (lw_at lw_m5 24 rfl) rfl
theorem q1073 : (Jvm.Cond.static ({ cls := "java/util/Arrays", name := "copyOfRangeByte", desc := "([BII)[B" } : Jvm.MethodName)) ∈ lw_all := lw_g (lw_at lw_m5 25 rfl) rfl
theorem q1074 : (Jvm.Cond.code ({ cls := "java/util/Arrays", name := "copyOfRangeByte", desc := "([BII)[B" } : Jvm.MethodName) prog_35_method_133_code (5 : Nat) (Option.some (Jvm.ClassFile.FieldType.array Jvm.ClassFile.FieldType.byte))) ∈ lw_all := lw_g (lw_at lw_m5 26 rfl) rfl
theorem q1075 : (Jvm.Cond.methodLink "java/util/Arrays" (343 : Nat) ({ cls := "java/util/Arrays", name := "checkLength", desc := "(II)V" } : Jvm.MethodName)) ∈ lw_all := lw_g (lw_at lw_m5 27 rfl) rfl
theorem q1076 : (Jvm.Cond.static ({ cls := "java/util/Arrays", name := "checkLength", desc := "(II)V" } : Jvm.MethodName)) ∈ lw_all := lw_g (lw_at lw_m5 28 rfl) rfl
theorem q1077 : (Jvm.Cond.code ({ cls := "java/util/Arrays", name := "checkLength", desc := "(II)V" } : Jvm.MethodName) prog_35_method_131_code (2 : Nat) (Option.none : Option Jvm.ClassFile.FieldType)) ∈ lw_all := lw_g (lw_at lw_m5 29 rfl) rfl
theorem q1078 : (Jvm.Cond.stringRef "java/util/Arrays" (337 : Nat) " > ") ∈ lw_tbl := lw_at lw_m5 30 rfl
theorem q1079 : (Jvm.Cond.methodLink "java/util/Arrays" (65 : Nat) ({ cls := "java/lang/IllegalArgumentException", name := "<init>", desc := "(Ljava/lang/String;)V" } : Jvm.MethodName)) ∈ lw_all := lw_g (lw_at lw_m5 31 rfl) rfl
/-! java/util/NoSuchElementException -/
def RJ14 : String := "java/util/NoSuchElementException"
def TJ14 : u_T := fun k => match k with
  | 0 => ("java/lang/Throwable", "cause", "Ljava/lang/Throwable;", false)
  | 1 => ("java/lang/Throwable", "stackTrace", "[Ljava/lang/StackTraceElement;", false)
  | 2 => ("java/lang/Throwable", "suppressedExceptions", "Ljava/util/List;", false)
  | 3 => ("java/lang/Throwable", "detailMessage", "Ljava/lang/String;", false)
  | 4 => ("java/lang/Throwable", "backtrace", "Ljava/lang/Object;", false)
  | _ => ("java/lang/Throwable", "depth", "I", false)
def tyJ14 : Nat → FieldType := fun k => match k with
  | 0 => .object "java/lang/Throwable"
  | 1 => .array (.object "java/lang/StackTraceElement")
  | 2 => .object "java/util/List"
  | 3 => .object "java/lang/String"
  | 4 => .object "java/lang/Object"
  | _ => .int
abbrev wsJ140 : List Cond := u_ws RJ14 TJ14 6
theorem nmJ14 : ∀ a, a < 6 → ∀ b, b < 6 → a ≠ b → (TJ14 a).2.1 ≠ (TJ14 b).2.1 := by decide +kernel
theorem tyJ14_ok : ∀ k, k < 6 → parseFieldDescriptor (TJ14 k).2.2.1 = some (tyJ14 k) := by decide +kernel
abbrev cJ14_init : ByteArray := prog_38_method_1_code
def yJ14_init : MethodName := ⟨RJ14, "<init>", "()V"⟩
abbrev cJ14_init_2 : ByteArray := prog_38_method_4_code
def yJ14_init_2 : MethodName := ⟨RJ14, "<init>", "(Ljava/lang/String;)V"⟩
theorem q110 : (Jvm.Cond.initialized "java/util/NoSuchElementException") ∈ lw_all := lw_g (lw_at lw_m1 22 rfl) rfl
theorem q324 : (Jvm.Cond.selects "java/util/NoSuchElementException" ({ cls := "java/lang/Throwable", name := "fillInStackTrace", desc := "()Ljava/lang/Throwable;" } : Jvm.MethodName) ({ cls := "java/lang/Throwable", name := "fillInStackTrace", desc := "()Ljava/lang/Throwable;" } : Jvm.MethodName)) ∈ lw_all := lw_g (lw_at lw_m1 236 rfl) rfl
theorem q506 : (Jvm.Cond.selects "java/util/NoSuchElementException" ({ cls := "java/lang/Object", name := "getClass", desc := "()Ljava/lang/Class;" } : Jvm.MethodName) ({ cls := "java/lang/Object", name := "getClass", desc := "()Ljava/lang/Class;" } : Jvm.MethodName)) ∈ lw_all := lw_g (lw_at lw_m2 178 rfl) rfl
theorem q536 : (Jvm.Cond.instantiable "java/util/NoSuchElementException" (6 : Nat)) ∈ lw_all := lw_g (lw_at lw_m2 208 rfl) rfl
theorem q537 : (Jvm.Cond.castable "java/util/NoSuchElementException" "java/util/NoSuchElementException") ∈ lw_tbl := lw_at lw_m2 209 rfl
theorem q538 : (Jvm.Cond.selects "java/util/NoSuchElementException" ({ cls := "java/lang/Throwable", name := "fillInStackTrace", desc := "(I)Ljava/lang/Throwable;" } : Jvm.MethodName) ({ cls := "java/lang/Throwable", name := "fillInStackTrace", desc := "(I)Ljava/lang/Throwable;" } : Jvm.MethodName)) ∈ lw_all := lw_g (lw_at lw_m2 210 rfl) rfl
theorem q539 : (Jvm.Cond.lays "java/util/NoSuchElementException" "java/lang/Throwable" "cause" "Ljava/lang/Throwable;") ∈ lw_all := lw_g (lw_at lw_m2 211 rfl) rfl
theorem q540 : (Jvm.Cond.lays "java/util/NoSuchElementException" "java/lang/Throwable" "stackTrace" "[Ljava/lang/StackTraceElement;") ∈ lw_all := lw_g (lw_at lw_m2 212 rfl) rfl
theorem q541 : (Jvm.Cond.lays "java/util/NoSuchElementException" "java/lang/Throwable" "suppressedExceptions" "Ljava/util/List;") ∈ lw_all := lw_g (lw_at lw_m2 213 rfl) rfl
theorem q542 : (Jvm.Cond.lays "java/util/NoSuchElementException" "java/lang/Throwable" "detailMessage" "Ljava/lang/String;") ∈ lw_all := lw_g (lw_at lw_m2 214 rfl) rfl
theorem q543 : (Jvm.Cond.lays "java/util/NoSuchElementException" "java/lang/Throwable" "backtrace" "Ljava/lang/Object;") ∈ lw_all := lw_g (lw_at lw_m2 215 rfl) rfl
theorem q545 : (Jvm.Cond.instanceMethod ({ cls := "java/util/NoSuchElementException", name := "<init>", desc := "()V" } : Jvm.MethodName)) ∈ lw_all := lw_g (lw_at lw_m2 217 rfl) rfl
theorem q546 : (Jvm.Cond.code ({ cls := "java/util/NoSuchElementException", name := "<init>", desc := "()V" } : Jvm.MethodName) prog_38_method_1_code (1 : Nat) (Option.none : Option Jvm.ClassFile.FieldType)) ∈ lw_all := lw_g (lw_at lw_m2 218 rfl) rfl
theorem q547 : (Jvm.Cond.methodLink "java/util/NoSuchElementException" (1 : Nat) ({ cls := "java/lang/RuntimeException", name := "<init>", desc := "()V" } : Jvm.MethodName)) ∈ lw_all := lw_g (lw_at lw_m2 219 rfl) rfl
theorem q554 : (Jvm.Cond.lays "java/util/NoSuchElementException" "java/lang/Throwable" "depth" "I") ∈ lw_all := lw_g (lw_at lw_m2 226 rfl) rfl
theorem q555 : (Jvm.Cond.superclass "java/util/NoSuchElementException" "java/lang/RuntimeException") ∈ lw_all := lw_g (lw_at lw_m2 227 rfl) rfl
theorem q1201 : (Jvm.Cond.selects "java/util/NoSuchElementException" ({ cls := "java/lang/Throwable", name := "getCause", desc := "()Ljava/lang/Throwable;" } : Jvm.MethodName) ({ cls := "java/lang/Throwable", name := "getCause", desc := "()Ljava/lang/Throwable;" } : Jvm.MethodName)) ∈ lw_all := lw_g (lw_at lw_m5 153 rfl) rfl
theorem q1289 : (Jvm.Cond.instanceMethod ({ cls := "java/util/NoSuchElementException", name := "<init>", desc := "(Ljava/lang/String;)V" } : Jvm.MethodName)) ∈ lw_all := lw_g (lw_at lw_m6 1 rfl) rfl
theorem q1290 : (Jvm.Cond.code ({ cls := "java/util/NoSuchElementException", name := "<init>", desc := "(Ljava/lang/String;)V" } : Jvm.MethodName) prog_38_method_4_code (2 : Nat) (Option.none : Option Jvm.ClassFile.FieldType)) ∈ lw_all := lw_g (lw_at lw_m6 2 rfl) rfl
theorem q1291 : (Jvm.Cond.methodLink "java/util/NoSuchElementException" (13 : Nat) ({ cls := "java/lang/RuntimeException", name := "<init>", desc := "(Ljava/lang/String;)V" } : Jvm.MethodName)) ∈ lw_all := lw_g (lw_at lw_m6 3 rfl) rfl
theorem q2269 : (Jvm.Cond.castable "java/util/NoSuchElementException" "java/lang/Object") ∈ lw_tbl := lw_at lw_m10 21 rfl
theorem in_J14 : ∀ w ∈ wsJ140, w ∈ lw_all := lw_in wsJ140 [539, 540, 541, 542, 543, 554] (by decide +kernel) (by decide +kernel)
/-! java/lang/IllegalArgumentException -/
def RJ15 : String := "java/lang/IllegalArgumentException"
def TJ15 : u_T := fun k => match k with
  | 0 => ("java/lang/Throwable", "cause", "Ljava/lang/Throwable;", false)
  | 1 => ("java/lang/Throwable", "stackTrace", "[Ljava/lang/StackTraceElement;", false)
  | 2 => ("java/lang/Throwable", "suppressedExceptions", "Ljava/util/List;", false)
  | 3 => ("java/lang/Throwable", "detailMessage", "Ljava/lang/String;", false)
  | 4 => ("java/lang/Throwable", "backtrace", "Ljava/lang/Object;", false)
  | _ => ("java/lang/Throwable", "depth", "I", false)
def tyJ15 : Nat → FieldType := fun k => match k with
  | 0 => .object "java/lang/Throwable"
  | 1 => .array (.object "java/lang/StackTraceElement")
  | 2 => .object "java/util/List"
  | 3 => .object "java/lang/String"
  | 4 => .object "java/lang/Object"
  | _ => .int
abbrev wsJ150 : List Cond := u_ws RJ15 TJ15 6
theorem nmJ15 : ∀ a, a < 6 → ∀ b, b < 6 → a ≠ b → (TJ15 a).2.1 ≠ (TJ15 b).2.1 := by decide +kernel
theorem tyJ15_ok : ∀ k, k < 6 → parseFieldDescriptor (TJ15 k).2.2.1 = some (tyJ15 k) := by decide +kernel
abbrev cJ15_init : ByteArray := prog_17_method_3_code
def yJ15_init : MethodName := ⟨RJ15, "<init>", "(Ljava/lang/String;Ljava/lang/Throwable;)V"⟩
abbrev cJ15_init_2 : ByteArray := prog_17_method_2_code
def yJ15_init_2 : MethodName := ⟨RJ15, "<init>", "(Ljava/lang/String;)V"⟩
theorem q112 : (Jvm.Cond.initialized "java/lang/IllegalArgumentException") ∈ lw_all := lw_g (lw_at lw_m1 24 rfl) rfl
theorem q322 : (Jvm.Cond.selects "java/lang/IllegalArgumentException" ({ cls := "java/lang/Throwable", name := "fillInStackTrace", desc := "()Ljava/lang/Throwable;" } : Jvm.MethodName) ({ cls := "java/lang/Throwable", name := "fillInStackTrace", desc := "()Ljava/lang/Throwable;" } : Jvm.MethodName)) ∈ lw_all := lw_g (lw_at lw_m1 234 rfl) rfl
theorem q500 : (Jvm.Cond.selects "java/lang/IllegalArgumentException" ({ cls := "java/lang/Object", name := "getClass", desc := "()Ljava/lang/Class;" } : Jvm.MethodName) ({ cls := "java/lang/Object", name := "getClass", desc := "()Ljava/lang/Class;" } : Jvm.MethodName)) ∈ lw_all := lw_g (lw_at lw_m2 172 rfl) rfl
theorem q716 : (Jvm.Cond.instantiable "java/lang/IllegalArgumentException" (6 : Nat)) ∈ lw_all := lw_g (lw_at lw_m3 148 rfl) rfl
theorem q717 : (Jvm.Cond.castable "java/lang/IllegalArgumentException" "java/lang/IllegalArgumentException") ∈ lw_tbl := lw_at lw_m3 149 rfl
theorem q718 : (Jvm.Cond.selects "java/lang/IllegalArgumentException" ({ cls := "java/lang/Throwable", name := "fillInStackTrace", desc := "(I)Ljava/lang/Throwable;" } : Jvm.MethodName) ({ cls := "java/lang/Throwable", name := "fillInStackTrace", desc := "(I)Ljava/lang/Throwable;" } : Jvm.MethodName)) ∈ lw_all := lw_g (lw_at lw_m3 150 rfl) rfl
theorem q719 : (Jvm.Cond.lays "java/lang/IllegalArgumentException" "java/lang/Throwable" "cause" "Ljava/lang/Throwable;") ∈ lw_all := lw_g (lw_at lw_m3 151 rfl) rfl
theorem q720 : (Jvm.Cond.lays "java/lang/IllegalArgumentException" "java/lang/Throwable" "stackTrace" "[Ljava/lang/StackTraceElement;") ∈ lw_all := lw_g (lw_at lw_m3 152 rfl) rfl
theorem q721 : (Jvm.Cond.lays "java/lang/IllegalArgumentException" "java/lang/Throwable" "suppressedExceptions" "Ljava/util/List;") ∈ lw_all := lw_g (lw_at lw_m3 153 rfl) rfl
theorem q722 : (Jvm.Cond.lays "java/lang/IllegalArgumentException" "java/lang/Throwable" "detailMessage" "Ljava/lang/String;") ∈ lw_all := lw_g (lw_at lw_m3 154 rfl) rfl
theorem q723 : (Jvm.Cond.lays "java/lang/IllegalArgumentException" "java/lang/Throwable" "backtrace" "Ljava/lang/Object;") ∈ lw_all := lw_g (lw_at lw_m3 155 rfl) rfl
theorem q726 : (Jvm.Cond.instanceMethod ({ cls := "java/lang/IllegalArgumentException", name := "<init>", desc := "(Ljava/lang/String;Ljava/lang/Throwable;)V" } : Jvm.MethodName)) ∈ lw_all := lw_g (lw_at lw_m3 158 rfl) rfl
theorem q727 : (Jvm.Cond.code ({ cls := "java/lang/IllegalArgumentException", name := "<init>", desc := "(Ljava/lang/String;Ljava/lang/Throwable;)V" } : Jvm.MethodName) prog_17_method_3_code (3 : Nat) (Option.none : Option Jvm.ClassFile.FieldType)) ∈ lw_all := lw_g (lw_at lw_m3 159 rfl) rfl
theorem q728 : (Jvm.Cond.methodLink "java/lang/IllegalArgumentException" (10 : Nat) ({ cls := "java/lang/RuntimeException", name := "<init>", desc := "(Ljava/lang/String;Ljava/lang/Throwable;)V" } : Jvm.MethodName)) ∈ lw_all := lw_g (lw_at lw_m3 160 rfl) rfl
theorem q732 : (Jvm.Cond.lays "java/lang/IllegalArgumentException" "java/lang/Throwable" "depth" "I") ∈ lw_all := lw_g (lw_at lw_m3 164 rfl) rfl
theorem q733 : (Jvm.Cond.superclass "java/lang/IllegalArgumentException" "java/lang/RuntimeException") ∈ lw_all := lw_g (lw_at lw_m3 165 rfl) rfl
theorem q1080 : (Jvm.Cond.instanceMethod ({ cls := "java/lang/IllegalArgumentException", name := "<init>", desc := "(Ljava/lang/String;)V" } : Jvm.MethodName)) ∈ lw_all := lw_g (lw_at lw_m5 32 rfl) rfl
theorem q1081 : (Jvm.Cond.code ({ cls := "java/lang/IllegalArgumentException", name := "<init>", desc := "(Ljava/lang/String;)V" } : Jvm.MethodName) prog_17_method_2_code (2 : Nat) (Option.none : Option Jvm.ClassFile.FieldType)) ∈ lw_all := lw_g (lw_at lw_m5 33 rfl) rfl
theorem q1082 : (Jvm.Cond.methodLink "java/lang/IllegalArgumentException" (7 : Nat) ({ cls := "java/lang/RuntimeException", name := "<init>", desc := "(Ljava/lang/String;)V" } : Jvm.MethodName)) ∈ lw_all := lw_g (lw_at lw_m5 34 rfl) rfl
theorem q1199 : (Jvm.Cond.selects "java/lang/IllegalArgumentException" ({ cls := "java/lang/Throwable", name := "getCause", desc := "()Ljava/lang/Throwable;" } : Jvm.MethodName) ({ cls := "java/lang/Throwable", name := "getCause", desc := "()Ljava/lang/Throwable;" } : Jvm.MethodName)) ∈ lw_all := lw_g (lw_at lw_m5 151 rfl) rfl
theorem q2271 : (Jvm.Cond.castable "java/lang/IllegalArgumentException" "java/lang/Object") ∈ lw_tbl := lw_at lw_m10 23 rfl
theorem in_J15 : ∀ w ∈ wsJ150, w ∈ lw_all := lw_in wsJ150 [719, 720, 721, 722, 723, 732] (by decide +kernel) (by decide +kernel)
/-! jdk/internal/util/ArraysSupport -/
def RJ16 : String := "jdk/internal/util/ArraysSupport"
abbrev cJ16_newLength : ByteArray := prog_41_method_27_code
def yJ16_newLength : MethodName := ⟨RJ16, "newLength", "(III)I"⟩
abbrev cJ16_hugeLength : ByteArray := prog_41_method_28_code
def yJ16_hugeLength : MethodName := ⟨RJ16, "hugeLength", "(II)I"⟩
theorem q113 : (Jvm.Cond.initialized "jdk/internal/util/ArraysSupport") ∈ lw_all := lw_g (lw_at lw_m1 25 rfl) rfl
theorem q908 : (Jvm.Cond.static ({ cls := "jdk/internal/util/ArraysSupport", name := "newLength", desc := "(III)I" } : Jvm.MethodName)) ∈ lw_all := lw_g (lw_at lw_m4 100 rfl) rfl
theorem q909 : (Jvm.Cond.code ({ cls := "jdk/internal/util/ArraysSupport", name := "newLength", desc := "(III)I" } : Jvm.MethodName) prog_41_method_27_code (4 : Nat) (Option.some Jvm.ClassFile.FieldType.int)) ∈ lw_all := lw_g (lw_at lw_m4 101 rfl) rfl
theorem q910 : (Jvm.Cond.methodLink "jdk/internal/util/ArraysSupport" (194 : Nat) ({ cls := "java/lang/Math", name := "max", desc := "(II)I" } : Jvm.MethodName)) ∈ lw_all := lw_g (lw_at lw_m4 102 rfl) rfl
theorem q911 : (Jvm.Cond.constant "jdk/internal/util/ArraysSupport" (200 : Nat) (2147483639 : Int32)) ∈ lw_all := lw_g (lw_at lw_m4 103 rfl) rfl
theorem q912 : (Jvm.Cond.methodLink "jdk/internal/util/ArraysSupport" (201 : Nat) ({ cls := "jdk/internal/util/ArraysSupport", name := "hugeLength", desc := "(II)I" } : Jvm.MethodName)) ∈ lw_all := lw_g (lw_at lw_m4 104 rfl) rfl
theorem q913 : (Jvm.Cond.static ({ cls := "jdk/internal/util/ArraysSupport", name := "hugeLength", desc := "(II)I" } : Jvm.MethodName)) ∈ lw_all := lw_g (lw_at lw_m4 105 rfl) rfl
theorem q914 : (Jvm.Cond.code ({ cls := "jdk/internal/util/ArraysSupport", name := "hugeLength", desc := "(II)I" } : Jvm.MethodName) prog_41_method_28_code (3 : Nat) (Option.some Jvm.ClassFile.FieldType.int)) ∈ lw_all := lw_g (lw_at lw_m4 106 rfl) rfl
/-! java/lang/StringLatin1 -/
def RJ17 : String := "java/lang/StringLatin1"
abbrev cJ17_fillNull : ByteArray := prog_27_method_48_code
def yJ17_fillNull : MethodName := ⟨RJ17, "fillNull", "([BII)V"⟩
abbrev cJ17_inflate : ByteArray := prog_27_method_50_code
def yJ17_inflate : MethodName := ⟨RJ17, "inflate", "([BI[BII)V"⟩
abbrev cJ17_canEncode : ByteArray := prog_27_method_3_code
def yJ17_canEncode : MethodName := ⟨RJ17, "canEncode", "(C)Z"⟩
abbrev cJ17_indexOf : ByteArray := prog_27_method_22_code
def yJ17_indexOf : MethodName := ⟨RJ17, "indexOf", "([BIII)I"⟩
abbrev cJ17_canEncode_2 : ByteArray := prog_27_method_4_code
def yJ17_canEncode_2 : MethodName := ⟨RJ17, "canEncode", "(I)Z"⟩
abbrev cJ17_indexOfChar : ByteArray := prog_27_method_23_code
def yJ17_indexOfChar : MethodName := ⟨RJ17, "indexOfChar", "([BIII)I"⟩
theorem q114 : (Jvm.Cond.initialized "java/lang/StringLatin1") ∈ lw_all := lw_g (lw_at lw_m1 26 rfl) rfl
theorem q930 : (Jvm.Cond.static ({ cls := "java/lang/StringLatin1", name := "fillNull", desc := "([BII)V" } : Jvm.MethodName)) ∈ lw_all := lw_g (lw_at lw_m4 122 rfl) rfl
theorem q931 : (Jvm.Cond.code ({ cls := "java/lang/StringLatin1", name := "fillNull", desc := "([BII)V" } : Jvm.MethodName) prog_27_method_48_code (3 : Nat) (Option.none : Option Jvm.ClassFile.FieldType)) ∈ lw_all := lw_g (lw_at lw_m4 123 rfl) rfl
theorem q932 : (Jvm.Cond.methodLink "java/lang/StringLatin1" (236 : Nat) ({ cls := "java/util/Arrays", name := "fill", desc := "([BIIB)V" } : Jvm.MethodName)) ∈ lw_all := lw_g (lw_at lw_m4 124 rfl) rfl
theorem q1002 : (Jvm.Cond.static ({ cls := "java/lang/StringLatin1", name := "inflate", desc := "([BI[BII)V" } : Jvm.MethodName)) ∈ lw_all := lw_g (lw_at lw_m4 194 rfl) rfl
theorem q1003 : (Jvm.Cond.code ({ cls := "java/lang/StringLatin1", name := "inflate", desc := "([BI[BII)V" } : Jvm.MethodName) prog_27_method_50_code (5 : Nat) (Option.none : Option Jvm.ClassFile.FieldType)) ∈ lw_all := lw_g (lw_at lw_m4 195 rfl) rfl
theorem q1004 : (Jvm.Cond.methodLink "java/lang/StringLatin1" (240 : Nat) ({ cls := "java/lang/StringUTF16", name := "inflate", desc := "([BI[BII)V" } : Jvm.MethodName)) ∈ lw_all := lw_g (lw_at lw_m4 196 rfl) rfl
theorem q1474 : (Jvm.Cond.static ({ cls := "java/lang/StringLatin1", name := "canEncode", desc := "(C)Z" } : Jvm.MethodName)) ∈ lw_all := lw_g (lw_at lw_m6 186 rfl) rfl
theorem q1475 : (Jvm.Cond.code ({ cls := "java/lang/StringLatin1", name := "canEncode", desc := "(C)Z" } : Jvm.MethodName) prog_27_method_3_code (1 : Nat) (Option.some Jvm.ClassFile.FieldType.boolean)) ∈ lw_all := lw_g (lw_at lw_m6 187 rfl) rfl
theorem q1572 : (Jvm.Cond.static ({ cls := "java/lang/StringLatin1", name := "indexOf", desc := "([BIII)I" } : Jvm.MethodName)) ∈ lw_all := lw_g (lw_at lw_m7 44 rfl) rfl
theorem q1573 : (Jvm.Cond.code ({ cls := "java/lang/StringLatin1", name := "indexOf", desc := "([BIII)I" } : Jvm.MethodName) prog_27_method_22_code (4 : Nat) (Option.some Jvm.ClassFile.FieldType.int)) ∈ lw_all := lw_g (lw_at lw_m7 45 rfl) rfl
theorem q1574 : (Jvm.Cond.methodLink "java/lang/StringLatin1" (88 : Nat) ({ cls := "java/lang/StringLatin1", name := "canEncode", desc := "(I)Z" } : Jvm.MethodName)) ∈ lw_all := lw_g (lw_at lw_m7 46 rfl) rfl
theorem q1575 : (Jvm.Cond.static ({ cls := "java/lang/StringLatin1", name := "canEncode", desc := "(I)Z" } : Jvm.MethodName)) ∈ lw_all := lw_g (lw_at lw_m7 47 rfl) rfl
theorem q1576 : (Jvm.Cond.code ({ cls := "java/lang/StringLatin1", name := "canEncode", desc := "(I)Z" } : Jvm.MethodName) prog_27_method_4_code (1 : Nat) (Option.some Jvm.ClassFile.FieldType.boolean)) ∈ lw_all := lw_g (lw_at lw_m7 48 rfl) rfl
theorem q1577 : (Jvm.Cond.methodLink "java/lang/StringLatin1" (92 : Nat) ({ cls := "java/lang/Math", name := "max", desc := "(II)I" } : Jvm.MethodName)) ∈ lw_all := lw_g (lw_at lw_m7 49 rfl) rfl
theorem q1578 : (Jvm.Cond.methodLink "java/lang/StringLatin1" (38 : Nat) ({ cls := "java/lang/Math", name := "min", desc := "(II)I" } : Jvm.MethodName)) ∈ lw_all := lw_g (lw_at lw_m7 50 rfl) rfl
theorem q1579 : (Jvm.Cond.methodLink "java/lang/StringLatin1" (95 : Nat) ({ cls := "java/lang/StringLatin1", name := "indexOfChar", desc := "([BIII)I" } : Jvm.MethodName)) ∈ lw_all := lw_g (lw_at lw_m7 51 rfl) rfl
theorem q1580 : (Jvm.Cond.static ({ cls := "java/lang/StringLatin1", name := "indexOfChar", desc := "([BIII)I" } : Jvm.MethodName)) ∈ lw_all := lw_g (lw_at lw_m7 52 rfl) rfl
theorem q1581 : (Jvm.Cond.code ({ cls := "java/lang/StringLatin1", name := "indexOfChar", desc := "([BIII)I" } : Jvm.MethodName) prog_27_method_23_code (6 : Nat) (Option.some Jvm.ClassFile.FieldType.int)) ∈ lw_all := lw_g (lw_at lw_m7 53 rfl) rfl
/-! jdk/internal/util/Preconditions -/
def RJ18 : String := "jdk/internal/util/Preconditions"
abbrev cJ18_checkFromToIndex : ByteArray := prog_42_method_12_code
def yJ18_checkFromToIndex : MethodName := ⟨RJ18, "checkFromToIndex", "(IIILjava/util/function/BiFunction;)I"⟩
abbrev cJ18_checkFromIndexSize : ByteArray := prog_42_method_13_code
def yJ18_checkFromIndexSize : MethodName := ⟨RJ18, "checkFromIndexSize", "(IIILjava/util/function/BiFunction;)I"⟩
abbrev cJ18_checkIndex : ByteArray := prog_42_method_11_code
def yJ18_checkIndex : MethodName := ⟨RJ18, "checkIndex", "(IILjava/util/function/BiFunction;)I"⟩
theorem q115 : (Jvm.Cond.initialized "jdk/internal/util/Preconditions") ∈ lw_all := lw_g (lw_at lw_m1 27 rfl) rfl
theorem q966 : (Jvm.Cond.laysStatic "jdk/internal/util/Preconditions" "SIOOBE_FORMATTER" "Ljava/util/function/BiFunction;") ∈ lw_tbl := lw_at lw_m4 158 rfl
theorem q968 : (Jvm.Cond.static ({ cls := "jdk/internal/util/Preconditions", name := "checkFromToIndex", desc := "(IIILjava/util/function/BiFunction;)I" } : Jvm.MethodName)) ∈ lw_all := lw_g (lw_at lw_m4 160 rfl) rfl
theorem q969 : (Jvm.Cond.code ({ cls := "jdk/internal/util/Preconditions", name := "checkFromToIndex", desc := "(IIILjava/util/function/BiFunction;)I" } : Jvm.MethodName) prog_42_method_12_code (4 : Nat) (Option.some Jvm.ClassFile.FieldType.int)) ∈ lw_all := lw_g (lw_at lw_m4 161 rfl) rfl
theorem q1014 : (Jvm.Cond.static ({ cls := "jdk/internal/util/Preconditions", name := "checkFromIndexSize", desc := "(IIILjava/util/function/BiFunction;)I" } : Jvm.MethodName)) ∈ lw_all := lw_g (lw_at lw_m4 206 rfl) rfl
theorem q1015 : (Jvm.Cond.code ({ cls := "jdk/internal/util/Preconditions", name := "checkFromIndexSize", desc := "(IIILjava/util/function/BiFunction;)I" } : Jvm.MethodName) prog_42_method_13_code (4 : Nat) (Option.some Jvm.ClassFile.FieldType.int)) ∈ lw_all := lw_g (lw_at lw_m4 207 rfl) rfl
theorem q1486 : (Jvm.Cond.static ({ cls := "jdk/internal/util/Preconditions", name := "checkIndex", desc := "(IILjava/util/function/BiFunction;)I" } : Jvm.MethodName)) ∈ lw_all := lw_g (lw_at lw_m6 198 rfl) rfl
theorem q1487 : (Jvm.Cond.code ({ cls := "jdk/internal/util/Preconditions", name := "checkIndex", desc := "(IILjava/util/function/BiFunction;)I" } : Jvm.MethodName) prog_42_method_11_code (3 : Nat) (Option.some Jvm.ClassFile.FieldType.int)) ∈ lw_all := lw_g (lw_at lw_m6 199 rfl) rfl
/-! java/lang/Character -/
def RJ19 : String := "java/lang/Character"
abbrev cJ19_isValidCodePoint : ByteArray := prog_13_method_11_code
def yJ19_isValidCodePoint : MethodName := ⟨RJ19, "isValidCodePoint", "(I)Z"⟩
abbrev cJ19_highSurrogate : ByteArray := prog_13_method_28_code
def yJ19_highSurrogate : MethodName := ⟨RJ19, "highSurrogate", "(I)C"⟩
abbrev cJ19_lowSurrogate : ByteArray := prog_13_method_29_code
def yJ19_lowSurrogate : MethodName := ⟨RJ19, "lowSurrogate", "(I)C"⟩
theorem q117 : (Jvm.Cond.initialized "java/lang/Character") ∈ lw_all := lw_g (lw_at lw_m1 29 rfl) rfl
theorem q1598 : (Jvm.Cond.static ({ cls := "java/lang/Character", name := "isValidCodePoint", desc := "(I)Z" } : Jvm.MethodName)) ∈ lw_all := lw_g (lw_at lw_m7 70 rfl) rfl
theorem q1599 : (Jvm.Cond.code ({ cls := "java/lang/Character", name := "isValidCodePoint", desc := "(I)Z" } : Jvm.MethodName) prog_13_method_11_code (2 : Nat) (Option.some Jvm.ClassFile.FieldType.boolean)) ∈ lw_all := lw_g (lw_at lw_m7 71 rfl) rfl
theorem q1601 : (Jvm.Cond.static ({ cls := "java/lang/Character", name := "highSurrogate", desc := "(I)C" } : Jvm.MethodName)) ∈ lw_all := lw_g (lw_at lw_m7 73 rfl) rfl
theorem q1602 : (Jvm.Cond.code ({ cls := "java/lang/Character", name := "highSurrogate", desc := "(I)C" } : Jvm.MethodName) prog_13_method_28_code (1 : Nat) (Option.some Jvm.ClassFile.FieldType.char)) ∈ lw_all := lw_g (lw_at lw_m7 74 rfl) rfl
theorem q1603 : (Jvm.Cond.constant "java/lang/Character" (110 : Nat) (55232 : Int32)) ∈ lw_all := lw_g (lw_at lw_m7 75 rfl) rfl
theorem q1605 : (Jvm.Cond.static ({ cls := "java/lang/Character", name := "lowSurrogate", desc := "(I)C" } : Jvm.MethodName)) ∈ lw_all := lw_g (lw_at lw_m7 77 rfl) rfl
theorem q1606 : (Jvm.Cond.code ({ cls := "java/lang/Character", name := "lowSurrogate", desc := "(I)C" } : Jvm.MethodName) prog_13_method_29_code (1 : Nat) (Option.some Jvm.ClassFile.FieldType.char)) ∈ lw_all := lw_g (lw_at lw_m7 78 rfl) rfl
theorem q1607 : (Jvm.Cond.constant "java/lang/Character" (76 : Nat) (56320 : Int32)) ∈ lw_all := lw_g (lw_at lw_m7 79 rfl) rfl
/-! java/lang/AbstractStringBuilder -/
def RJ2 : String := "java/lang/AbstractStringBuilder"
abbrev cJ2_init : ByteArray := prog_10_method_2_code
def yJ2_init : MethodName := ⟨RJ2, "<init>", "(I)V"⟩
abbrev cJ2_length : ByteArray := prog_10_method_6_code
def yJ2_length : MethodName := ⟨RJ2, "length", "()I"⟩
abbrev cJ2_setLength : ByteArray := prog_10_method_13_code
def yJ2_setLength : MethodName := ⟨RJ2, "setLength", "(I)V"⟩
abbrev cJ2_ensureCapacityInternal : ByteArray := prog_10_method_9_code
def yJ2_ensureCapacityInternal : MethodName := ⟨RJ2, "ensureCapacityInternal", "(I)V"⟩
abbrev cJ2_newCapacity : ByteArray := prog_10_method_10_code
def yJ2_newCapacity : MethodName := ⟨RJ2, "newCapacity", "(I)I"⟩
abbrev cJ2_isLatin1 : ByteArray := prog_10_method_68_code
def yJ2_isLatin1 : MethodName := ⟨RJ2, "isLatin1", "()Z"⟩
abbrev cJ2_append : ByteArray := prog_10_method_22_code
def yJ2_append : MethodName := ⟨RJ2, "append", "(Ljava/lang/String;)Ljava/lang/AbstractStringBuilder;"⟩
abbrev cJ2_appendNull : ByteArray := prog_10_method_26_code
def yJ2_appendNull : MethodName := ⟨RJ2, "appendNull", "()Ljava/lang/AbstractStringBuilder;"⟩
abbrev cJ2_putStringAt : ByteArray := prog_10_method_73_code
def yJ2_putStringAt : MethodName := ⟨RJ2, "putStringAt", "(ILjava/lang/String;)V"⟩
abbrev cJ2_inflateIfNeededFor : ByteArray := prog_10_method_71_code
def yJ2_inflateIfNeededFor : MethodName := ⟨RJ2, "inflateIfNeededFor", "(Ljava/lang/String;)V"⟩
abbrev cJ2_inflate : ByteArray := prog_10_method_11_code
def yJ2_inflate : MethodName := ⟨RJ2, "inflate", "()V"⟩
abbrev cJ2_append_2 : ByteArray := prog_10_method_32_code
def yJ2_append_2 : MethodName := ⟨RJ2, "append", "(I)Ljava/lang/AbstractStringBuilder;"⟩
abbrev cJ2_getValue : ByteArray := prog_10_method_64_code
def yJ2_getValue : MethodName := ⟨RJ2, "getValue", "()[B"⟩
abbrev cJ2_append_3 : ByteArray := prog_10_method_31_code
def yJ2_append_3 : MethodName := ⟨RJ2, "append", "(C)Ljava/lang/AbstractStringBuilder;"⟩
abbrev cJ2_charAt : ByteArray := prog_10_method_14_code
def yJ2_charAt : MethodName := ⟨RJ2, "charAt", "(I)C"⟩
theorem q93 : (Jvm.Cond.initialized "java/lang/AbstractStringBuilder") ∈ lw_all := lw_g (lw_at lw_m1 5 rfl) rfl
theorem q219 : (Jvm.Cond.instanceMethod ({ cls := "java/lang/AbstractStringBuilder", name := "<init>", desc := "(I)V" } : Jvm.MethodName)) ∈ lw_all := lw_g (lw_at lw_m1 131 rfl) rfl
theorem q220 : (Jvm.Cond.code ({ cls := "java/lang/AbstractStringBuilder", name := "<init>", desc := "(I)V" } : Jvm.MethodName) prog_10_method_2_code (2 : Nat) (Option.none : Option Jvm.ClassFile.FieldType)) ∈ lw_all := lw_g (lw_at lw_m1 132 rfl) rfl
theorem q221 : (Jvm.Cond.methodLink "java/lang/AbstractStringBuilder" (3 : Nat) ({ cls := "java/lang/Object", name := "<init>", desc := "()V" } : Jvm.MethodName)) ∈ lw_all := lw_g (lw_at lw_m1 133 rfl) rfl
theorem q222 : (Jvm.Cond.fieldLink "java/lang/AbstractStringBuilder" (18 : Nat) "java/lang/String" "COMPACT_STRINGS" "Z") ∈ lw_all := lw_g (lw_at lw_m1 134 rfl) rfl
theorem q224 : (Jvm.Cond.methodLink "java/lang/AbstractStringBuilder" (26 : Nat) ({ cls := "java/lang/StringUTF16", name := "newBytesFor", desc := "(I)[B" } : Jvm.MethodName)) ∈ lw_all := lw_g (lw_at lw_m1 136 rfl) rfl
theorem q231 : (Jvm.Cond.fieldLink "java/lang/AbstractStringBuilder" (15 : Nat) "java/lang/AbstractStringBuilder" "value" "[B") ∈ lw_all := lw_g (lw_at lw_m1 143 rfl) rfl
theorem q232 : (Jvm.Cond.fieldLink "java/lang/AbstractStringBuilder" (22 : Nat) "java/lang/AbstractStringBuilder" "coder" "B") ∈ lw_all := lw_g (lw_at lw_m1 144 rfl) rfl
theorem q233 : (Jvm.Cond.fieldLink "java/lang/AbstractStringBuilder" (73 : Nat) "java/lang/AbstractStringBuilder" "maybeLatin1" "Z") ∈ lw_all := lw_g (lw_at lw_m1 145 rfl) rfl
theorem q235 : (Jvm.Cond.fieldLink "java/lang/AbstractStringBuilder" (79 : Nat) "java/lang/AbstractStringBuilder" "count" "I") ∈ lw_all := lw_g (lw_at lw_m1 147 rfl) rfl
theorem q237 : (Jvm.Cond.soleField "java/lang/AbstractStringBuilder" "value") ∈ lw_all := lw_g (lw_at lw_m1 149 rfl) rfl
theorem q239 : (Jvm.Cond.soleField "java/lang/AbstractStringBuilder" "coder") ∈ lw_all := lw_g (lw_at lw_m1 151 rfl) rfl
theorem q241 : (Jvm.Cond.soleField "java/lang/AbstractStringBuilder" "maybeLatin1") ∈ lw_all := lw_g (lw_at lw_m1 153 rfl) rfl
theorem q243 : (Jvm.Cond.soleField "java/lang/AbstractStringBuilder" "count") ∈ lw_all := lw_g (lw_at lw_m1 155 rfl) rfl
theorem q890 : (Jvm.Cond.instanceMethod ({ cls := "java/lang/AbstractStringBuilder", name := "length", desc := "()I" } : Jvm.MethodName)) ∈ lw_all := lw_g (lw_at lw_m4 82 rfl) rfl
theorem q891 : (Jvm.Cond.code ({ cls := "java/lang/AbstractStringBuilder", name := "length", desc := "()I" } : Jvm.MethodName) prog_10_method_6_code (1 : Nat) (Option.some Jvm.ClassFile.FieldType.int)) ∈ lw_all := lw_g (lw_at lw_m4 83 rfl) rfl
theorem q897 : (Jvm.Cond.instanceMethod ({ cls := "java/lang/AbstractStringBuilder", name := "setLength", desc := "(I)V" } : Jvm.MethodName)) ∈ lw_all := lw_g (lw_at lw_m4 89 rfl) rfl
theorem q898 : (Jvm.Cond.code ({ cls := "java/lang/AbstractStringBuilder", name := "setLength", desc := "(I)V" } : Jvm.MethodName) prog_10_method_13_code (2 : Nat) (Option.none : Option Jvm.ClassFile.FieldType)) ∈ lw_all := lw_g (lw_at lw_m4 90 rfl) rfl
theorem q899 : (Jvm.Cond.methodLink "java/lang/AbstractStringBuilder" (100 : Nat) ({ cls := "java/lang/AbstractStringBuilder", name := "ensureCapacityInternal", desc := "(I)V" } : Jvm.MethodName)) ∈ lw_all := lw_g (lw_at lw_m4 91 rfl) rfl
theorem q900 : (Jvm.Cond.privateMethod ({ cls := "java/lang/AbstractStringBuilder", name := "ensureCapacityInternal", desc := "(I)V" } : Jvm.MethodName)) ∈ lw_tbl := lw_at lw_m4 92 rfl
theorem q901 : (Jvm.Cond.instanceMethod ({ cls := "java/lang/AbstractStringBuilder", name := "ensureCapacityInternal", desc := "(I)V" } : Jvm.MethodName)) ∈ lw_all := lw_g (lw_at lw_m4 93 rfl) rfl
theorem q902 : (Jvm.Cond.code ({ cls := "java/lang/AbstractStringBuilder", name := "ensureCapacityInternal", desc := "(I)V" } : Jvm.MethodName) prog_10_method_9_code (3 : Nat) (Option.none : Option Jvm.ClassFile.FieldType)) ∈ lw_all := lw_g (lw_at lw_m4 94 rfl) rfl
theorem q903 : (Jvm.Cond.methodLink "java/lang/AbstractStringBuilder" (104 : Nat) ({ cls := "java/lang/AbstractStringBuilder", name := "newCapacity", desc := "(I)I" } : Jvm.MethodName)) ∈ lw_all := lw_g (lw_at lw_m4 95 rfl) rfl
theorem q904 : (Jvm.Cond.privateMethod ({ cls := "java/lang/AbstractStringBuilder", name := "newCapacity", desc := "(I)I" } : Jvm.MethodName)) ∈ lw_tbl := lw_at lw_m4 96 rfl
theorem q905 : (Jvm.Cond.instanceMethod ({ cls := "java/lang/AbstractStringBuilder", name := "newCapacity", desc := "(I)I" } : Jvm.MethodName)) ∈ lw_all := lw_g (lw_at lw_m4 97 rfl) rfl
theorem q906 : (Jvm.Cond.code ({ cls := "java/lang/AbstractStringBuilder", name := "newCapacity", desc := "(I)I" } : Jvm.MethodName) prog_10_method_10_code (6 : Nat) (Option.some Jvm.ClassFile.FieldType.int)) ∈ lw_all := lw_g (lw_at lw_m4 98 rfl) rfl
theorem q907 : (Jvm.Cond.methodLink "java/lang/AbstractStringBuilder" (114 : Nat) ({ cls := "jdk/internal/util/ArraysSupport", name := "newLength", desc := "(III)I" } : Jvm.MethodName)) ∈ lw_all := lw_g (lw_at lw_m4 99 rfl) rfl
theorem q915 : (Jvm.Cond.constant "java/lang/AbstractStringBuilder" (39 : Nat) (2147483647 : Int32)) ∈ lw_all := lw_g (lw_at lw_m4 107 rfl) rfl
theorem q916 : (Jvm.Cond.methodLink "java/lang/AbstractStringBuilder" (108 : Nat) ({ cls := "java/util/Arrays", name := "copyOf", desc := "([BI)[B" } : Jvm.MethodName)) ∈ lw_all := lw_g (lw_at lw_m4 108 rfl) rfl
theorem q924 : (Jvm.Cond.methodLink "java/lang/AbstractStringBuilder" (83 : Nat) ({ cls := "java/lang/AbstractStringBuilder", name := "isLatin1", desc := "()Z" } : Jvm.MethodName)) ∈ lw_all := lw_g (lw_at lw_m4 116 rfl) rfl
theorem q925 : (Jvm.Cond.instanceMethod ({ cls := "java/lang/AbstractStringBuilder", name := "isLatin1", desc := "()Z" } : Jvm.MethodName)) ∈ lw_all := lw_g (lw_at lw_m4 117 rfl) rfl
theorem q926 : (Jvm.Cond.sameMethod "java/lang/AbstractStringBuilder" "java/lang/AbstractStringBuilder" "isLatin1" "()Z") ∈ lw_all := lw_g (lw_at lw_m4 118 rfl) rfl
theorem q928 : (Jvm.Cond.code ({ cls := "java/lang/AbstractStringBuilder", name := "isLatin1", desc := "()Z" } : Jvm.MethodName) prog_10_method_68_code (1 : Nat) (Option.some Jvm.ClassFile.FieldType.boolean)) ∈ lw_all := lw_g (lw_at lw_m4 120 rfl) rfl
theorem q929 : (Jvm.Cond.methodLink "java/lang/AbstractStringBuilder" (133 : Nat) ({ cls := "java/lang/StringLatin1", name := "fillNull", desc := "([BII)V" } : Jvm.MethodName)) ∈ lw_all := lw_g (lw_at lw_m4 121 rfl) rfl
theorem q947 : (Jvm.Cond.instanceMethod ({ cls := "java/lang/AbstractStringBuilder", name := "append", desc := "(Ljava/lang/String;)Ljava/lang/AbstractStringBuilder;" } : Jvm.MethodName)) ∈ lw_all := lw_g (lw_at lw_m4 139 rfl) rfl
theorem q948 : (Jvm.Cond.code ({ cls := "java/lang/AbstractStringBuilder", name := "append", desc := "(Ljava/lang/String;)Ljava/lang/AbstractStringBuilder;" } : Jvm.MethodName) prog_10_method_22_code (3 : Nat) (Option.some (Jvm.ClassFile.FieldType.object "java/lang/AbstractStringBuilder"))) ∈ lw_all := lw_g (lw_at lw_m4 140 rfl) rfl
theorem q949 : (Jvm.Cond.methodLink "java/lang/AbstractStringBuilder" (204 : Nat) ({ cls := "java/lang/AbstractStringBuilder", name := "appendNull", desc := "()Ljava/lang/AbstractStringBuilder;" } : Jvm.MethodName)) ∈ lw_all := lw_g (lw_at lw_m4 141 rfl) rfl
theorem q950 : (Jvm.Cond.privateMethod ({ cls := "java/lang/AbstractStringBuilder", name := "appendNull", desc := "()Ljava/lang/AbstractStringBuilder;" } : Jvm.MethodName)) ∈ lw_tbl := lw_at lw_m4 142 rfl
theorem q951 : (Jvm.Cond.instanceMethod ({ cls := "java/lang/AbstractStringBuilder", name := "appendNull", desc := "()Ljava/lang/AbstractStringBuilder;" } : Jvm.MethodName)) ∈ lw_all := lw_g (lw_at lw_m4 143 rfl) rfl
theorem q952 : (Jvm.Cond.code ({ cls := "java/lang/AbstractStringBuilder", name := "appendNull", desc := "()Ljava/lang/AbstractStringBuilder;" } : Jvm.MethodName) prog_10_method_26_code (3 : Nat) (Option.some (Jvm.ClassFile.FieldType.object "java/lang/AbstractStringBuilder"))) ∈ lw_all := lw_g (lw_at lw_m4 144 rfl) rfl
theorem q953 : (Jvm.Cond.methodLink "java/lang/AbstractStringBuilder" (226 : Nat) ({ cls := "java/lang/StringUTF16", name := "putCharsAt", desc := "([BICCCC)I" } : Jvm.MethodName)) ∈ lw_all := lw_g (lw_at lw_m4 145 rfl) rfl
theorem q979 : (Jvm.Cond.methodLink "java/lang/AbstractStringBuilder" (32 : Nat) ({ cls := "java/lang/String", name := "length", desc := "()I" } : Jvm.MethodName)) ∈ lw_all := lw_g (lw_at lw_m4 171 rfl) rfl
theorem q988 : (Jvm.Cond.methodLink "java/lang/AbstractStringBuilder" (208 : Nat) ({ cls := "java/lang/AbstractStringBuilder", name := "putStringAt", desc := "(ILjava/lang/String;)V" } : Jvm.MethodName)) ∈ lw_all := lw_g (lw_at lw_m4 180 rfl) rfl
theorem q989 : (Jvm.Cond.privateMethod ({ cls := "java/lang/AbstractStringBuilder", name := "putStringAt", desc := "(ILjava/lang/String;)V" } : Jvm.MethodName)) ∈ lw_tbl := lw_at lw_m4 181 rfl
theorem q990 : (Jvm.Cond.instanceMethod ({ cls := "java/lang/AbstractStringBuilder", name := "putStringAt", desc := "(ILjava/lang/String;)V" } : Jvm.MethodName)) ∈ lw_all := lw_g (lw_at lw_m4 182 rfl) rfl
theorem q991 : (Jvm.Cond.code ({ cls := "java/lang/AbstractStringBuilder", name := "putStringAt", desc := "(ILjava/lang/String;)V" } : Jvm.MethodName) prog_10_method_73_code (3 : Nat) (Option.none : Option Jvm.ClassFile.FieldType)) ∈ lw_all := lw_g (lw_at lw_m4 183 rfl) rfl
theorem q992 : (Jvm.Cond.methodLink "java/lang/AbstractStringBuilder" (397 : Nat) ({ cls := "java/lang/AbstractStringBuilder", name := "inflateIfNeededFor", desc := "(Ljava/lang/String;)V" } : Jvm.MethodName)) ∈ lw_all := lw_g (lw_at lw_m4 184 rfl) rfl
theorem q993 : (Jvm.Cond.privateMethod ({ cls := "java/lang/AbstractStringBuilder", name := "inflateIfNeededFor", desc := "(Ljava/lang/String;)V" } : Jvm.MethodName)) ∈ lw_tbl := lw_at lw_m4 185 rfl
theorem q994 : (Jvm.Cond.instanceMethod ({ cls := "java/lang/AbstractStringBuilder", name := "inflateIfNeededFor", desc := "(Ljava/lang/String;)V" } : Jvm.MethodName)) ∈ lw_all := lw_g (lw_at lw_m4 186 rfl) rfl
theorem q995 : (Jvm.Cond.code ({ cls := "java/lang/AbstractStringBuilder", name := "inflateIfNeededFor", desc := "(Ljava/lang/String;)V" } : Jvm.MethodName) prog_10_method_71_code (2 : Nat) (Option.none : Option Jvm.ClassFile.FieldType)) ∈ lw_all := lw_g (lw_at lw_m4 187 rfl) rfl
theorem q996 : (Jvm.Cond.methodLink "java/lang/AbstractStringBuilder" (40 : Nat) ({ cls := "java/lang/String", name := "coder", desc := "()B" } : Jvm.MethodName)) ∈ lw_all := lw_g (lw_at lw_m4 188 rfl) rfl
theorem q997 : (Jvm.Cond.methodLink "java/lang/AbstractStringBuilder" (195 : Nat) ({ cls := "java/lang/AbstractStringBuilder", name := "inflate", desc := "()V" } : Jvm.MethodName)) ∈ lw_all := lw_g (lw_at lw_m4 189 rfl) rfl
theorem q998 : (Jvm.Cond.privateMethod ({ cls := "java/lang/AbstractStringBuilder", name := "inflate", desc := "()V" } : Jvm.MethodName)) ∈ lw_tbl := lw_at lw_m4 190 rfl
theorem q999 : (Jvm.Cond.instanceMethod ({ cls := "java/lang/AbstractStringBuilder", name := "inflate", desc := "()V" } : Jvm.MethodName)) ∈ lw_all := lw_g (lw_at lw_m4 191 rfl) rfl
theorem q1000 : (Jvm.Cond.code ({ cls := "java/lang/AbstractStringBuilder", name := "inflate", desc := "()V" } : Jvm.MethodName) prog_10_method_11_code (2 : Nat) (Option.none : Option Jvm.ClassFile.FieldType)) ∈ lw_all := lw_g (lw_at lw_m4 192 rfl) rfl
theorem q1001 : (Jvm.Cond.methodLink "java/lang/AbstractStringBuilder" (125 : Nat) ({ cls := "java/lang/StringLatin1", name := "inflate", desc := "([BI[BII)V" } : Jvm.MethodName)) ∈ lw_all := lw_g (lw_at lw_m4 193 rfl) rfl
theorem q1016 : (Jvm.Cond.methodLink "java/lang/AbstractStringBuilder" (399 : Nat) ({ cls := "java/lang/String", name := "getBytes", desc := "([BIB)V" } : Jvm.MethodName)) ∈ lw_all := lw_g (lw_at lw_m4 208 rfl) rfl
theorem q1027 : (Jvm.Cond.instanceMethod ({ cls := "java/lang/AbstractStringBuilder", name := "append", desc := "(I)Ljava/lang/AbstractStringBuilder;" } : Jvm.MethodName)) ∈ lw_all := lw_g (lw_at lw_m4 219 rfl) rfl
theorem q1028 : (Jvm.Cond.code ({ cls := "java/lang/AbstractStringBuilder", name := "append", desc := "(I)Ljava/lang/AbstractStringBuilder;" } : Jvm.MethodName) prog_10_method_32_code (4 : Nat) (Option.some (Jvm.ClassFile.FieldType.object "java/lang/AbstractStringBuilder"))) ∈ lw_all := lw_g (lw_at lw_m4 220 rfl) rfl
theorem q1029 : (Jvm.Cond.methodLink "java/lang/AbstractStringBuilder" (245 : Nat) ({ cls := "java/lang/Integer", name := "stringSize", desc := "(I)I" } : Jvm.MethodName)) ∈ lw_all := lw_g (lw_at lw_m4 221 rfl) rfl
theorem q1032 : (Jvm.Cond.methodLink "java/lang/AbstractStringBuilder" (248 : Nat) ({ cls := "java/lang/Integer", name := "getChars", desc := "(II[B)I" } : Jvm.MethodName)) ∈ lw_all := lw_g (lw_at lw_m4 224 rfl) rfl
theorem q1039 : (Jvm.Cond.methodLink "java/lang/AbstractStringBuilder" (251 : Nat) ({ cls := "java/lang/StringUTF16", name := "getChars", desc := "(III[B)I" } : Jvm.MethodName)) ∈ lw_all := lw_g (lw_at lw_m4 231 rfl) rfl
theorem q1063 : (Jvm.Cond.instanceMethod ({ cls := "java/lang/AbstractStringBuilder", name := "getValue", desc := "()[B" } : Jvm.MethodName)) ∈ lw_all := lw_g (lw_at lw_m5 15 rfl) rfl
theorem q1064 : (Jvm.Cond.sameMethod "java/lang/AbstractStringBuilder" "java/lang/AbstractStringBuilder" "getValue" "()[B") ∈ lw_all := lw_g (lw_at lw_m5 16 rfl) rfl
theorem q1066 : (Jvm.Cond.code ({ cls := "java/lang/AbstractStringBuilder", name := "getValue", desc := "()[B" } : Jvm.MethodName) prog_10_method_64_code (1 : Nat) (Option.some (Jvm.ClassFile.FieldType.array Jvm.ClassFile.FieldType.byte))) ∈ lw_all := lw_g (lw_at lw_m5 18 rfl) rfl
theorem q1107 : (Jvm.Cond.methodLink "java/lang/AbstractStringBuilder" (137 : Nat) ({ cls := "java/lang/StringUTF16", name := "fillNull", desc := "([BII)V" } : Jvm.MethodName)) ∈ lw_all := lw_g (lw_at lw_m5 59 rfl) rfl
theorem q1471 : (Jvm.Cond.instanceMethod ({ cls := "java/lang/AbstractStringBuilder", name := "append", desc := "(C)Ljava/lang/AbstractStringBuilder;" } : Jvm.MethodName)) ∈ lw_all := lw_g (lw_at lw_m6 183 rfl) rfl
theorem q1472 : (Jvm.Cond.code ({ cls := "java/lang/AbstractStringBuilder", name := "append", desc := "(C)Ljava/lang/AbstractStringBuilder;" } : Jvm.MethodName) prog_10_method_31_code (2 : Nat) (Option.some (Jvm.ClassFile.FieldType.object "java/lang/AbstractStringBuilder"))) ∈ lw_all := lw_g (lw_at lw_m6 184 rfl) rfl
theorem q1473 : (Jvm.Cond.methodLink "java/lang/AbstractStringBuilder" (191 : Nat) ({ cls := "java/lang/StringLatin1", name := "canEncode", desc := "(C)Z" } : Jvm.MethodName)) ∈ lw_all := lw_g (lw_at lw_m6 185 rfl) rfl
theorem q1476 : (Jvm.Cond.methodLink "java/lang/AbstractStringBuilder" (197 : Nat) ({ cls := "java/lang/StringUTF16", name := "putCharSB", desc := "([BII)V" } : Jvm.MethodName)) ∈ lw_all := lw_g (lw_at lw_m6 188 rfl) rfl
theorem q1552 : (Jvm.Cond.instanceMethod ({ cls := "java/lang/AbstractStringBuilder", name := "charAt", desc := "(I)C" } : Jvm.MethodName)) ∈ lw_all := lw_g (lw_at lw_m7 24 rfl) rfl
theorem q1553 : (Jvm.Cond.code ({ cls := "java/lang/AbstractStringBuilder", name := "charAt", desc := "(I)C" } : Jvm.MethodName) prog_10_method_14_code (5 : Nat) (Option.some Jvm.ClassFile.FieldType.char)) ∈ lw_all := lw_g (lw_at lw_m7 25 rfl) rfl
theorem q1554 : (Jvm.Cond.methodLink "java/lang/AbstractStringBuilder" (138 : Nat) ({ cls := "java/lang/Math", name := "min", desc := "(II)I" } : Jvm.MethodName)) ∈ lw_all := lw_g (lw_at lw_m7 26 rfl) rfl
theorem q1555 : (Jvm.Cond.methodLink "java/lang/AbstractStringBuilder" (144 : Nat) ({ cls := "java/lang/String", name := "checkIndex", desc := "(II)V" } : Jvm.MethodName)) ∈ lw_all := lw_g (lw_at lw_m7 27 rfl) rfl
theorem q1556 : (Jvm.Cond.methodLink "java/lang/AbstractStringBuilder" (148 : Nat) ({ cls := "java/lang/StringUTF16", name := "getChar", desc := "([BI)C" } : Jvm.MethodName)) ∈ lw_all := lw_g (lw_at lw_m7 28 rfl) rfl
theorem q2246 : (Jvm.Cond.sameMethod "java/lang/AbstractStringBuilder" "java/lang/AbstractStringBuilder" "length" "()I") ∈ lw_all := lw_g (lw_at lw_m9 238 rfl) rfl
theorem q2247 : (Jvm.Cond.sameMethod "java/lang/AbstractStringBuilder" "java/lang/AbstractStringBuilder" "setLength" "(I)V") ∈ lw_all := lw_g (lw_at lw_m9 239 rfl) rfl
theorem q2248 : (Jvm.Cond.sameMethod "java/lang/AbstractStringBuilder" "java/lang/AbstractStringBuilder" "ensureCapacityInternal" "(I)V") ∈ lw_all := lw_g (lw_at lw_m10 0 rfl) rfl
theorem q2249 : (Jvm.Cond.sameMethod "java/lang/AbstractStringBuilder" "java/lang/AbstractStringBuilder" "newCapacity" "(I)I") ∈ lw_all := lw_g (lw_at lw_m10 1 rfl) rfl
theorem q2250 : (Jvm.Cond.sameMethod "java/lang/AbstractStringBuilder" "java/lang/AbstractStringBuilder" "append" "(Ljava/lang/String;)Ljava/lang/AbstractStringBuilder;") ∈ lw_all := lw_g (lw_at lw_m10 2 rfl) rfl
theorem q2251 : (Jvm.Cond.sameMethod "java/lang/AbstractStringBuilder" "java/lang/AbstractStringBuilder" "appendNull" "()Ljava/lang/AbstractStringBuilder;") ∈ lw_all := lw_g (lw_at lw_m10 3 rfl) rfl
theorem q2252 : (Jvm.Cond.sameMethod "java/lang/AbstractStringBuilder" "java/lang/AbstractStringBuilder" "putStringAt" "(ILjava/lang/String;)V") ∈ lw_all := lw_g (lw_at lw_m10 4 rfl) rfl
theorem q2253 : (Jvm.Cond.sameMethod "java/lang/AbstractStringBuilder" "java/lang/AbstractStringBuilder" "inflateIfNeededFor" "(Ljava/lang/String;)V") ∈ lw_all := lw_g (lw_at lw_m10 5 rfl) rfl
theorem q2254 : (Jvm.Cond.sameMethod "java/lang/AbstractStringBuilder" "java/lang/AbstractStringBuilder" "inflate" "()V") ∈ lw_all := lw_g (lw_at lw_m10 6 rfl) rfl
theorem q2255 : (Jvm.Cond.sameMethod "java/lang/AbstractStringBuilder" "java/lang/AbstractStringBuilder" "append" "(I)Ljava/lang/AbstractStringBuilder;") ∈ lw_all := lw_g (lw_at lw_m10 7 rfl) rfl
theorem q2257 : (Jvm.Cond.sameMethod "java/lang/AbstractStringBuilder" "java/lang/AbstractStringBuilder" "append" "(C)Ljava/lang/AbstractStringBuilder;") ∈ lw_all := lw_g (lw_at lw_m10 9 rfl) rfl
theorem q2258 : (Jvm.Cond.sameMethod "java/lang/AbstractStringBuilder" "java/lang/AbstractStringBuilder" "charAt" "(I)C") ∈ lw_all := lw_g (lw_at lw_m10 10 rfl) rfl
/-! java/lang/Object -/
def RJ20 : String := "java/lang/Object"
abbrev cJ20_init : ByteArray := object_method_1_code
def yJ20_init : MethodName := ⟨RJ20, "<init>", "()V"⟩
theorem q124 : (Jvm.Cond.instanceMethod ({ cls := "java/lang/Object", name := "<init>", desc := "()V" } : Jvm.MethodName)) ∈ lw_all := lw_g (lw_at lw_m1 36 rfl) rfl
theorem q125 : (Jvm.Cond.code ({ cls := "java/lang/Object", name := "<init>", desc := "()V" } : Jvm.MethodName) object_method_1_code (1 : Nat) (Option.none : Option Jvm.ClassFile.FieldType)) ∈ lw_all := lw_g (lw_at lw_m1 37 rfl) rfl
theorem q275 : (Jvm.Cond.native ({ cls := "java/lang/Object", name := "clone", desc := "()Ljava/lang/Object;" } : Jvm.MethodName)) ∈ lw_all := lw_g (lw_at lw_m1 187 rfl) rfl
theorem q276 : (Jvm.Cond.instanceMethod ({ cls := "java/lang/Object", name := "clone", desc := "()Ljava/lang/Object;" } : Jvm.MethodName)) ∈ lw_all := lw_g (lw_at lw_m1 188 rfl) rfl
theorem q491 : (Jvm.Cond.instanceMethod ({ cls := "java/lang/Object", name := "getClass", desc := "()Ljava/lang/Class;" } : Jvm.MethodName)) ∈ lw_all := lw_g (lw_at lw_m2 163 rfl) rfl
theorem q492 : (Jvm.Cond.sameMethod "java/lang/Object" "java/lang/Object" "getClass" "()Ljava/lang/Class;") ∈ lw_all := lw_g (lw_at lw_m2 164 rfl) rfl
theorem q507 : (Jvm.Cond.native ({ cls := "java/lang/Object", name := "getClass", desc := "()Ljava/lang/Class;" } : Jvm.MethodName)) ∈ lw_all := lw_g (lw_at lw_m2 179 rfl) rfl
theorem q2259 : (Jvm.Cond.initialized "java/lang/Object") ∈ lw_all := lw_g (lw_at lw_m10 11 rfl) rfl
theorem q2277 : (Jvm.Cond.declares ({ cls := "java/lang/Object", name := "getClass", desc := "()Ljava/lang/Class;" } : Jvm.MethodName)) ∈ lw_tbl := lw_at lw_m10 29 rfl
/-! java/lang/StringBuilder -/
def RJ3 : String := "java/lang/StringBuilder"
def TJ3 : u_T := fun k => match k with
  | 0 => ("java/lang/AbstractStringBuilder", "value", "[B", false)
  | 1 => ("java/lang/AbstractStringBuilder", "coder", "B", false)
  | 2 => ("java/lang/AbstractStringBuilder", "maybeLatin1", "Z", false)
  | _ => ("java/lang/AbstractStringBuilder", "count", "I", false)
def tyJ3 : Nat → FieldType := fun k => match k with
  | 0 => .array .byte
  | 1 => .byte
  | 2 => .boolean
  | _ => .int
abbrev wsJ30 : List Cond := u_ws RJ3 TJ3 4
theorem nmJ3 : ∀ a, a < 4 → ∀ b, b < 4 → a ≠ b → (TJ3 a).2.1 ≠ (TJ3 b).2.1 := by decide +kernel
theorem tyJ3_ok : ∀ k, k < 4 → parseFieldDescriptor (TJ3 k).2.2.1 = some (tyJ3 k) := by decide +kernel
abbrev cJ3_init : ByteArray := prog_26_method_1_code
def yJ3_init : MethodName := ⟨RJ3, "<init>", "()V"⟩
abbrev cJ3_length : ByteArray := prog_26_method_93_code
def yJ3_length : MethodName := ⟨RJ3, "length", "()I"⟩
abbrev cJ3_setLength : ByteArray := prog_26_method_89_code
def yJ3_setLength : MethodName := ⟨RJ3, "setLength", "(I)V"⟩
abbrev cJ3_append : ByteArray := prog_26_method_7_code
def yJ3_append : MethodName := ⟨RJ3, "append", "(Ljava/lang/String;)Ljava/lang/StringBuilder;"⟩
abbrev cJ3_append_2 : ByteArray := prog_26_method_15_code
def yJ3_append_2 : MethodName := ⟨RJ3, "append", "(I)Ljava/lang/StringBuilder;"⟩
abbrev cJ3_toString : ByteArray := prog_26_method_42_code
def yJ3_toString : MethodName := ⟨RJ3, "toString", "()Ljava/lang/String;"⟩
abbrev cJ3_append_3 : ByteArray := prog_26_method_14_code
def yJ3_append_3 : MethodName := ⟨RJ3, "append", "(C)Ljava/lang/StringBuilder;"⟩
abbrev cJ3_charAt : ByteArray := prog_26_method_88_code
def yJ3_charAt : MethodName := ⟨RJ3, "charAt", "(I)C"⟩
theorem q94 : (Jvm.Cond.initialized "java/lang/StringBuilder") ∈ lw_all := lw_g (lw_at lw_m1 6 rfl) rfl
theorem q214 : (Jvm.Cond.instantiable "java/lang/StringBuilder" (4 : Nat)) ∈ lw_all := lw_g (lw_at lw_m1 126 rfl) rfl
theorem q216 : (Jvm.Cond.instanceMethod ({ cls := "java/lang/StringBuilder", name := "<init>", desc := "()V" } : Jvm.MethodName)) ∈ lw_all := lw_g (lw_at lw_m1 128 rfl) rfl
theorem q217 : (Jvm.Cond.code ({ cls := "java/lang/StringBuilder", name := "<init>", desc := "()V" } : Jvm.MethodName) prog_26_method_1_code (1 : Nat) (Option.none : Option Jvm.ClassFile.FieldType)) ∈ lw_all := lw_g (lw_at lw_m1 129 rfl) rfl
theorem q218 : (Jvm.Cond.methodLink "java/lang/StringBuilder" (1 : Nat) ({ cls := "java/lang/AbstractStringBuilder", name := "<init>", desc := "(I)V" } : Jvm.MethodName)) ∈ lw_all := lw_g (lw_at lw_m1 130 rfl) rfl
theorem q236 : (Jvm.Cond.lays "java/lang/StringBuilder" "java/lang/AbstractStringBuilder" "value" "[B") ∈ lw_all := lw_g (lw_at lw_m1 148 rfl) rfl
theorem q238 : (Jvm.Cond.lays "java/lang/StringBuilder" "java/lang/AbstractStringBuilder" "coder" "B") ∈ lw_all := lw_g (lw_at lw_m1 150 rfl) rfl
theorem q240 : (Jvm.Cond.lays "java/lang/StringBuilder" "java/lang/AbstractStringBuilder" "maybeLatin1" "Z") ∈ lw_all := lw_g (lw_at lw_m1 152 rfl) rfl
theorem q242 : (Jvm.Cond.lays "java/lang/StringBuilder" "java/lang/AbstractStringBuilder" "count" "I") ∈ lw_all := lw_g (lw_at lw_m1 154 rfl) rfl
theorem q244 : (Jvm.Cond.superclass "java/lang/StringBuilder" "java/lang/AbstractStringBuilder") ∈ lw_all := lw_g (lw_at lw_m1 156 rfl) rfl
theorem q504 : (Jvm.Cond.selects "java/lang/StringBuilder" ({ cls := "java/lang/Object", name := "getClass", desc := "()Ljava/lang/Class;" } : Jvm.MethodName) ({ cls := "java/lang/Object", name := "getClass", desc := "()Ljava/lang/Class;" } : Jvm.MethodName)) ∈ lw_all := lw_g (lw_at lw_m2 176 rfl) rfl
theorem q886 : (Jvm.Cond.instanceMethod ({ cls := "java/lang/StringBuilder", name := "length", desc := "()I" } : Jvm.MethodName)) ∈ lw_all := lw_g (lw_at lw_m4 78 rfl) rfl
theorem q887 : (Jvm.Cond.selects "java/lang/StringBuilder" ({ cls := "java/lang/StringBuilder", name := "length", desc := "()I" } : Jvm.MethodName) ({ cls := "java/lang/StringBuilder", name := "length", desc := "()I" } : Jvm.MethodName)) ∈ lw_all := lw_g (lw_at lw_m4 79 rfl) rfl
theorem q888 : (Jvm.Cond.code ({ cls := "java/lang/StringBuilder", name := "length", desc := "()I" } : Jvm.MethodName) prog_26_method_93_code (1 : Nat) (Option.some Jvm.ClassFile.FieldType.int)) ∈ lw_all := lw_g (lw_at lw_m4 80 rfl) rfl
theorem q889 : (Jvm.Cond.methodLink "java/lang/StringBuilder" (343 : Nat) ({ cls := "java/lang/AbstractStringBuilder", name := "length", desc := "()I" } : Jvm.MethodName)) ∈ lw_all := lw_g (lw_at lw_m4 81 rfl) rfl
theorem q893 : (Jvm.Cond.instanceMethod ({ cls := "java/lang/StringBuilder", name := "setLength", desc := "(I)V" } : Jvm.MethodName)) ∈ lw_all := lw_g (lw_at lw_m4 85 rfl) rfl
theorem q894 : (Jvm.Cond.selects "java/lang/StringBuilder" ({ cls := "java/lang/StringBuilder", name := "setLength", desc := "(I)V" } : Jvm.MethodName) ({ cls := "java/lang/StringBuilder", name := "setLength", desc := "(I)V" } : Jvm.MethodName)) ∈ lw_all := lw_g (lw_at lw_m4 86 rfl) rfl
theorem q895 : (Jvm.Cond.code ({ cls := "java/lang/StringBuilder", name := "setLength", desc := "(I)V" } : Jvm.MethodName) prog_26_method_89_code (2 : Nat) (Option.none : Option Jvm.ClassFile.FieldType)) ∈ lw_all := lw_g (lw_at lw_m4 87 rfl) rfl
theorem q896 : (Jvm.Cond.methodLink "java/lang/StringBuilder" (333 : Nat) ({ cls := "java/lang/AbstractStringBuilder", name := "setLength", desc := "(I)V" } : Jvm.MethodName)) ∈ lw_all := lw_g (lw_at lw_m4 88 rfl) rfl
theorem q927 : (Jvm.Cond.selects "java/lang/StringBuilder" ({ cls := "java/lang/AbstractStringBuilder", name := "isLatin1", desc := "()Z" } : Jvm.MethodName) ({ cls := "java/lang/AbstractStringBuilder", name := "isLatin1", desc := "()Z" } : Jvm.MethodName)) ∈ lw_all := lw_g (lw_at lw_m4 119 rfl) rfl
theorem q943 : (Jvm.Cond.instanceMethod ({ cls := "java/lang/StringBuilder", name := "append", desc := "(Ljava/lang/String;)Ljava/lang/StringBuilder;" } : Jvm.MethodName)) ∈ lw_all := lw_g (lw_at lw_m4 135 rfl) rfl
theorem q944 : (Jvm.Cond.selects "java/lang/StringBuilder" ({ cls := "java/lang/StringBuilder", name := "append", desc := "(Ljava/lang/String;)Ljava/lang/StringBuilder;" } : Jvm.MethodName) ({ cls := "java/lang/StringBuilder", name := "append", desc := "(Ljava/lang/String;)Ljava/lang/StringBuilder;" } : Jvm.MethodName)) ∈ lw_all := lw_g (lw_at lw_m4 136 rfl) rfl
theorem q945 : (Jvm.Cond.code ({ cls := "java/lang/StringBuilder", name := "append", desc := "(Ljava/lang/String;)Ljava/lang/StringBuilder;" } : Jvm.MethodName) prog_26_method_7_code (2 : Nat) (Option.some (Jvm.ClassFile.FieldType.object "java/lang/StringBuilder"))) ∈ lw_all := lw_g (lw_at lw_m4 137 rfl) rfl
theorem q946 : (Jvm.Cond.methodLink "java/lang/StringBuilder" (29 : Nat) ({ cls := "java/lang/AbstractStringBuilder", name := "append", desc := "(Ljava/lang/String;)Ljava/lang/AbstractStringBuilder;" } : Jvm.MethodName)) ∈ lw_all := lw_g (lw_at lw_m4 138 rfl) rfl
theorem q1023 : (Jvm.Cond.instanceMethod ({ cls := "java/lang/StringBuilder", name := "append", desc := "(I)Ljava/lang/StringBuilder;" } : Jvm.MethodName)) ∈ lw_all := lw_g (lw_at lw_m4 215 rfl) rfl
theorem q1024 : (Jvm.Cond.selects "java/lang/StringBuilder" ({ cls := "java/lang/StringBuilder", name := "append", desc := "(I)Ljava/lang/StringBuilder;" } : Jvm.MethodName) ({ cls := "java/lang/StringBuilder", name := "append", desc := "(I)Ljava/lang/StringBuilder;" } : Jvm.MethodName)) ∈ lw_all := lw_g (lw_at lw_m4 216 rfl) rfl
theorem q1025 : (Jvm.Cond.code ({ cls := "java/lang/StringBuilder", name := "append", desc := "(I)Ljava/lang/StringBuilder;" } : Jvm.MethodName) prog_26_method_15_code (2 : Nat) (Option.some (Jvm.ClassFile.FieldType.object "java/lang/StringBuilder"))) ∈ lw_all := lw_g (lw_at lw_m4 217 rfl) rfl
theorem q1026 : (Jvm.Cond.methodLink "java/lang/StringBuilder" (53 : Nat) ({ cls := "java/lang/AbstractStringBuilder", name := "append", desc := "(I)Ljava/lang/AbstractStringBuilder;" } : Jvm.MethodName)) ∈ lw_all := lw_g (lw_at lw_m4 218 rfl) rfl
theorem q1050 : (Jvm.Cond.instanceMethod ({ cls := "java/lang/StringBuilder", name := "toString", desc := "()Ljava/lang/String;" } : Jvm.MethodName)) ∈ lw_all := lw_g (lw_at lw_m5 2 rfl) rfl
theorem q1051 : (Jvm.Cond.selects "java/lang/StringBuilder" ({ cls := "java/lang/StringBuilder", name := "toString", desc := "()Ljava/lang/String;" } : Jvm.MethodName) ({ cls := "java/lang/StringBuilder", name := "toString", desc := "()Ljava/lang/String;" } : Jvm.MethodName)) ∈ lw_all := lw_g (lw_at lw_m5 3 rfl) rfl
theorem q1052 : (Jvm.Cond.code ({ cls := "java/lang/StringBuilder", name := "toString", desc := "()Ljava/lang/String;" } : Jvm.MethodName) prog_26_method_42_code (1 : Nat) (Option.some (Jvm.ClassFile.FieldType.object "java/lang/String"))) ∈ lw_all := lw_g (lw_at lw_m5 4 rfl) rfl
theorem q1053 : (Jvm.Cond.classLink "java/lang/StringBuilder" (18 : Nat) "java/lang/String") ∈ lw_all := lw_g (lw_at lw_m5 5 rfl) rfl
theorem q1055 : (Jvm.Cond.methodLink "java/lang/StringBuilder" (137 : Nat) ({ cls := "java/lang/String", name := "<init>", desc := "(Ljava/lang/StringBuilder;)V" } : Jvm.MethodName)) ∈ lw_all := lw_g (lw_at lw_m5 7 rfl) rfl
theorem q1065 : (Jvm.Cond.selects "java/lang/StringBuilder" ({ cls := "java/lang/AbstractStringBuilder", name := "getValue", desc := "()[B" } : Jvm.MethodName) ({ cls := "java/lang/AbstractStringBuilder", name := "getValue", desc := "()[B" } : Jvm.MethodName)) ∈ lw_all := lw_g (lw_at lw_m5 17 rfl) rfl
theorem q1467 : (Jvm.Cond.instanceMethod ({ cls := "java/lang/StringBuilder", name := "append", desc := "(C)Ljava/lang/StringBuilder;" } : Jvm.MethodName)) ∈ lw_all := lw_g (lw_at lw_m6 179 rfl) rfl
theorem q1468 : (Jvm.Cond.selects "java/lang/StringBuilder" ({ cls := "java/lang/StringBuilder", name := "append", desc := "(C)Ljava/lang/StringBuilder;" } : Jvm.MethodName) ({ cls := "java/lang/StringBuilder", name := "append", desc := "(C)Ljava/lang/StringBuilder;" } : Jvm.MethodName)) ∈ lw_all := lw_g (lw_at lw_m6 180 rfl) rfl
theorem q1469 : (Jvm.Cond.code ({ cls := "java/lang/StringBuilder", name := "append", desc := "(C)Ljava/lang/StringBuilder;" } : Jvm.MethodName) prog_26_method_14_code (2 : Nat) (Option.some (Jvm.ClassFile.FieldType.object "java/lang/StringBuilder"))) ∈ lw_all := lw_g (lw_at lw_m6 181 rfl) rfl
theorem q1470 : (Jvm.Cond.methodLink "java/lang/StringBuilder" (50 : Nat) ({ cls := "java/lang/AbstractStringBuilder", name := "append", desc := "(C)Ljava/lang/AbstractStringBuilder;" } : Jvm.MethodName)) ∈ lw_all := lw_g (lw_at lw_m6 182 rfl) rfl
theorem q1548 : (Jvm.Cond.instanceMethod ({ cls := "java/lang/StringBuilder", name := "charAt", desc := "(I)C" } : Jvm.MethodName)) ∈ lw_all := lw_g (lw_at lw_m7 20 rfl) rfl
theorem q1549 : (Jvm.Cond.selects "java/lang/StringBuilder" ({ cls := "java/lang/StringBuilder", name := "charAt", desc := "(I)C" } : Jvm.MethodName) ({ cls := "java/lang/StringBuilder", name := "charAt", desc := "(I)C" } : Jvm.MethodName)) ∈ lw_all := lw_g (lw_at lw_m7 21 rfl) rfl
theorem q1550 : (Jvm.Cond.code ({ cls := "java/lang/StringBuilder", name := "charAt", desc := "(I)C" } : Jvm.MethodName) prog_26_method_88_code (2 : Nat) (Option.some Jvm.ClassFile.FieldType.char)) ∈ lw_all := lw_g (lw_at lw_m7 22 rfl) rfl
theorem q1551 : (Jvm.Cond.methodLink "java/lang/StringBuilder" (329 : Nat) ({ cls := "java/lang/AbstractStringBuilder", name := "charAt", desc := "(I)C" } : Jvm.MethodName)) ∈ lw_all := lw_g (lw_at lw_m7 23 rfl) rfl
theorem q2256 : (Jvm.Cond.selects "java/lang/StringBuilder" ({ cls := "java/lang/AbstractStringBuilder", name := "length", desc := "()I" } : Jvm.MethodName) ({ cls := "java/lang/StringBuilder", name := "length", desc := "()I" } : Jvm.MethodName)) ∈ lw_all := lw_g (lw_at lw_m10 8 rfl) rfl
theorem q2263 : (Jvm.Cond.castable "java/lang/StringBuilder" "java/lang/Object") ∈ lw_tbl := lw_at lw_m10 15 rfl
theorem in_J3 : ∀ w ∈ wsJ30, w ∈ lw_all := lw_in wsJ30 [236, 238, 240, 242] (by decide +kernel) (by decide +kernel)
/-! java/lang/String -/
def RJ4 : String := "java/lang/String"
def TJ4 : u_T := fun k => match k with
  | 0 => ("java/lang/String", "value", "[B", true)
  | 1 => ("java/lang/String", "coder", "B", true)
  | 2 => ("java/lang/String", "hash", "I", false)
  | _ => ("java/lang/String", "hashIsZero", "Z", false)
def tyJ4 : Nat → FieldType := fun k => match k with
  | 0 => .array .byte
  | 1 => .byte
  | 2 => .int
  | _ => .boolean
abbrev wsJ40 : List Cond := u_ws RJ4 TJ4 4
theorem nmJ4 : ∀ a, a < 4 → ∀ b, b < 4 → a ≠ b → (TJ4 a).2.1 ≠ (TJ4 b).2.1 := by decide +kernel
theorem tyJ4_ok : ∀ k, k < 4 → parseFieldDescriptor (TJ4 k).2.2.1 = some (tyJ4 k) := by decide +kernel
abbrev cJ4_checkBoundsBeginEnd : ByteArray := prog_25_method_158_code
def yJ4_checkBoundsBeginEnd : MethodName := ⟨RJ4, "checkBoundsBeginEnd", "(III)V"⟩
abbrev cJ4_length : ByteArray := prog_25_method_54_code
def yJ4_length : MethodName := ⟨RJ4, "length", "()I"⟩
abbrev cJ4_coder : ByteArray := prog_25_method_152_code
def yJ4_coder : MethodName := ⟨RJ4, "coder", "()B"⟩
abbrev cJ4_checkBoundsOffCount : ByteArray := prog_25_method_157_code
def yJ4_checkBoundsOffCount : MethodName := ⟨RJ4, "checkBoundsOffCount", "(III)I"⟩
abbrev cJ4_getBytes : ByteArray := prog_25_method_147_code
def yJ4_getBytes : MethodName := ⟨RJ4, "getBytes", "([BIB)V"⟩
abbrev cJ4_init : ByteArray := prog_25_method_53_code
def yJ4_init : MethodName := ⟨RJ4, "<init>", "(Ljava/lang/StringBuilder;)V"⟩
abbrev cJ4_init_2 : ByteArray := prog_25_method_150_code
def yJ4_init_2 : MethodName := ⟨RJ4, "<init>", "(Ljava/lang/AbstractStringBuilder;Ljava/lang/Void;)V"⟩
abbrev cJ4_checkIndex : ByteArray := prog_25_method_155_code
def yJ4_checkIndex : MethodName := ⟨RJ4, "checkIndex", "(II)V"⟩
abbrev cJ4_indexOf : ByteArray := prog_25_method_79_code
def yJ4_indexOf : MethodName := ⟨RJ4, "indexOf", "(I)I"⟩
abbrev cJ4_indexOf_2 : ByteArray := prog_25_method_80_code
def yJ4_indexOf_2 : MethodName := ⟨RJ4, "indexOf", "(II)I"⟩
abbrev cJ4_isLatin1 : ByteArray := prog_25_method_154_code
def yJ4_isLatin1 : MethodName := ⟨RJ4, "isLatin1", "()Z"⟩
theorem q95 : (Jvm.Cond.initialized "java/lang/String") ∈ lw_all := lw_g (lw_at lw_m1 7 rfl) rfl
theorem q223 : (Jvm.Cond.laysStatic "java/lang/String" "COMPACT_STRINGS" "Z") ∈ lw_tbl := lw_at lw_m1 135 rfl
theorem q234 : (Jvm.Cond.fieldLink "java/lang/String" (1048 : Nat) "java/lang/AbstractStringBuilder" "maybeLatin1" "Z") ∈ lw_all := lw_g (lw_at lw_m1 146 rfl) rfl
theorem q503 : (Jvm.Cond.selects "java/lang/String" ({ cls := "java/lang/Object", name := "getClass", desc := "()Ljava/lang/Class;" } : Jvm.MethodName) ({ cls := "java/lang/Object", name := "getClass", desc := "()Ljava/lang/Class;" } : Jvm.MethodName)) ∈ lw_all := lw_g (lw_at lw_m2 175 rfl) rfl
theorem q963 : (Jvm.Cond.static ({ cls := "java/lang/String", name := "checkBoundsBeginEnd", desc := "(III)V" } : Jvm.MethodName)) ∈ lw_all := lw_g (lw_at lw_m4 155 rfl) rfl
theorem q964 : (Jvm.Cond.code ({ cls := "java/lang/String", name := "checkBoundsBeginEnd", desc := "(III)V" } : Jvm.MethodName) prog_25_method_158_code (3 : Nat) (Option.none : Option Jvm.ClassFile.FieldType)) ∈ lw_all := lw_g (lw_at lw_m4 156 rfl) rfl
theorem q965 : (Jvm.Cond.fieldLink "java/lang/String" (1053 : Nat) "jdk/internal/util/Preconditions" "SIOOBE_FORMATTER" "Ljava/util/function/BiFunction;") ∈ lw_all := lw_g (lw_at lw_m4 157 rfl) rfl
theorem q967 : (Jvm.Cond.methodLink "java/lang/String" (1062 : Nat) ({ cls := "jdk/internal/util/Preconditions", name := "checkFromToIndex", desc := "(IIILjava/util/function/BiFunction;)I" } : Jvm.MethodName)) ∈ lw_all := lw_g (lw_at lw_m4 159 rfl) rfl
theorem q980 : (Jvm.Cond.instanceMethod ({ cls := "java/lang/String", name := "length", desc := "()I" } : Jvm.MethodName)) ∈ lw_all := lw_g (lw_at lw_m4 172 rfl) rfl
theorem q981 : (Jvm.Cond.selects "java/lang/String" ({ cls := "java/lang/String", name := "length", desc := "()I" } : Jvm.MethodName) ({ cls := "java/lang/String", name := "length", desc := "()I" } : Jvm.MethodName)) ∈ lw_all := lw_g (lw_at lw_m4 173 rfl) rfl
theorem q982 : (Jvm.Cond.code ({ cls := "java/lang/String", name := "length", desc := "()I" } : Jvm.MethodName) prog_25_method_54_code (1 : Nat) (Option.some Jvm.ClassFile.FieldType.int)) ∈ lw_all := lw_g (lw_at lw_m4 174 rfl) rfl
theorem q983 : (Jvm.Cond.methodLink "java/lang/String" (335 : Nat) ({ cls := "java/lang/String", name := "coder", desc := "()B" } : Jvm.MethodName)) ∈ lw_all := lw_g (lw_at lw_m4 175 rfl) rfl
theorem q984 : (Jvm.Cond.instanceMethod ({ cls := "java/lang/String", name := "coder", desc := "()B" } : Jvm.MethodName)) ∈ lw_all := lw_g (lw_at lw_m4 176 rfl) rfl
theorem q985 : (Jvm.Cond.selects "java/lang/String" ({ cls := "java/lang/String", name := "coder", desc := "()B" } : Jvm.MethodName) ({ cls := "java/lang/String", name := "coder", desc := "()B" } : Jvm.MethodName)) ∈ lw_all := lw_g (lw_at lw_m4 177 rfl) rfl
theorem q986 : (Jvm.Cond.code ({ cls := "java/lang/String", name := "coder", desc := "()B" } : Jvm.MethodName) prog_25_method_152_code (1 : Nat) (Option.some Jvm.ClassFile.FieldType.byte)) ∈ lw_all := lw_g (lw_at lw_m4 178 rfl) rfl
theorem q987 : (Jvm.Cond.fieldLink "java/lang/String" (38 : Nat) "java/lang/String" "COMPACT_STRINGS" "Z") ∈ lw_all := lw_g (lw_at lw_m4 179 rfl) rfl
theorem q1011 : (Jvm.Cond.static ({ cls := "java/lang/String", name := "checkBoundsOffCount", desc := "(III)I" } : Jvm.MethodName)) ∈ lw_all := lw_g (lw_at lw_m4 203 rfl) rfl
theorem q1012 : (Jvm.Cond.code ({ cls := "java/lang/String", name := "checkBoundsOffCount", desc := "(III)I" } : Jvm.MethodName) prog_25_method_157_code (3 : Nat) (Option.some Jvm.ClassFile.FieldType.int)) ∈ lw_all := lw_g (lw_at lw_m4 204 rfl) rfl
theorem q1013 : (Jvm.Cond.methodLink "java/lang/String" (1065 : Nat) ({ cls := "jdk/internal/util/Preconditions", name := "checkFromIndexSize", desc := "(IIILjava/util/function/BiFunction;)I" } : Jvm.MethodName)) ∈ lw_all := lw_g (lw_at lw_m4 205 rfl) rfl
theorem q1017 : (Jvm.Cond.instanceMethod ({ cls := "java/lang/String", name := "getBytes", desc := "([BIB)V" } : Jvm.MethodName)) ∈ lw_all := lw_g (lw_at lw_m4 209 rfl) rfl
theorem q1018 : (Jvm.Cond.selects "java/lang/String" ({ cls := "java/lang/String", name := "getBytes", desc := "([BIB)V" } : Jvm.MethodName) ({ cls := "java/lang/String", name := "getBytes", desc := "([BIB)V" } : Jvm.MethodName)) ∈ lw_all := lw_g (lw_at lw_m4 210 rfl) rfl
theorem q1019 : (Jvm.Cond.code ({ cls := "java/lang/String", name := "getBytes", desc := "([BIB)V" } : Jvm.MethodName) prog_25_method_147_code (4 : Nat) (Option.none : Option Jvm.ClassFile.FieldType)) ∈ lw_all := lw_g (lw_at lw_m4 211 rfl) rfl
theorem q1020 : (Jvm.Cond.methodLink "java/lang/String" (212 : Nat) ({ cls := "java/lang/System", name := "arraycopy", desc := "(Ljava/lang/Object;ILjava/lang/Object;II)V" } : Jvm.MethodName)) ∈ lw_all := lw_g (lw_at lw_m4 212 rfl) rfl
theorem q1021 : (Jvm.Cond.methodLink "java/lang/String" (106 : Nat) ({ cls := "java/lang/StringLatin1", name := "inflate", desc := "([BI[BII)V" } : Jvm.MethodName)) ∈ lw_all := lw_g (lw_at lw_m4 213 rfl) rfl
theorem q1054 : (Jvm.Cond.instantiable "java/lang/String" (4 : Nat)) ∈ lw_all := lw_g (lw_at lw_m5 6 rfl) rfl
theorem q1056 : (Jvm.Cond.instanceMethod ({ cls := "java/lang/String", name := "<init>", desc := "(Ljava/lang/StringBuilder;)V" } : Jvm.MethodName)) ∈ lw_all := lw_g (lw_at lw_m5 8 rfl) rfl
theorem q1057 : (Jvm.Cond.code ({ cls := "java/lang/String", name := "<init>", desc := "(Ljava/lang/StringBuilder;)V" } : Jvm.MethodName) prog_25_method_53_code (2 : Nat) (Option.none : Option Jvm.ClassFile.FieldType)) ∈ lw_all := lw_g (lw_at lw_m5 9 rfl) rfl
theorem q1058 : (Jvm.Cond.methodLink "java/lang/String" (489 : Nat) ({ cls := "java/lang/String", name := "<init>", desc := "(Ljava/lang/AbstractStringBuilder;Ljava/lang/Void;)V" } : Jvm.MethodName)) ∈ lw_all := lw_g (lw_at lw_m5 10 rfl) rfl
theorem q1059 : (Jvm.Cond.instanceMethod ({ cls := "java/lang/String", name := "<init>", desc := "(Ljava/lang/AbstractStringBuilder;Ljava/lang/Void;)V" } : Jvm.MethodName)) ∈ lw_all := lw_g (lw_at lw_m5 11 rfl) rfl
theorem q1060 : (Jvm.Cond.code ({ cls := "java/lang/String", name := "<init>", desc := "(Ljava/lang/AbstractStringBuilder;Ljava/lang/Void;)V" } : Jvm.MethodName) prog_25_method_150_code (5 : Nat) (Option.none : Option Jvm.ClassFile.FieldType)) ∈ lw_all := lw_g (lw_at lw_m5 12 rfl) rfl
theorem q1061 : (Jvm.Cond.methodLink "java/lang/String" (1 : Nat) ({ cls := "java/lang/Object", name := "<init>", desc := "()V" } : Jvm.MethodName)) ∈ lw_all := lw_g (lw_at lw_m5 13 rfl) rfl
theorem q1062 : (Jvm.Cond.methodLink "java/lang/String" (552 : Nat) ({ cls := "java/lang/AbstractStringBuilder", name := "getValue", desc := "()[B" } : Jvm.MethodName)) ∈ lw_all := lw_g (lw_at lw_m5 14 rfl) rfl
theorem q1067 : (Jvm.Cond.methodLink "java/lang/String" (549 : Nat) ({ cls := "java/lang/AbstractStringBuilder", name := "length", desc := "()I" } : Jvm.MethodName)) ∈ lw_all := lw_g (lw_at lw_m5 19 rfl) rfl
theorem q1068 : (Jvm.Cond.methodLink "java/lang/String" (1047 : Nat) ({ cls := "java/lang/AbstractStringBuilder", name := "isLatin1", desc := "()Z" } : Jvm.MethodName)) ∈ lw_all := lw_g (lw_at lw_m5 20 rfl) rfl
theorem q1069 : (Jvm.Cond.methodLink "java/lang/String" (54 : Nat) ({ cls := "java/util/Arrays", name := "copyOfRange", desc := "([BII)[B" } : Jvm.MethodName)) ∈ lw_all := lw_g (lw_at lw_m5 21 rfl) rfl
theorem q1083 : (Jvm.Cond.methodLink "java/lang/String" (1051 : Nat) ({ cls := "java/lang/StringUTF16", name := "compress", desc := "([BII)[B" } : Jvm.MethodName)) ∈ lw_all := lw_g (lw_at lw_m5 35 rfl) rfl
theorem q1093 : (Jvm.Cond.methodLink "java/lang/String" (47 : Nat) ({ cls := "java/lang/StringUTF16", name := "coderFromArrayLen", desc := "([BI)B" } : Jvm.MethodName)) ∈ lw_all := lw_g (lw_at lw_m5 45 rfl) rfl
theorem q1096 : (Jvm.Cond.fieldLink "java/lang/String" (9 : Nat) "java/lang/String" "value" "[B") ∈ lw_all := lw_g (lw_at lw_m5 48 rfl) rfl
theorem q1097 : (Jvm.Cond.fieldLink "java/lang/String" (15 : Nat) "java/lang/String" "coder" "B") ∈ lw_all := lw_g (lw_at lw_m5 49 rfl) rfl
theorem q1098 : (Jvm.Cond.laysFinal "java/lang/String" "java/lang/String" "value" "[B") ∈ lw_all := lw_g (lw_at lw_m5 50 rfl) rfl
theorem q1099 : (Jvm.Cond.soleField "java/lang/String" "value") ∈ lw_all := lw_g (lw_at lw_m5 51 rfl) rfl
theorem q1100 : (Jvm.Cond.laysFinal "java/lang/String" "java/lang/String" "coder" "B") ∈ lw_all := lw_g (lw_at lw_m5 52 rfl) rfl
theorem q1101 : (Jvm.Cond.soleField "java/lang/String" "coder") ∈ lw_all := lw_g (lw_at lw_m5 53 rfl) rfl
theorem q1102 : (Jvm.Cond.lays "java/lang/String" "java/lang/String" "hash" "I") ∈ lw_all := lw_g (lw_at lw_m5 54 rfl) rfl
theorem q1103 : (Jvm.Cond.soleField "java/lang/String" "hash") ∈ lw_all := lw_g (lw_at lw_m5 55 rfl) rfl
theorem q1104 : (Jvm.Cond.lays "java/lang/String" "java/lang/String" "hashIsZero" "Z") ∈ lw_all := lw_g (lw_at lw_m5 56 rfl) rfl
theorem q1105 : (Jvm.Cond.soleField "java/lang/String" "hashIsZero") ∈ lw_all := lw_g (lw_at lw_m5 57 rfl) rfl
theorem q1106 : (Jvm.Cond.superclass "java/lang/String" "java/lang/Object") ∈ lw_all := lw_g (lw_at lw_m5 58 rfl) rfl
theorem q1483 : (Jvm.Cond.static ({ cls := "java/lang/String", name := "checkIndex", desc := "(II)V" } : Jvm.MethodName)) ∈ lw_all := lw_g (lw_at lw_m6 195 rfl) rfl
theorem q1484 : (Jvm.Cond.code ({ cls := "java/lang/String", name := "checkIndex", desc := "(II)V" } : Jvm.MethodName) prog_25_method_155_code (2 : Nat) (Option.none : Option Jvm.ClassFile.FieldType)) ∈ lw_all := lw_g (lw_at lw_m6 196 rfl) rfl
theorem q1485 : (Jvm.Cond.methodLink "java/lang/String" (1059 : Nat) ({ cls := "jdk/internal/util/Preconditions", name := "checkIndex", desc := "(IILjava/util/function/BiFunction;)I" } : Jvm.MethodName)) ∈ lw_all := lw_g (lw_at lw_m6 197 rfl) rfl
theorem q1559 : (Jvm.Cond.instanceMethod ({ cls := "java/lang/String", name := "indexOf", desc := "(I)I" } : Jvm.MethodName)) ∈ lw_all := lw_g (lw_at lw_m7 31 rfl) rfl
theorem q1560 : (Jvm.Cond.selects "java/lang/String" ({ cls := "java/lang/String", name := "indexOf", desc := "(I)I" } : Jvm.MethodName) ({ cls := "java/lang/String", name := "indexOf", desc := "(I)I" } : Jvm.MethodName)) ∈ lw_all := lw_g (lw_at lw_m7 32 rfl) rfl
theorem q1561 : (Jvm.Cond.code ({ cls := "java/lang/String", name := "indexOf", desc := "(I)I" } : Jvm.MethodName) prog_25_method_79_code (2 : Nat) (Option.some Jvm.ClassFile.FieldType.int)) ∈ lw_all := lw_g (lw_at lw_m7 33 rfl) rfl
theorem q1562 : (Jvm.Cond.methodLink "java/lang/String" (633 : Nat) ({ cls := "java/lang/String", name := "indexOf", desc := "(II)I" } : Jvm.MethodName)) ∈ lw_all := lw_g (lw_at lw_m7 34 rfl) rfl
theorem q1563 : (Jvm.Cond.instanceMethod ({ cls := "java/lang/String", name := "indexOf", desc := "(II)I" } : Jvm.MethodName)) ∈ lw_all := lw_g (lw_at lw_m7 35 rfl) rfl
theorem q1564 : (Jvm.Cond.selects "java/lang/String" ({ cls := "java/lang/String", name := "indexOf", desc := "(II)I" } : Jvm.MethodName) ({ cls := "java/lang/String", name := "indexOf", desc := "(II)I" } : Jvm.MethodName)) ∈ lw_all := lw_g (lw_at lw_m7 36 rfl) rfl
theorem q1565 : (Jvm.Cond.code ({ cls := "java/lang/String", name := "indexOf", desc := "(II)I" } : Jvm.MethodName) prog_25_method_80_code (3 : Nat) (Option.some Jvm.ClassFile.FieldType.int)) ∈ lw_all := lw_g (lw_at lw_m7 37 rfl) rfl
theorem q1566 : (Jvm.Cond.methodLink "java/lang/String" (492 : Nat) ({ cls := "java/lang/String", name := "isLatin1", desc := "()Z" } : Jvm.MethodName)) ∈ lw_all := lw_g (lw_at lw_m7 38 rfl) rfl
theorem q1567 : (Jvm.Cond.instanceMethod ({ cls := "java/lang/String", name := "isLatin1", desc := "()Z" } : Jvm.MethodName)) ∈ lw_all := lw_g (lw_at lw_m7 39 rfl) rfl
theorem q1568 : (Jvm.Cond.selects "java/lang/String" ({ cls := "java/lang/String", name := "isLatin1", desc := "()Z" } : Jvm.MethodName) ({ cls := "java/lang/String", name := "isLatin1", desc := "()Z" } : Jvm.MethodName)) ∈ lw_all := lw_g (lw_at lw_m7 40 rfl) rfl
theorem q1569 : (Jvm.Cond.code ({ cls := "java/lang/String", name := "isLatin1", desc := "()Z" } : Jvm.MethodName) prog_25_method_154_code (1 : Nat) (Option.some Jvm.ClassFile.FieldType.boolean)) ∈ lw_all := lw_g (lw_at lw_m7 41 rfl) rfl
theorem q1570 : (Jvm.Cond.methodLink "java/lang/String" (505 : Nat) ({ cls := "java/lang/String", name := "length", desc := "()I" } : Jvm.MethodName)) ∈ lw_all := lw_g (lw_at lw_m7 42 rfl) rfl
theorem q1571 : (Jvm.Cond.methodLink "java/lang/String" (637 : Nat) ({ cls := "java/lang/StringLatin1", name := "indexOf", desc := "([BIII)I" } : Jvm.MethodName)) ∈ lw_all := lw_g (lw_at lw_m7 43 rfl) rfl
theorem q1582 : (Jvm.Cond.methodLink "java/lang/String" (640 : Nat) ({ cls := "java/lang/StringUTF16", name := "indexOf", desc := "([BIII)I" } : Jvm.MethodName)) ∈ lw_all := lw_g (lw_at lw_m7 54 rfl) rfl
theorem q2272 : (Jvm.Cond.castable "java/lang/String" "java/lang/Object") ∈ lw_tbl := lw_at lw_m10 24 rfl
theorem in_J4 : ∀ w ∈ wsJ40, w ∈ lw_all := lw_in wsJ40 [1098, 1100, 1102, 1104] (by decide +kernel) (by decide +kernel)
/-! java/lang/StringUTF16 -/
def RJ5 : String := "java/lang/StringUTF16"
abbrev cJ5_newBytesFor : ByteArray := prog_28_method_2_code
def yJ5_newBytesFor : MethodName := ⟨RJ5, "newBytesFor", "(I)[B"⟩
abbrev cJ5_newBytesLength : ByteArray := prog_28_method_3_code
def yJ5_newBytesLength : MethodName := ⟨RJ5, "newBytesLength", "(I)I"⟩
abbrev cJ5_putCharsAt : ByteArray := prog_28_method_81_code
def yJ5_putCharsAt : MethodName := ⟨RJ5, "putCharsAt", "([BICCCC)I"⟩
abbrev cJ5_checkBoundsBeginEnd : ByteArray := prog_28_method_93_code
def yJ5_checkBoundsBeginEnd : MethodName := ⟨RJ5, "checkBoundsBeginEnd", "(II[B)V"⟩
abbrev cJ5_length : ByteArray := prog_28_method_6_code
def yJ5_length : MethodName := ⟨RJ5, "length", "([B)I"⟩
abbrev cJ5_putChar : ByteArray := prog_28_method_4_code
def yJ5_putChar : MethodName := ⟨RJ5, "putChar", "([BII)V"⟩
abbrev cJ5_inflate : ByteArray := prog_28_method_86_code
def yJ5_inflate : MethodName := ⟨RJ5, "inflate", "([BI[BII)V"⟩
abbrev cJ5_checkBoundsOffCount : ByteArray := prog_28_method_94_code
def yJ5_checkBoundsOffCount : MethodName := ⟨RJ5, "checkBoundsOffCount", "(II[B)V"⟩
abbrev cJ5_getChars : ByteArray := prog_28_method_77_code
def yJ5_getChars : MethodName := ⟨RJ5, "getChars", "(III[B)I"⟩
abbrev cJ5_getChars_2 : ByteArray := prog_28_method_89_code
def yJ5_getChars_2 : MethodName := ⟨RJ5, "getChars", "(II[B)I"⟩
abbrev cJ5_compress : ByteArray := prog_28_method_17_code
def yJ5_compress : MethodName := ⟨RJ5, "compress", "([BII)[B"⟩
abbrev cJ5_compress_2 : ByteArray := prog_28_method_22_code
def yJ5_compress_2 : MethodName := ⟨RJ5, "compress", "([BI[BII)I"⟩
abbrev cJ5_getChar : ByteArray := prog_28_method_5_code
def yJ5_getChar : MethodName := ⟨RJ5, "getChar", "([BI)C"⟩
abbrev cJ5_coderFromArrayLen : ByteArray := prog_28_method_15_code
def yJ5_coderFromArrayLen : MethodName := ⟨RJ5, "coderFromArrayLen", "([BI)B"⟩
abbrev cJ5_fillNull : ByteArray := prog_28_method_70_code
def yJ5_fillNull : MethodName := ⟨RJ5, "fillNull", "([BII)V"⟩
abbrev cJ5_putCharSB : ByteArray := prog_28_method_71_code
def yJ5_putCharSB : MethodName := ⟨RJ5, "putCharSB", "([BII)V"⟩
abbrev cJ5_checkIndex : ByteArray := prog_28_method_91_code
def yJ5_checkIndex : MethodName := ⟨RJ5, "checkIndex", "(I[B)V"⟩
abbrev cJ5_indexOf : ByteArray := prog_28_method_40_code
def yJ5_indexOf : MethodName := ⟨RJ5, "indexOf", "([BIII)I"⟩
abbrev cJ5_indexOfChar : ByteArray := prog_28_method_47_code
def yJ5_indexOfChar : MethodName := ⟨RJ5, "indexOfChar", "([BIII)I"⟩
abbrev cJ5_indexOfCharUnsafe : ByteArray := prog_28_method_48_code
def yJ5_indexOfCharUnsafe : MethodName := ⟨RJ5, "indexOfCharUnsafe", "([BIII)I"⟩
abbrev cJ5_indexOfSupplementary : ByteArray := prog_28_method_49_code
def yJ5_indexOfSupplementary : MethodName := ⟨RJ5, "indexOfSupplementary", "([BIII)I"⟩
theorem q96 : (Jvm.Cond.initialized "java/lang/StringUTF16") ∈ lw_all := lw_g (lw_at lw_m1 8 rfl) rfl
theorem q225 : (Jvm.Cond.static ({ cls := "java/lang/StringUTF16", name := "newBytesFor", desc := "(I)[B" } : Jvm.MethodName)) ∈ lw_all := lw_g (lw_at lw_m1 137 rfl) rfl
theorem q226 : (Jvm.Cond.code ({ cls := "java/lang/StringUTF16", name := "newBytesFor", desc := "(I)[B" } : Jvm.MethodName) prog_28_method_2_code (1 : Nat) (Option.some (Jvm.ClassFile.FieldType.array Jvm.ClassFile.FieldType.byte))) ∈ lw_all := lw_g (lw_at lw_m1 138 rfl) rfl
theorem q227 : (Jvm.Cond.methodLink "java/lang/StringUTF16" (11 : Nat) ({ cls := "java/lang/StringUTF16", name := "newBytesLength", desc := "(I)I" } : Jvm.MethodName)) ∈ lw_all := lw_g (lw_at lw_m1 139 rfl) rfl
theorem q228 : (Jvm.Cond.static ({ cls := "java/lang/StringUTF16", name := "newBytesLength", desc := "(I)I" } : Jvm.MethodName)) ∈ lw_all := lw_g (lw_at lw_m1 140 rfl) rfl
theorem q229 : (Jvm.Cond.code ({ cls := "java/lang/StringUTF16", name := "newBytesLength", desc := "(I)I" } : Jvm.MethodName) prog_28_method_3_code (1 : Nat) (Option.some Jvm.ClassFile.FieldType.int)) ∈ lw_all := lw_g (lw_at lw_m1 141 rfl) rfl
theorem q230 : (Jvm.Cond.constant "java/lang/StringUTF16" (20 : Nat) (1073741823 : Int32)) ∈ lw_all := lw_g (lw_at lw_m1 142 rfl) rfl
theorem q954 : (Jvm.Cond.static ({ cls := "java/lang/StringUTF16", name := "putCharsAt", desc := "([BICCCC)I" } : Jvm.MethodName)) ∈ lw_all := lw_g (lw_at lw_m4 146 rfl) rfl
theorem q955 : (Jvm.Cond.code ({ cls := "java/lang/StringUTF16", name := "putCharsAt", desc := "([BICCCC)I" } : Jvm.MethodName) prog_28_method_81_code (7 : Nat) (Option.some Jvm.ClassFile.FieldType.int)) ∈ lw_all := lw_g (lw_at lw_m4 147 rfl) rfl
theorem q956 : (Jvm.Cond.methodLink "java/lang/StringUTF16" (96 : Nat) ({ cls := "java/lang/StringUTF16", name := "checkBoundsBeginEnd", desc := "(II[B)V" } : Jvm.MethodName)) ∈ lw_all := lw_g (lw_at lw_m4 148 rfl) rfl
theorem q957 : (Jvm.Cond.static ({ cls := "java/lang/StringUTF16", name := "checkBoundsBeginEnd", desc := "(II[B)V" } : Jvm.MethodName)) ∈ lw_all := lw_g (lw_at lw_m4 149 rfl) rfl
theorem q958 : (Jvm.Cond.code ({ cls := "java/lang/StringUTF16", name := "checkBoundsBeginEnd", desc := "(II[B)V" } : Jvm.MethodName) prog_28_method_93_code (3 : Nat) (Option.none : Option Jvm.ClassFile.FieldType)) ∈ lw_all := lw_g (lw_at lw_m4 150 rfl) rfl
theorem q959 : (Jvm.Cond.methodLink "java/lang/StringUTF16" (48 : Nat) ({ cls := "java/lang/StringUTF16", name := "length", desc := "([B)I" } : Jvm.MethodName)) ∈ lw_all := lw_g (lw_at lw_m4 151 rfl) rfl
theorem q960 : (Jvm.Cond.static ({ cls := "java/lang/StringUTF16", name := "length", desc := "([B)I" } : Jvm.MethodName)) ∈ lw_all := lw_g (lw_at lw_m4 152 rfl) rfl
theorem q961 : (Jvm.Cond.code ({ cls := "java/lang/StringUTF16", name := "length", desc := "([B)I" } : Jvm.MethodName) prog_28_method_6_code (1 : Nat) (Option.some Jvm.ClassFile.FieldType.int)) ∈ lw_all := lw_g (lw_at lw_m4 153 rfl) rfl
theorem q962 : (Jvm.Cond.methodLink "java/lang/StringUTF16" (241 : Nat) ({ cls := "java/lang/String", name := "checkBoundsBeginEnd", desc := "(III)V" } : Jvm.MethodName)) ∈ lw_all := lw_g (lw_at lw_m4 154 rfl) rfl
theorem q970 : (Jvm.Cond.methodLink "java/lang/StringUTF16" (111 : Nat) ({ cls := "java/lang/StringUTF16", name := "putChar", desc := "([BII)V" } : Jvm.MethodName)) ∈ lw_all := lw_g (lw_at lw_m4 162 rfl) rfl
theorem q971 : (Jvm.Cond.static ({ cls := "java/lang/StringUTF16", name := "putChar", desc := "([BII)V" } : Jvm.MethodName)) ∈ lw_all := lw_g (lw_at lw_m4 163 rfl) rfl
theorem q972 : (Jvm.Cond.code ({ cls := "java/lang/StringUTF16", name := "putChar", desc := "([BII)V" } : Jvm.MethodName) prog_28_method_4_code (3 : Nat) (Option.none : Option Jvm.ClassFile.FieldType)) ∈ lw_all := lw_g (lw_at lw_m4 164 rfl) rfl
theorem q973 : (Jvm.Cond.fieldLink "java/lang/StringUTF16" (44 : Nat) "java/lang/StringUTF16" "$assertionsDisabled" "Z") ∈ lw_all := lw_g (lw_at lw_m4 165 rfl) rfl
theorem q974 : (Jvm.Cond.laysStatic "java/lang/StringUTF16" "$assertionsDisabled" "Z") ∈ lw_tbl := lw_at lw_m4 166 rfl
theorem q975 : (Jvm.Cond.fieldLink "java/lang/StringUTF16" (59 : Nat) "java/lang/StringUTF16" "HI_BYTE_SHIFT" "I") ∈ lw_all := lw_g (lw_at lw_m4 167 rfl) rfl
theorem q976 : (Jvm.Cond.laysStatic "java/lang/StringUTF16" "HI_BYTE_SHIFT" "I") ∈ lw_tbl := lw_at lw_m4 168 rfl
theorem q977 : (Jvm.Cond.fieldLink "java/lang/StringUTF16" (63 : Nat) "java/lang/StringUTF16" "LO_BYTE_SHIFT" "I") ∈ lw_all := lw_g (lw_at lw_m4 169 rfl) rfl
theorem q978 : (Jvm.Cond.laysStatic "java/lang/StringUTF16" "LO_BYTE_SHIFT" "I") ∈ lw_tbl := lw_at lw_m4 170 rfl
theorem q1005 : (Jvm.Cond.static ({ cls := "java/lang/StringUTF16", name := "inflate", desc := "([BI[BII)V" } : Jvm.MethodName)) ∈ lw_all := lw_g (lw_at lw_m4 197 rfl) rfl
theorem q1006 : (Jvm.Cond.code ({ cls := "java/lang/StringUTF16", name := "inflate", desc := "([BI[BII)V" } : Jvm.MethodName) prog_28_method_86_code (6 : Nat) (Option.none : Option Jvm.ClassFile.FieldType)) ∈ lw_all := lw_g (lw_at lw_m4 198 rfl) rfl
theorem q1007 : (Jvm.Cond.methodLink "java/lang/StringUTF16" (173 : Nat) ({ cls := "java/lang/StringUTF16", name := "checkBoundsOffCount", desc := "(II[B)V" } : Jvm.MethodName)) ∈ lw_all := lw_g (lw_at lw_m4 199 rfl) rfl
theorem q1008 : (Jvm.Cond.static ({ cls := "java/lang/StringUTF16", name := "checkBoundsOffCount", desc := "(II[B)V" } : Jvm.MethodName)) ∈ lw_all := lw_g (lw_at lw_m4 200 rfl) rfl
theorem q1009 : (Jvm.Cond.code ({ cls := "java/lang/StringUTF16", name := "checkBoundsOffCount", desc := "(II[B)V" } : Jvm.MethodName) prog_28_method_94_code (3 : Nat) (Option.none : Option Jvm.ClassFile.FieldType)) ∈ lw_all := lw_g (lw_at lw_m4 201 rfl) rfl
theorem q1010 : (Jvm.Cond.methodLink "java/lang/StringUTF16" (419 : Nat) ({ cls := "java/lang/String", name := "checkBoundsOffCount", desc := "(III)I" } : Jvm.MethodName)) ∈ lw_all := lw_g (lw_at lw_m4 202 rfl) rfl
theorem q1040 : (Jvm.Cond.static ({ cls := "java/lang/StringUTF16", name := "getChars", desc := "(III[B)I" } : Jvm.MethodName)) ∈ lw_all := lw_g (lw_at lw_m4 232 rfl) rfl
theorem q1041 : (Jvm.Cond.code ({ cls := "java/lang/StringUTF16", name := "getChars", desc := "(III[B)I" } : Jvm.MethodName) prog_28_method_77_code (5 : Nat) (Option.some Jvm.ClassFile.FieldType.int)) ∈ lw_all := lw_g (lw_at lw_m4 233 rfl) rfl
theorem q1042 : (Jvm.Cond.methodLink "java/lang/StringUTF16" (393 : Nat) ({ cls := "java/lang/StringUTF16", name := "getChars", desc := "(II[B)I" } : Jvm.MethodName)) ∈ lw_all := lw_g (lw_at lw_m4 234 rfl) rfl
theorem q1043 : (Jvm.Cond.static ({ cls := "java/lang/StringUTF16", name := "getChars", desc := "(II[B)I" } : Jvm.MethodName)) ∈ lw_all := lw_g (lw_at lw_m4 235 rfl) rfl
theorem q1044 : (Jvm.Cond.code ({ cls := "java/lang/StringUTF16", name := "getChars", desc := "(II[B)I" } : Jvm.MethodName) prog_28_method_89_code (7 : Nat) (Option.some Jvm.ClassFile.FieldType.int)) ∈ lw_all := lw_g (lw_at lw_m4 236 rfl) rfl
theorem q1045 : (Jvm.Cond.fieldLink "java/lang/StringUTF16" (403 : Nat) "java/lang/Integer" "DigitOnes" "[B") ∈ lw_all := lw_g (lw_at lw_m4 237 rfl) rfl
theorem q1046 : (Jvm.Cond.fieldLink "java/lang/StringUTF16" (407 : Nat) "java/lang/Integer" "DigitTens" "[B") ∈ lw_all := lw_g (lw_at lw_m4 238 rfl) rfl
theorem q1084 : (Jvm.Cond.static ({ cls := "java/lang/StringUTF16", name := "compress", desc := "([BII)[B" } : Jvm.MethodName)) ∈ lw_all := lw_g (lw_at lw_m5 36 rfl) rfl
theorem q1085 : (Jvm.Cond.code ({ cls := "java/lang/StringUTF16", name := "compress", desc := "([BII)[B" } : Jvm.MethodName) prog_28_method_17_code (6 : Nat) (Option.some (Jvm.ClassFile.FieldType.array Jvm.ClassFile.FieldType.byte))) ∈ lw_all := lw_g (lw_at lw_m5 37 rfl) rfl
theorem q1086 : (Jvm.Cond.methodLink "java/lang/StringUTF16" (123 : Nat) ({ cls := "java/lang/StringUTF16", name := "compress", desc := "([BI[BII)I" } : Jvm.MethodName)) ∈ lw_all := lw_g (lw_at lw_m5 38 rfl) rfl
theorem q1087 : (Jvm.Cond.static ({ cls := "java/lang/StringUTF16", name := "compress", desc := "([BI[BII)I" } : Jvm.MethodName)) ∈ lw_all := lw_g (lw_at lw_m5 39 rfl) rfl
theorem q1088 : (Jvm.Cond.code ({ cls := "java/lang/StringUTF16", name := "compress", desc := "([BI[BII)I" } : Jvm.MethodName) prog_28_method_22_code (7 : Nat) (Option.some Jvm.ClassFile.FieldType.int)) ∈ lw_all := lw_g (lw_at lw_m5 40 rfl) rfl
theorem q1089 : (Jvm.Cond.methodLink "java/lang/StringUTF16" (71 : Nat) ({ cls := "java/lang/StringUTF16", name := "getChar", desc := "([BI)C" } : Jvm.MethodName)) ∈ lw_all := lw_g (lw_at lw_m5 41 rfl) rfl
theorem q1090 : (Jvm.Cond.static ({ cls := "java/lang/StringUTF16", name := "getChar", desc := "([BI)C" } : Jvm.MethodName)) ∈ lw_all := lw_g (lw_at lw_m5 42 rfl) rfl
theorem q1091 : (Jvm.Cond.code ({ cls := "java/lang/StringUTF16", name := "getChar", desc := "([BI)C" } : Jvm.MethodName) prog_28_method_5_code (2 : Nat) (Option.some Jvm.ClassFile.FieldType.char)) ∈ lw_all := lw_g (lw_at lw_m5 43 rfl) rfl
theorem q1092 : (Jvm.Cond.methodLink "java/lang/StringUTF16" (126 : Nat) ({ cls := "java/util/Arrays", name := "copyOfRange", desc := "([BII)[B" } : Jvm.MethodName)) ∈ lw_all := lw_g (lw_at lw_m5 44 rfl) rfl
theorem q1094 : (Jvm.Cond.static ({ cls := "java/lang/StringUTF16", name := "coderFromArrayLen", desc := "([BI)B" } : Jvm.MethodName)) ∈ lw_all := lw_g (lw_at lw_m5 46 rfl) rfl
theorem q1095 : (Jvm.Cond.code ({ cls := "java/lang/StringUTF16", name := "coderFromArrayLen", desc := "([BI)B" } : Jvm.MethodName) prog_28_method_15_code (2 : Nat) (Option.some Jvm.ClassFile.FieldType.byte)) ∈ lw_all := lw_g (lw_at lw_m5 47 rfl) rfl
theorem q1108 : (Jvm.Cond.static ({ cls := "java/lang/StringUTF16", name := "fillNull", desc := "([BII)V" } : Jvm.MethodName)) ∈ lw_all := lw_g (lw_at lw_m5 60 rfl) rfl
theorem q1109 : (Jvm.Cond.code ({ cls := "java/lang/StringUTF16", name := "fillNull", desc := "([BII)V" } : Jvm.MethodName) prog_28_method_70_code (3 : Nat) (Option.none : Option Jvm.ClassFile.FieldType)) ∈ lw_all := lw_g (lw_at lw_m5 61 rfl) rfl
theorem q1110 : (Jvm.Cond.methodLink "java/lang/StringUTF16" (380 : Nat) ({ cls := "java/util/Arrays", name := "fill", desc := "([BIIB)V" } : Jvm.MethodName)) ∈ lw_all := lw_g (lw_at lw_m5 62 rfl) rfl
theorem q1477 : (Jvm.Cond.static ({ cls := "java/lang/StringUTF16", name := "putCharSB", desc := "([BII)V" } : Jvm.MethodName)) ∈ lw_all := lw_g (lw_at lw_m6 189 rfl) rfl
theorem q1478 : (Jvm.Cond.code ({ cls := "java/lang/StringUTF16", name := "putCharSB", desc := "([BII)V" } : Jvm.MethodName) prog_28_method_71_code (3 : Nat) (Option.none : Option Jvm.ClassFile.FieldType)) ∈ lw_all := lw_g (lw_at lw_m6 190 rfl) rfl
theorem q1479 : (Jvm.Cond.methodLink "java/lang/StringUTF16" (67 : Nat) ({ cls := "java/lang/StringUTF16", name := "checkIndex", desc := "(I[B)V" } : Jvm.MethodName)) ∈ lw_all := lw_g (lw_at lw_m6 191 rfl) rfl
theorem q1480 : (Jvm.Cond.static ({ cls := "java/lang/StringUTF16", name := "checkIndex", desc := "(I[B)V" } : Jvm.MethodName)) ∈ lw_all := lw_g (lw_at lw_m6 192 rfl) rfl
theorem q1481 : (Jvm.Cond.code ({ cls := "java/lang/StringUTF16", name := "checkIndex", desc := "(I[B)V" } : Jvm.MethodName) prog_28_method_91_code (2 : Nat) (Option.none : Option Jvm.ClassFile.FieldType)) ∈ lw_all := lw_g (lw_at lw_m6 193 rfl) rfl
theorem q1482 : (Jvm.Cond.methodLink "java/lang/StringUTF16" (414 : Nat) ({ cls := "java/lang/String", name := "checkIndex", desc := "(II)V" } : Jvm.MethodName)) ∈ lw_all := lw_g (lw_at lw_m6 194 rfl) rfl
theorem q1583 : (Jvm.Cond.static ({ cls := "java/lang/StringUTF16", name := "indexOf", desc := "([BIII)I" } : Jvm.MethodName)) ∈ lw_all := lw_g (lw_at lw_m7 55 rfl) rfl
theorem q1584 : (Jvm.Cond.code ({ cls := "java/lang/StringUTF16", name := "indexOf", desc := "([BIII)I" } : Jvm.MethodName) prog_28_method_40_code (4 : Nat) (Option.some Jvm.ClassFile.FieldType.int)) ∈ lw_all := lw_g (lw_at lw_m7 56 rfl) rfl
theorem q1585 : (Jvm.Cond.methodLink "java/lang/StringUTF16" (224 : Nat) ({ cls := "java/lang/Math", name := "max", desc := "(II)I" } : Jvm.MethodName)) ∈ lw_all := lw_g (lw_at lw_m7 57 rfl) rfl
theorem q1586 : (Jvm.Cond.methodLink "java/lang/StringUTF16" (183 : Nat) ({ cls := "java/lang/Math", name := "min", desc := "(II)I" } : Jvm.MethodName)) ∈ lw_all := lw_g (lw_at lw_m7 58 rfl) rfl
theorem q1587 : (Jvm.Cond.constant "java/lang/StringUTF16" (227 : Nat) (65536 : Int32)) ∈ lw_all := lw_g (lw_at lw_m7 59 rfl) rfl
theorem q1588 : (Jvm.Cond.methodLink "java/lang/StringUTF16" (228 : Nat) ({ cls := "java/lang/StringUTF16", name := "indexOfChar", desc := "([BIII)I" } : Jvm.MethodName)) ∈ lw_all := lw_g (lw_at lw_m7 60 rfl) rfl
theorem q1589 : (Jvm.Cond.static ({ cls := "java/lang/StringUTF16", name := "indexOfChar", desc := "([BIII)I" } : Jvm.MethodName)) ∈ lw_all := lw_g (lw_at lw_m7 61 rfl) rfl
theorem q1590 : (Jvm.Cond.code ({ cls := "java/lang/StringUTF16", name := "indexOfChar", desc := "([BIII)I" } : Jvm.MethodName) prog_28_method_47_code (4 : Nat) (Option.some Jvm.ClassFile.FieldType.int)) ∈ lw_all := lw_g (lw_at lw_m7 62 rfl) rfl
theorem q1591 : (Jvm.Cond.methodLink "java/lang/StringUTF16" (244 : Nat) ({ cls := "java/lang/StringUTF16", name := "indexOfCharUnsafe", desc := "([BIII)I" } : Jvm.MethodName)) ∈ lw_all := lw_g (lw_at lw_m7 63 rfl) rfl
theorem q1592 : (Jvm.Cond.static ({ cls := "java/lang/StringUTF16", name := "indexOfCharUnsafe", desc := "([BIII)I" } : Jvm.MethodName)) ∈ lw_all := lw_g (lw_at lw_m7 64 rfl) rfl
theorem q1593 : (Jvm.Cond.code ({ cls := "java/lang/StringUTF16", name := "indexOfCharUnsafe", desc := "([BIII)I" } : Jvm.MethodName) prog_28_method_48_code (5 : Nat) (Option.some Jvm.ClassFile.FieldType.int)) ∈ lw_all := lw_g (lw_at lw_m7 65 rfl) rfl
theorem q1594 : (Jvm.Cond.methodLink "java/lang/StringUTF16" (232 : Nat) ({ cls := "java/lang/StringUTF16", name := "indexOfSupplementary", desc := "([BIII)I" } : Jvm.MethodName)) ∈ lw_all := lw_g (lw_at lw_m7 66 rfl) rfl
theorem q1595 : (Jvm.Cond.static ({ cls := "java/lang/StringUTF16", name := "indexOfSupplementary", desc := "([BIII)I" } : Jvm.MethodName)) ∈ lw_all := lw_g (lw_at lw_m7 67 rfl) rfl
theorem q1596 : (Jvm.Cond.code ({ cls := "java/lang/StringUTF16", name := "indexOfSupplementary", desc := "([BIII)I" } : Jvm.MethodName) prog_28_method_49_code (7 : Nat) (Option.some Jvm.ClassFile.FieldType.int)) ∈ lw_all := lw_g (lw_at lw_m7 68 rfl) rfl
theorem q1597 : (Jvm.Cond.methodLink "java/lang/StringUTF16" (164 : Nat) ({ cls := "java/lang/Character", name := "isValidCodePoint", desc := "(I)Z" } : Jvm.MethodName)) ∈ lw_all := lw_g (lw_at lw_m7 69 rfl) rfl
theorem q1600 : (Jvm.Cond.methodLink "java/lang/StringUTF16" (157 : Nat) ({ cls := "java/lang/Character", name := "highSurrogate", desc := "(I)C" } : Jvm.MethodName)) ∈ lw_all := lw_g (lw_at lw_m7 72 rfl) rfl
theorem q1604 : (Jvm.Cond.methodLink "java/lang/StringUTF16" (161 : Nat) ({ cls := "java/lang/Character", name := "lowSurrogate", desc := "(I)C" } : Jvm.MethodName)) ∈ lw_all := lw_g (lw_at lw_m7 76 rfl) rfl
/-! java/lang/Throwable -/
def RJ6 : String := "java/lang/Throwable"
def TJ6 : u_T := fun k => match k with
  | 0 => ("java/lang/Throwable", "cause", "Ljava/lang/Throwable;", false)
  | 1 => ("java/lang/Throwable", "stackTrace", "[Ljava/lang/StackTraceElement;", false)
  | 2 => ("java/lang/Throwable", "suppressedExceptions", "Ljava/util/List;", false)
  | 3 => ("java/lang/Throwable", "detailMessage", "Ljava/lang/String;", false)
  | _ => ("java/lang/Throwable", "backtrace", "Ljava/lang/Object;", false)
def tyJ6 : Nat → FieldType := fun k => match k with
  | 0 => .object "java/lang/Throwable"
  | 1 => .array (.object "java/lang/StackTraceElement")
  | 2 => .object "java/util/List"
  | 3 => .object "java/lang/String"
  | _ => .object "java/lang/Object"
abbrev wsJ60 : List Cond := u_ws RJ6 TJ6 5
theorem nmJ6 : ∀ a, a < 5 → ∀ b, b < 5 → a ≠ b → (TJ6 a).2.1 ≠ (TJ6 b).2.1 := by decide +kernel
theorem tyJ6_ok : ∀ k, k < 5 → parseFieldDescriptor (TJ6 k).2.2.1 = some (tyJ6 k) := by decide +kernel
abbrev cJ6_init : ByteArray := prog_30_method_1_code
def yJ6_init : MethodName := ⟨RJ6, "<init>", "()V"⟩
abbrev cJ6_init_2 : ByteArray := prog_30_method_2_code
def yJ6_init_2 : MethodName := ⟨RJ6, "<init>", "(Ljava/lang/String;)V"⟩
abbrev cJ6_init_3 : ByteArray := prog_30_method_3_code
def yJ6_init_3 : MethodName := ⟨RJ6, "<init>", "(Ljava/lang/String;Ljava/lang/Throwable;)V"⟩
theorem q98 : (Jvm.Cond.initialized "java/lang/Throwable") ∈ lw_all := lw_g (lw_at lw_m1 10 rfl) rfl
theorem q294 : (Jvm.Cond.declares ({ cls := "java/lang/Throwable", name := "<init>", desc := "()V" } : Jvm.MethodName)) ∈ lw_tbl := lw_at lw_m1 206 rfl
theorem q295 : (Jvm.Cond.declares ({ cls := "java/lang/Throwable", name := "<init>", desc := "(Ljava/lang/String;)V" } : Jvm.MethodName)) ∈ lw_tbl := lw_at lw_m1 207 rfl
theorem q299 : (Jvm.Cond.lays "java/lang/Throwable" "java/lang/Throwable" "cause" "Ljava/lang/Throwable;") ∈ lw_all := lw_g (lw_at lw_m1 211 rfl) rfl
theorem q301 : (Jvm.Cond.lays "java/lang/Throwable" "java/lang/Throwable" "stackTrace" "[Ljava/lang/StackTraceElement;") ∈ lw_all := lw_g (lw_at lw_m1 213 rfl) rfl
theorem q303 : (Jvm.Cond.lays "java/lang/Throwable" "java/lang/Throwable" "suppressedExceptions" "Ljava/util/List;") ∈ lw_all := lw_g (lw_at lw_m1 215 rfl) rfl
theorem q305 : (Jvm.Cond.lays "java/lang/Throwable" "java/lang/Throwable" "detailMessage" "Ljava/lang/String;") ∈ lw_all := lw_g (lw_at lw_m1 217 rfl) rfl
theorem q307 : (Jvm.Cond.lays "java/lang/Throwable" "java/lang/Throwable" "backtrace" "Ljava/lang/Object;") ∈ lw_all := lw_g (lw_at lw_m1 219 rfl) rfl
theorem q308 : (Jvm.Cond.fieldLink "java/lang/Throwable" (198 : Nat) "java/lang/Throwable" "backtrace" "Ljava/lang/Object;") ∈ lw_all := lw_g (lw_at lw_m1 220 rfl) rfl
theorem q309 : (Jvm.Cond.superclass "java/lang/Throwable" "java/lang/Object") ∈ lw_all := lw_g (lw_at lw_m1 221 rfl) rfl
theorem q310 : (Jvm.Cond.instanceMethod ({ cls := "java/lang/Throwable", name := "<init>", desc := "()V" } : Jvm.MethodName)) ∈ lw_all := lw_g (lw_at lw_m1 222 rfl) rfl
theorem q311 : (Jvm.Cond.code ({ cls := "java/lang/Throwable", name := "<init>", desc := "()V" } : Jvm.MethodName) prog_30_method_1_code (1 : Nat) (Option.none : Option Jvm.ClassFile.FieldType)) ∈ lw_all := lw_g (lw_at lw_m1 223 rfl) rfl
theorem q312 : (Jvm.Cond.methodLink "java/lang/Throwable" (1 : Nat) ({ cls := "java/lang/Object", name := "<init>", desc := "()V" } : Jvm.MethodName)) ∈ lw_all := lw_g (lw_at lw_m1 224 rfl) rfl
theorem q313 : (Jvm.Cond.fieldLink "java/lang/Throwable" (13 : Nat) "java/lang/Throwable" "UNASSIGNED_STACK" "[Ljava/lang/StackTraceElement;") ∈ lw_all := lw_g (lw_at lw_m1 225 rfl) rfl
theorem q314 : (Jvm.Cond.laysStatic "java/lang/Throwable" "UNASSIGNED_STACK" "[Ljava/lang/StackTraceElement;") ∈ lw_tbl := lw_at lw_m1 226 rfl
theorem q315 : (Jvm.Cond.fieldLink "java/lang/Throwable" (20 : Nat) "java/lang/Throwable" "SUPPRESSED_SENTINEL" "Ljava/util/List;") ∈ lw_all := lw_g (lw_at lw_m1 227 rfl) rfl
theorem q316 : (Jvm.Cond.laysStatic "java/lang/Throwable" "SUPPRESSED_SENTINEL" "Ljava/util/List;") ∈ lw_tbl := lw_at lw_m1 228 rfl
theorem q317 : (Jvm.Cond.methodLink "java/lang/Throwable" (27 : Nat) ({ cls := "java/lang/Throwable", name := "fillInStackTrace", desc := "()Ljava/lang/Throwable;" } : Jvm.MethodName)) ∈ lw_all := lw_g (lw_at lw_m1 229 rfl) rfl
theorem q318 : (Jvm.Cond.instanceMethod ({ cls := "java/lang/Throwable", name := "fillInStackTrace", desc := "()Ljava/lang/Throwable;" } : Jvm.MethodName)) ∈ lw_all := lw_g (lw_at lw_m1 230 rfl) rfl
theorem q319 : (Jvm.Cond.sameMethod "java/lang/Throwable" "java/lang/Throwable" "fillInStackTrace" "()Ljava/lang/Throwable;") ∈ lw_all := lw_g (lw_at lw_m1 231 rfl) rfl
theorem q325 : (Jvm.Cond.codeSync ({ cls := "java/lang/Throwable", name := "fillInStackTrace", desc := "()Ljava/lang/Throwable;" } : Jvm.MethodName) prog_30_method_18_code (1 : Nat) (Option.some (Jvm.ClassFile.FieldType.object "java/lang/Throwable"))) ∈ lw_all := lw_g (lw_at lw_m1 237 rfl) rfl
theorem q326 : (Jvm.Cond.methodLink "java/lang/Throwable" (202 : Nat) ({ cls := "java/lang/Throwable", name := "fillInStackTrace", desc := "(I)Ljava/lang/Throwable;" } : Jvm.MethodName)) ∈ lw_all := lw_g (lw_at lw_m1 238 rfl) rfl
theorem q327 : (Jvm.Cond.privateMethod ({ cls := "java/lang/Throwable", name := "fillInStackTrace", desc := "(I)Ljava/lang/Throwable;" } : Jvm.MethodName)) ∈ lw_tbl := lw_at lw_m1 239 rfl
theorem q328 : (Jvm.Cond.instanceMethod ({ cls := "java/lang/Throwable", name := "fillInStackTrace", desc := "(I)Ljava/lang/Throwable;" } : Jvm.MethodName)) ∈ lw_all := lw_g (lw_at lw_m2 0 rfl) rfl
theorem q329 : (Jvm.Cond.instantiable "java/lang/Throwable" (6 : Nat)) ∈ lw_all := lw_g (lw_at lw_m2 1 rfl) rfl
theorem q330 : (Jvm.Cond.native ({ cls := "java/lang/Throwable", name := "fillInStackTrace", desc := "(I)Ljava/lang/Throwable;" } : Jvm.MethodName)) ∈ lw_all := lw_g (lw_at lw_m2 2 rfl) rfl
theorem q339 : (Jvm.Cond.instanceMethod ({ cls := "java/lang/Throwable", name := "<init>", desc := "(Ljava/lang/String;)V" } : Jvm.MethodName)) ∈ lw_all := lw_g (lw_at lw_m2 11 rfl) rfl
theorem q340 : (Jvm.Cond.code ({ cls := "java/lang/Throwable", name := "<init>", desc := "(Ljava/lang/String;)V" } : Jvm.MethodName) prog_30_method_2_code (2 : Nat) (Option.none : Option Jvm.ClassFile.FieldType)) ∈ lw_all := lw_g (lw_at lw_m2 12 rfl) rfl
theorem q345 : (Jvm.Cond.fieldLink "java/lang/Throwable" (198 : Nat) "java/lang/Throwable" "backtrace" "Ljava/lang/Object;") ∈ lw_all := lw_g (lw_at lw_m2 17 rfl) rfl
theorem q346 : (Jvm.Cond.fieldLink "java/lang/Throwable" (31 : Nat) "java/lang/Throwable" "detailMessage" "Ljava/lang/String;") ∈ lw_all := lw_g (lw_at lw_m2 18 rfl) rfl
theorem q347 : (Jvm.Cond.fieldLink "java/lang/Throwable" (7 : Nat) "java/lang/Throwable" "cause" "Ljava/lang/Throwable;") ∈ lw_all := lw_g (lw_at lw_m2 19 rfl) rfl
theorem q348 : (Jvm.Cond.fieldLink "java/lang/Throwable" (17 : Nat) "java/lang/Throwable" "stackTrace" "[Ljava/lang/StackTraceElement;") ∈ lw_all := lw_g (lw_at lw_m2 20 rfl) rfl
theorem q349 : (Jvm.Cond.fieldLink "java/lang/Throwable" (24 : Nat) "java/lang/Throwable" "suppressedExceptions" "Ljava/util/List;") ∈ lw_all := lw_g (lw_at lw_m2 21 rfl) rfl
theorem q352 : (Jvm.Cond.soleField "java/lang/Throwable" "backtrace") ∈ lw_all := lw_g (lw_at lw_m2 24 rfl) rfl
theorem q353 : (Jvm.Cond.soleField "java/lang/Throwable" "detailMessage") ∈ lw_all := lw_g (lw_at lw_m2 25 rfl) rfl
theorem q354 : (Jvm.Cond.soleField "java/lang/Throwable" "cause") ∈ lw_all := lw_g (lw_at lw_m2 26 rfl) rfl
theorem q355 : (Jvm.Cond.soleField "java/lang/Throwable" "stackTrace") ∈ lw_all := lw_g (lw_at lw_m2 27 rfl) rfl
theorem q357 : (Jvm.Cond.soleField "java/lang/Throwable" "depth") ∈ lw_all := lw_g (lw_at lw_m2 29 rfl) rfl
theorem q358 : (Jvm.Cond.soleField "java/lang/Throwable" "suppressedExceptions") ∈ lw_all := lw_g (lw_at lw_m2 30 rfl) rfl
theorem q416 : (Jvm.Cond.instanceMethod ({ cls := "java/lang/Throwable", name := "<init>", desc := "(Ljava/lang/String;Ljava/lang/Throwable;)V" } : Jvm.MethodName)) ∈ lw_all := lw_g (lw_at lw_m2 88 rfl) rfl
theorem q417 : (Jvm.Cond.code ({ cls := "java/lang/Throwable", name := "<init>", desc := "(Ljava/lang/String;Ljava/lang/Throwable;)V" } : Jvm.MethodName) prog_30_method_3_code (3 : Nat) (Option.none : Option Jvm.ClassFile.FieldType)) ∈ lw_all := lw_g (lw_at lw_m2 89 rfl) rfl
theorem q1194 : (Jvm.Cond.instanceMethod ({ cls := "java/lang/Throwable", name := "getCause", desc := "()Ljava/lang/Throwable;" } : Jvm.MethodName)) ∈ lw_all := lw_g (lw_at lw_m5 146 rfl) rfl
theorem q1195 : (Jvm.Cond.sameMethod "java/lang/Throwable" "java/lang/Throwable" "getCause" "()Ljava/lang/Throwable;") ∈ lw_all := lw_g (lw_at lw_m5 147 rfl) rfl
theorem q1202 : (Jvm.Cond.codeSync ({ cls := "java/lang/Throwable", name := "getCause", desc := "()Ljava/lang/Throwable;" } : Jvm.MethodName) prog_30_method_8_code (1 : Nat) (Option.some (Jvm.ClassFile.FieldType.object "java/lang/Throwable"))) ∈ lw_all := lw_g (lw_at lw_m5 154 rfl) rfl
theorem q2245 : (Jvm.Cond.sameMethod "java/lang/Throwable" "java/lang/Throwable" "fillInStackTrace" "(I)Ljava/lang/Throwable;") ∈ lw_all := lw_g (lw_at lw_m9 237 rfl) rfl
theorem q2274 : (Jvm.Cond.castable "java/lang/Throwable" "java/lang/Object") ∈ lw_tbl := lw_at lw_m10 26 rfl
theorem in_J6 : ∀ w ∈ wsJ60, w ∈ lw_all := lw_in wsJ60 [299, 301, 303, 305, 307] (by decide +kernel) (by decide +kernel)
/-! java/lang/Exception -/
def RJ7 : String := "java/lang/Exception"
abbrev cJ7_init : ByteArray := prog_16_method_2_code
def yJ7_init : MethodName := ⟨RJ7, "<init>", "(Ljava/lang/String;)V"⟩
abbrev cJ7_init_2 : ByteArray := prog_16_method_3_code
def yJ7_init_2 : MethodName := ⟨RJ7, "<init>", "(Ljava/lang/String;Ljava/lang/Throwable;)V"⟩
abbrev cJ7_init_3 : ByteArray := prog_16_method_1_code
def yJ7_init_3 : MethodName := ⟨RJ7, "<init>", "()V"⟩
theorem q99 : (Jvm.Cond.initialized "java/lang/Exception") ∈ lw_all := lw_g (lw_at lw_m1 11 rfl) rfl
theorem q292 : (Jvm.Cond.declares ({ cls := "java/lang/Exception", name := "<init>", desc := "()V" } : Jvm.MethodName)) ∈ lw_tbl := lw_at lw_m1 204 rfl
theorem q293 : (Jvm.Cond.declares ({ cls := "java/lang/Exception", name := "<init>", desc := "(Ljava/lang/String;)V" } : Jvm.MethodName)) ∈ lw_tbl := lw_at lw_m1 205 rfl
theorem q336 : (Jvm.Cond.instanceMethod ({ cls := "java/lang/Exception", name := "<init>", desc := "(Ljava/lang/String;)V" } : Jvm.MethodName)) ∈ lw_all := lw_g (lw_at lw_m2 8 rfl) rfl
theorem q337 : (Jvm.Cond.code ({ cls := "java/lang/Exception", name := "<init>", desc := "(Ljava/lang/String;)V" } : Jvm.MethodName) prog_16_method_2_code (2 : Nat) (Option.none : Option Jvm.ClassFile.FieldType)) ∈ lw_all := lw_g (lw_at lw_m2 9 rfl) rfl
theorem q338 : (Jvm.Cond.methodLink "java/lang/Exception" (7 : Nat) ({ cls := "java/lang/Throwable", name := "<init>", desc := "(Ljava/lang/String;)V" } : Jvm.MethodName)) ∈ lw_all := lw_g (lw_at lw_m2 10 rfl) rfl
theorem q413 : (Jvm.Cond.instanceMethod ({ cls := "java/lang/Exception", name := "<init>", desc := "(Ljava/lang/String;Ljava/lang/Throwable;)V" } : Jvm.MethodName)) ∈ lw_all := lw_g (lw_at lw_m2 85 rfl) rfl
theorem q414 : (Jvm.Cond.code ({ cls := "java/lang/Exception", name := "<init>", desc := "(Ljava/lang/String;Ljava/lang/Throwable;)V" } : Jvm.MethodName) prog_16_method_3_code (3 : Nat) (Option.none : Option Jvm.ClassFile.FieldType)) ∈ lw_all := lw_g (lw_at lw_m2 86 rfl) rfl
theorem q415 : (Jvm.Cond.methodLink "java/lang/Exception" (10 : Nat) ({ cls := "java/lang/Throwable", name := "<init>", desc := "(Ljava/lang/String;Ljava/lang/Throwable;)V" } : Jvm.MethodName)) ∈ lw_all := lw_g (lw_at lw_m2 87 rfl) rfl
theorem q551 : (Jvm.Cond.instanceMethod ({ cls := "java/lang/Exception", name := "<init>", desc := "()V" } : Jvm.MethodName)) ∈ lw_all := lw_g (lw_at lw_m2 223 rfl) rfl
theorem q552 : (Jvm.Cond.code ({ cls := "java/lang/Exception", name := "<init>", desc := "()V" } : Jvm.MethodName) prog_16_method_1_code (1 : Nat) (Option.none : Option Jvm.ClassFile.FieldType)) ∈ lw_all := lw_g (lw_at lw_m2 224 rfl) rfl
theorem q553 : (Jvm.Cond.methodLink "java/lang/Exception" (1 : Nat) ({ cls := "java/lang/Throwable", name := "<init>", desc := "()V" } : Jvm.MethodName)) ∈ lw_all := lw_g (lw_at lw_m2 225 rfl) rfl
/-! java/lang/Math -/
def RJ8 : String := "java/lang/Math"
abbrev cJ8_max : ByteArray := prog_22_method_65_code
def yJ8_max : MethodName := ⟨RJ8, "max", "(II)I"⟩
abbrev cJ8_min : ByteArray := prog_22_method_69_code
def yJ8_min : MethodName := ⟨RJ8, "min", "(II)I"⟩
abbrev cJ8_abs : ByteArray := prog_22_method_59_code
def yJ8_abs : MethodName := ⟨RJ8, "abs", "(I)I"⟩
theorem q101 : (Jvm.Cond.initialized "java/lang/Math") ∈ lw_all := lw_g (lw_at lw_m1 13 rfl) rfl
theorem q365 : (Jvm.Cond.static ({ cls := "java/lang/Math", name := "max", desc := "(II)I" } : Jvm.MethodName)) ∈ lw_all := lw_g (lw_at lw_m2 37 rfl) rfl
theorem q366 : (Jvm.Cond.code ({ cls := "java/lang/Math", name := "max", desc := "(II)I" } : Jvm.MethodName) prog_22_method_65_code (2 : Nat) (Option.some Jvm.ClassFile.FieldType.int)) ∈ lw_all := lw_g (lw_at lw_m2 38 rfl) rfl
theorem q514 : (Jvm.Cond.static ({ cls := "java/lang/Math", name := "min", desc := "(II)I" } : Jvm.MethodName)) ∈ lw_all := lw_g (lw_at lw_m2 186 rfl) rfl
theorem q515 : (Jvm.Cond.code ({ cls := "java/lang/Math", name := "min", desc := "(II)I" } : Jvm.MethodName) prog_22_method_69_code (2 : Nat) (Option.some Jvm.ClassFile.FieldType.int)) ∈ lw_all := lw_g (lw_at lw_m2 187 rfl) rfl
theorem q863 : (Jvm.Cond.static ({ cls := "java/lang/Math", name := "abs", desc := "(I)I" } : Jvm.MethodName)) ∈ lw_all := lw_g (lw_at lw_m4 55 rfl) rfl
theorem q864 : (Jvm.Cond.code ({ cls := "java/lang/Math", name := "abs", desc := "(I)I" } : Jvm.MethodName) prog_22_method_59_code (1 : Nat) (Option.some Jvm.ClassFile.FieldType.int)) ∈ lw_all := lw_g (lw_at lw_m4 56 rfl) rfl
/-! java/lang/Number -/
def RJ9 : String := "java/lang/Number"
abbrev cJ9_init : ByteArray := prog_23_method_1_code
def yJ9_init : MethodName := ⟨RJ9, "<init>", "()V"⟩
theorem q103 : (Jvm.Cond.initialized "java/lang/Number") ∈ lw_all := lw_g (lw_at lw_m1 15 rfl) rfl
theorem q441 : (Jvm.Cond.instanceMethod ({ cls := "java/lang/Number", name := "<init>", desc := "()V" } : Jvm.MethodName)) ∈ lw_all := lw_g (lw_at lw_m2 113 rfl) rfl
theorem q442 : (Jvm.Cond.code ({ cls := "java/lang/Number", name := "<init>", desc := "()V" } : Jvm.MethodName) prog_23_method_1_code (1 : Nat) (Option.none : Option Jvm.ClassFile.FieldType)) ∈ lw_all := lw_g (lw_at lw_m2 114 rfl) rfl
theorem q443 : (Jvm.Cond.methodLink "java/lang/Number" (1 : Nat) ({ cls := "java/lang/Object", name := "<init>", desc := "()V" } : Jvm.MethodName)) ∈ lw_all := lw_g (lw_at lw_m2 115 rfl) rfl
/-! the law's own entry -/
abbrev cL_law : ByteArray := code
/-! GossipStairsLaw -/
def RX0 : String := "GossipStairsLaw"
abbrev cX0_addBox : ByteArray := method_3_code
def yX0_addBox : MethodName := ⟨RX0, "addBox", "(LGossipStairs;[J)I"⟩
abbrev cX0_addArrow : ByteArray := method_4_code
def yX0_addArrow : MethodName := ⟨RX0, "addArrow", "(LGossipStairs;II[J)I"⟩
abbrev cX0_addChain : ByteArray := method_5_code
def yX0_addChain : MethodName := ⟨RX0, "addChain", "(LGossipStairs;III[J)I"⟩
abbrev cX0_removeArrow : ByteArray := method_6_code
def yX0_removeArrow : MethodName := ⟨RX0, "removeArrow", "(LGossipStairs;I[J)I"⟩
abbrev cX0_holdDown : ByteArray := method_7_code
def yX0_holdDown : MethodName := ⟨RX0, "holdDown", "(LGossipStairs;II[J)I"⟩
abbrev cX0_exchange : ByteArray := method_8_code
def yX0_exchange : MethodName := ⟨RX0, "exchange", "(LGossipStairs;III[J)I"⟩
abbrev cX0_fromOf : ByteArray := method_9_code
def yX0_fromOf : MethodName := ⟨RX0, "fromOf", "(LGossipStairs;I[J)I"⟩
abbrev cX0_toOf : ByteArray := method_10_code
def yX0_toOf : MethodName := ⟨RX0, "toOf", "(LGossipStairs;I[J)I"⟩
abbrev cX0_whyRefused : ByteArray := method_11_code
def yX0_whyRefused : MethodName := ⟨RX0, "whyRefused", "(LGossipStairs;II[J)I"⟩
abbrev cX0_whyNoChain : ByteArray := method_12_code
def yX0_whyNoChain : MethodName := ⟨RX0, "whyNoChain", "(LGossipStairs;III[J)I"⟩
abbrev cX0_doesHear : ByteArray := method_13_code
def yX0_doesHear : MethodName := ⟨RX0, "doesHear", "(LGossipStairs;II[J)I"⟩
abbrev cX0_hears : ByteArray := method_14_code
def yX0_hears : MethodName := ⟨RX0, "hears", "(LGossipStairs;I[J)I"⟩
abbrev cX0_isNeedless : ByteArray := method_15_code
def yX0_isNeedless : MethodName := ⟨RX0, "isNeedless", "(LGossipStairs;I[J)I"⟩
abbrev cX0_ways : ByteArray := method_16_code
def yX0_ways : MethodName := ⟨RX0, "ways", "(LGossipStairs;II[J)I"⟩
abbrev cX0_waysByGoingBack : ByteArray := method_17_code
def yX0_waysByGoingBack : MethodName := ⟨RX0, "waysByGoingBack", "(LGossipStairs;II[J)I"⟩
abbrev cX0_fewestArrows : ByteArray := method_18_code
def yX0_fewestArrows : MethodName := ⟨RX0, "fewestArrows", "(LGossipStairs;II[J)I"⟩
abbrev cX0_mostArrows : ByteArray := method_19_code
def yX0_mostArrows : MethodName := ⟨RX0, "mostArrows", "(LGossipStairs;II[J)I"⟩
abbrev cX0_layerOf : ByteArray := method_20_code
def yX0_layerOf : MethodName := ⟨RX0, "layerOf", "(LGossipStairs;I[J)I"⟩
abbrev cX0_layerByGoingBack : ByteArray := method_21_code
def yX0_layerByGoingBack : MethodName := ⟨RX0, "layerByGoingBack", "(LGossipStairs;I[J)I"⟩
abbrev cX0_leastOf : ByteArray := method_22_code
def yX0_leastOf : MethodName := ⟨RX0, "leastOf", "(LGossipStairs;I[J)I"⟩
abbrev cX0_spanOf : ByteArray := method_23_code
def yX0_spanOf : MethodName := ⟨RX0, "spanOf", "(LGossipStairs;I[J)I"⟩
abbrev cX0_pointsOf : ByteArray := method_24_code
def yX0_pointsOf : MethodName := ⟨RX0, "pointsOf", "(LGossipStairs;I[J)I"⟩
abbrev cX0_pointAt : ByteArray := method_25_code
def yX0_pointAt : MethodName := ⟨RX0, "pointAt", "(LGossipStairs;II[J)I"⟩
abbrev cX0_placeOf : ByteArray := method_26_code
def yX0_placeOf : MethodName := ⟨RX0, "placeOf", "(LGossipStairs;I[J)I"⟩
abbrev cX0_medianAbove : ByteArray := method_27_code
def yX0_medianAbove : MethodName := ⟨RX0, "medianAbove", "(LGossipStairs;II[J)I"⟩
abbrev cX0_medianBelow : ByteArray := method_28_code
def yX0_medianBelow : MethodName := ⟨RX0, "medianBelow", "(LGossipStairs;II[J)I"⟩
abbrev cX0_crowdedLayer : ByteArray := method_29_code
def yX0_crowdedLayer : MethodName := ⟨RX0, "crowdedLayer", "(LGossipStairs;[J)I"⟩
abbrev cX0_crossingsBelow : ByteArray := method_30_code
def yX0_crossingsBelow : MethodName := ⟨RX0, "crossingsBelow", "(LGossipStairs;I[J)I"⟩
abbrev cX0_crossingsOf : ByteArray := method_31_code
def yX0_crossingsOf : MethodName := ⟨RX0, "crossingsOf", "(LGossipStairs;I[J)I"⟩
abbrev cX0_columnAt : ByteArray := method_32_code
def yX0_columnAt : MethodName := ⟨RX0, "columnAt", "(LGossipStairs;II[J)I"⟩
abbrev cX0_bendsOf : ByteArray := method_33_code
def yX0_bendsOf : MethodName := ⟨RX0, "bendsOf", "(LGossipStairs;I[J)I"⟩
abbrev cX0_meanPoints : ByteArray := method_34_code
def yX0_meanPoints : MethodName := ⟨RX0, "meanPoints", "(LGossipStairs;[F)I"⟩
abbrev cX0_goBack : ByteArray := method_35_code
def yX0_goBack : MethodName := ⟨RX0, "goBack", "(LGossipStairs;[J)I"⟩
abbrev cX0_undo : ByteArray := method_36_code
def yX0_undo : MethodName := ⟨RX0, "undo", "(LGossipStairs;[J)I"⟩
abbrev cX0_type : ByteArray := method_37_code
def yX0_type : MethodName := ⟨RX0, "type", "(LGossipStairs;I[J)I"⟩
abbrev cX0_faultPosition : ByteArray := method_38_code
def yX0_faultPosition : MethodName := ⟨RX0, "faultPosition", "(LGossipStairs;[J)I"⟩
abbrev cX0_faultReason : ByteArray := method_39_code
def yX0_faultReason : MethodName := ⟨RX0, "faultReason", "(LGossipStairs;[J)I"⟩
abbrev cX0_faultCause : ByteArray := method_40_code
def yX0_faultCause : MethodName := ⟨RX0, "faultCause", "(LGossipStairs;[J)I"⟩
abbrev cX0_play : ByteArray := method_41_code
def yX0_play : MethodName := ⟨RX0, "play", "(LGossipStairs;[J)I"⟩
theorem q88 : (Jvm.Cond.initialized "GossipStairsLaw") ∈ lw_all := lw_g (lw_at lw_m1 0 rfl) rfl
theorem q118 : (Jvm.Cond.classLink "GossipStairsLaw" (8 : Nat) "GossipStairs") ∈ lw_all := lw_g (lw_at lw_m1 30 rfl) rfl
theorem q120 : (Jvm.Cond.methodLink "GossipStairsLaw" (139 : Nat) ({ cls := "GossipStairs", name := "<init>", desc := "()V" } : Jvm.MethodName)) ∈ lw_all := lw_g (lw_at lw_m1 32 rfl) rfl
theorem q261 : (Jvm.Cond.methodLink "GossipStairsLaw" (186 : Nat) ({ cls := "GossipStairs", name := "prune", desc := "()I" } : Jvm.MethodName)) ∈ lw_all := lw_g (lw_at lw_m1 173 rfl) rfl
theorem q740 : (Jvm.Cond.methodLink "GossipStairsLaw" (190 : Nat) ({ cls := "GossipStairs", name := "turnRound", desc := "()I" } : Jvm.MethodName)) ∈ lw_all := lw_g (lw_at lw_m3 172 rfl) rfl
theorem q744 : (Jvm.Cond.methodLink "GossipStairsLaw" (167 : Nat) ({ cls := "GossipStairs", name := "sweepDown", desc := "()I" } : Jvm.MethodName)) ∈ lw_all := lw_g (lw_at lw_m3 176 rfl) rfl
theorem q748 : (Jvm.Cond.methodLink "GossipStairsLaw" (171 : Nat) ({ cls := "GossipStairs", name := "sweepUp", desc := "()I" } : Jvm.MethodName)) ∈ lw_all := lw_g (lw_at lw_m3 180 rfl) rfl
theorem q752 : (Jvm.Cond.methodLink "GossipStairsLaw" (175 : Nat) ({ cls := "GossipStairs", name := "untangle", desc := "()I" } : Jvm.MethodName)) ∈ lw_all := lw_g (lw_at lw_m3 184 rfl) rfl
theorem q756 : (Jvm.Cond.methodLink "GossipStairsLaw" (182 : Nat) ({ cls := "GossipStairs", name := "settle", desc := "()I" } : Jvm.MethodName)) ∈ lw_all := lw_g (lw_at lw_m3 188 rfl) rfl
theorem q760 : (Jvm.Cond.methodLink "GossipStairsLaw" (194 : Nat) ({ cls := "GossipStairs", name := "boxes", desc := "()I" } : Jvm.MethodName)) ∈ lw_all := lw_g (lw_at lw_m3 192 rfl) rfl
theorem q764 : (Jvm.Cond.methodLink "GossipStairsLaw" (198 : Nat) ({ cls := "GossipStairs", name := "arrows", desc := "()I" } : Jvm.MethodName)) ∈ lw_all := lw_g (lw_at lw_m3 196 rfl) rfl
theorem q768 : (Jvm.Cond.methodLink "GossipStairsLaw" (223 : Nat) ({ cls := "GossipStairs", name := "needless", desc := "()I" } : Jvm.MethodName)) ∈ lw_all := lw_g (lw_at lw_m3 200 rfl) rfl
theorem q776 : (Jvm.Cond.methodLink "GossipStairsLaw" (239 : Nat) ({ cls := "GossipStairs", name := "firstTellers", desc := "()I" } : Jvm.MethodName)) ∈ lw_all := lw_g (lw_at lw_m3 208 rfl) rfl
theorem q784 : (Jvm.Cond.methodLink "GossipStairsLaw" (243 : Nat) ({ cls := "GossipStairs", name := "lastHearers", desc := "()I" } : Jvm.MethodName)) ∈ lw_all := lw_g (lw_at lw_m3 216 rfl) rfl
theorem q788 : (Jvm.Cond.methodLink "GossipStairsLaw" (256 : Nat) ({ cls := "GossipStairs", name := "layers", desc := "()I" } : Jvm.MethodName)) ∈ lw_all := lw_g (lw_at lw_m3 220 rfl) rfl
theorem q792 : (Jvm.Cond.methodLink "GossipStairsLaw" (266 : Nat) ({ cls := "GossipStairs", name := "arrowPoints", desc := "()I" } : Jvm.MethodName)) ∈ lw_all := lw_g (lw_at lw_m3 224 rfl) rfl
theorem q800 : (Jvm.Cond.methodLink "GossipStairsLaw" (285 : Nat) ({ cls := "GossipStairs", name := "crossings", desc := "()I" } : Jvm.MethodName)) ∈ lw_all := lw_g (lw_at lw_m3 232 rfl) rfl
theorem q805 : (Jvm.Cond.methodLink "GossipStairsLaw" (289 : Nat) ({ cls := "GossipStairs", name := "crossingsByPuttingIn", desc := "()I" } : Jvm.MethodName)) ∈ lw_all := lw_g (lw_at lw_m3 237 rfl) rfl
theorem q817 : (Jvm.Cond.methodLink "GossipStairsLaw" (299 : Nat) ({ cls := "GossipStairs", name := "ifSweptDown", desc := "()I" } : Jvm.MethodName)) ∈ lw_all := lw_g (lw_at lw_m4 9 rfl) rfl
theorem q821 : (Jvm.Cond.methodLink "GossipStairsLaw" (303 : Nat) ({ cls := "GossipStairs", name := "ifSweptUp", desc := "()I" } : Jvm.MethodName)) ∈ lw_all := lw_g (lw_at lw_m4 13 rfl) rfl
theorem q825 : (Jvm.Cond.methodLink "GossipStairsLaw" (313 : Nat) ({ cls := "GossipStairs", name := "bends", desc := "()I" } : Jvm.MethodName)) ∈ lw_all := lw_g (lw_at lw_m4 17 rfl) rfl
theorem q841 : (Jvm.Cond.methodLink "GossipStairsLaw" (317 : Nat) ({ cls := "GossipStairs", name := "widest", desc := "()I" } : Jvm.MethodName)) ∈ lw_all := lw_g (lw_at lw_m4 33 rfl) rfl
theorem q846 : (Jvm.Cond.methodLink "GossipStairsLaw" (325 : Nat) ({ cls := "GossipStairs", name := "straightLines", desc := "()I" } : Jvm.MethodName)) ∈ lw_all := lw_g (lw_at lw_m4 38 rfl) rfl
theorem q854 : (Jvm.Cond.methodLink "GossipStairsLaw" (321 : Nat) ({ cls := "GossipStairs", name := "slant", desc := "()I" } : Jvm.MethodName)) ∈ lw_all := lw_g (lw_at lw_m4 46 rfl) rfl
theorem q865 : (Jvm.Cond.methodLink "GossipStairsLaw" (329 : Nat) ({ cls := "GossipStairs", name := "sweeps", desc := "()I" } : Jvm.MethodName)) ∈ lw_all := lw_g (lw_at lw_m4 57 rfl) rfl
theorem q869 : (Jvm.Cond.methodLink "GossipStairsLaw" (333 : Nat) ({ cls := "GossipStairs", name := "came", desc := "()I" } : Jvm.MethodName)) ∈ lw_all := lw_g (lw_at lw_m4 61 rfl) rfl
theorem q873 : (Jvm.Cond.methodLink "GossipStairsLaw" (341 : Nat) ({ cls := "GossipStairs", name := "keep", desc := "()I" } : Jvm.MethodName)) ∈ lw_all := lw_g (lw_at lw_m4 65 rfl) rfl
theorem q877 : (Jvm.Cond.methodLink "GossipStairsLaw" (348 : Nat) ({ cls := "GossipStairs", name := "states", desc := "()I" } : Jvm.MethodName)) ∈ lw_all := lw_g (lw_at lw_m4 69 rfl) rfl
theorem q881 : (Jvm.Cond.methodLink "GossipStairsLaw" (358 : Nat) ({ cls := "GossipStairs", name := "clearText", desc := "()I" } : Jvm.MethodName)) ∈ lw_all := lw_g (lw_at lw_m4 73 rfl) rfl
theorem q1111 : (Jvm.Cond.methodLink "GossipStairsLaw" (143 : Nat) ({ cls := "GossipStairsLaw", name := "addBox", desc := "(LGossipStairs;[J)I" } : Jvm.MethodName)) ∈ lw_all := lw_g (lw_at lw_m5 63 rfl) rfl
theorem q1112 : (Jvm.Cond.static ({ cls := "GossipStairsLaw", name := "addBox", desc := "(LGossipStairs;[J)I" } : Jvm.MethodName)) ∈ lw_all := lw_g (lw_at lw_m5 64 rfl) rfl
theorem q1113 : (Jvm.Cond.codeWith ({ cls := "GossipStairsLaw", name := "addBox", desc := "(LGossipStairs;[J)I" } : Jvm.MethodName) method_3_code (3 : Nat) (Option.some Jvm.ClassFile.FieldType.int) [((0 : Nat), (8 : Nat), (11 : Nat), (13 : Nat))]) ∈ lw_all := lw_g (lw_at lw_m5 65 rfl) rfl
theorem q1114 : (Jvm.Cond.classLink "GossipStairsLaw" (13 : Nat) "java/lang/IllegalStateException") ∈ lw_all := lw_g (lw_at lw_m5 66 rfl) rfl
theorem q1115 : (Jvm.Cond.methodLink "GossipStairsLaw" (7 : Nat) ({ cls := "GossipStairs", name := "addBox", desc := "()I" } : Jvm.MethodName)) ∈ lw_all := lw_g (lw_at lw_m5 67 rfl) rfl
theorem q1119 : (Jvm.Cond.methodLink "GossipStairsLaw" (152 : Nat) ({ cls := "GossipStairsLaw", name := "addArrow", desc := "(LGossipStairs;II[J)I" } : Jvm.MethodName)) ∈ lw_all := lw_g (lw_at lw_m5 71 rfl) rfl
theorem q1120 : (Jvm.Cond.static ({ cls := "GossipStairsLaw", name := "addArrow", desc := "(LGossipStairs;II[J)I" } : Jvm.MethodName)) ∈ lw_all := lw_g (lw_at lw_m5 72 rfl) rfl
theorem q1121 : (Jvm.Cond.codeWith ({ cls := "GossipStairsLaw", name := "addArrow", desc := "(LGossipStairs;II[J)I" } : Jvm.MethodName) method_4_code (5 : Nat) (Option.some Jvm.ClassFile.FieldType.int) [((0 : Nat), (10 : Nat), (13 : Nat), (19 : Nat)), ((0 : Nat), (10 : Nat), (17 : Nat), (13 : Nat))]) ∈ lw_all := lw_g (lw_at lw_m5 73 rfl) rfl
theorem q1122 : (Jvm.Cond.classLink "GossipStairsLaw" (19 : Nat) "java/lang/IllegalArgumentException") ∈ lw_all := lw_g (lw_at lw_m5 74 rfl) rfl
theorem q1123 : (Jvm.Cond.methodLink "GossipStairsLaw" (15 : Nat) ({ cls := "GossipStairs", name := "addArrow", desc := "(II)I" } : Jvm.MethodName)) ∈ lw_all := lw_g (lw_at lw_m5 75 rfl) rfl
theorem q1127 : (Jvm.Cond.methodLink "GossipStairsLaw" (156 : Nat) ({ cls := "GossipStairsLaw", name := "addChain", desc := "(LGossipStairs;III[J)I" } : Jvm.MethodName)) ∈ lw_all := lw_g (lw_at lw_m5 79 rfl) rfl
theorem q1128 : (Jvm.Cond.static ({ cls := "GossipStairsLaw", name := "addChain", desc := "(LGossipStairs;III[J)I" } : Jvm.MethodName)) ∈ lw_all := lw_g (lw_at lw_m5 80 rfl) rfl
theorem q1129 : (Jvm.Cond.codeWith ({ cls := "GossipStairsLaw", name := "addChain", desc := "(LGossipStairs;III[J)I" } : Jvm.MethodName) method_5_code (6 : Nat) (Option.some Jvm.ClassFile.FieldType.int) [((0 : Nat), (12 : Nat), (15 : Nat), (19 : Nat)), ((0 : Nat), (12 : Nat), (19 : Nat), (13 : Nat))]) ∈ lw_all := lw_g (lw_at lw_m5 81 rfl) rfl
theorem q1130 : (Jvm.Cond.methodLink "GossipStairsLaw" (21 : Nat) ({ cls := "GossipStairs", name := "addChain", desc := "(III)I" } : Jvm.MethodName)) ∈ lw_all := lw_g (lw_at lw_m5 82 rfl) rfl
theorem q1134 : (Jvm.Cond.methodLink "GossipStairsLaw" (160 : Nat) ({ cls := "GossipStairsLaw", name := "removeArrow", desc := "(LGossipStairs;I[J)I" } : Jvm.MethodName)) ∈ lw_all := lw_g (lw_at lw_m5 86 rfl) rfl
theorem q1135 : (Jvm.Cond.static ({ cls := "GossipStairsLaw", name := "removeArrow", desc := "(LGossipStairs;I[J)I" } : Jvm.MethodName)) ∈ lw_all := lw_g (lw_at lw_m5 87 rfl) rfl
theorem q1136 : (Jvm.Cond.codeWith ({ cls := "GossipStairsLaw", name := "removeArrow", desc := "(LGossipStairs;I[J)I" } : Jvm.MethodName) method_6_code (4 : Nat) (Option.some Jvm.ClassFile.FieldType.int) [((0 : Nat), (9 : Nat), (12 : Nat), (19 : Nat))]) ∈ lw_all := lw_g (lw_at lw_m5 88 rfl) rfl
theorem q1137 : (Jvm.Cond.methodLink "GossipStairsLaw" (25 : Nat) ({ cls := "GossipStairs", name := "removeArrow", desc := "(I)I" } : Jvm.MethodName)) ∈ lw_all := lw_g (lw_at lw_m5 89 rfl) rfl
theorem q1141 : (Jvm.Cond.methodLink "GossipStairsLaw" (164 : Nat) ({ cls := "GossipStairsLaw", name := "holdDown", desc := "(LGossipStairs;II[J)I" } : Jvm.MethodName)) ∈ lw_all := lw_g (lw_at lw_m5 93 rfl) rfl
theorem q1142 : (Jvm.Cond.static ({ cls := "GossipStairsLaw", name := "holdDown", desc := "(LGossipStairs;II[J)I" } : Jvm.MethodName)) ∈ lw_all := lw_g (lw_at lw_m5 94 rfl) rfl
theorem q1143 : (Jvm.Cond.codeWith ({ cls := "GossipStairsLaw", name := "holdDown", desc := "(LGossipStairs;II[J)I" } : Jvm.MethodName) method_7_code (5 : Nat) (Option.some Jvm.ClassFile.FieldType.int) [((0 : Nat), (10 : Nat), (13 : Nat), (19 : Nat))]) ∈ lw_all := lw_g (lw_at lw_m5 95 rfl) rfl
theorem q1144 : (Jvm.Cond.methodLink "GossipStairsLaw" (29 : Nat) ({ cls := "GossipStairs", name := "holdDown", desc := "(II)I" } : Jvm.MethodName)) ∈ lw_all := lw_g (lw_at lw_m5 96 rfl) rfl
theorem q1148 : (Jvm.Cond.methodLink "GossipStairsLaw" (179 : Nat) ({ cls := "GossipStairsLaw", name := "exchange", desc := "(LGossipStairs;III[J)I" } : Jvm.MethodName)) ∈ lw_all := lw_g (lw_at lw_m5 100 rfl) rfl
theorem q1149 : (Jvm.Cond.static ({ cls := "GossipStairsLaw", name := "exchange", desc := "(LGossipStairs;III[J)I" } : Jvm.MethodName)) ∈ lw_all := lw_g (lw_at lw_m5 101 rfl) rfl
theorem q1150 : (Jvm.Cond.codeWith ({ cls := "GossipStairsLaw", name := "exchange", desc := "(LGossipStairs;III[J)I" } : Jvm.MethodName) method_8_code (6 : Nat) (Option.some Jvm.ClassFile.FieldType.int) [((0 : Nat), (12 : Nat), (15 : Nat), (19 : Nat))]) ∈ lw_all := lw_g (lw_at lw_m5 102 rfl) rfl
theorem q1151 : (Jvm.Cond.methodLink "GossipStairsLaw" (32 : Nat) ({ cls := "GossipStairs", name := "exchange", desc := "(III)I" } : Jvm.MethodName)) ∈ lw_all := lw_g (lw_at lw_m5 103 rfl) rfl
theorem q1155 : (Jvm.Cond.methodLink "GossipStairsLaw" (202 : Nat) ({ cls := "GossipStairsLaw", name := "fromOf", desc := "(LGossipStairs;I[J)I" } : Jvm.MethodName)) ∈ lw_all := lw_g (lw_at lw_m5 107 rfl) rfl
theorem q1156 : (Jvm.Cond.static ({ cls := "GossipStairsLaw", name := "fromOf", desc := "(LGossipStairs;I[J)I" } : Jvm.MethodName)) ∈ lw_all := lw_g (lw_at lw_m5 108 rfl) rfl
theorem q1157 : (Jvm.Cond.codeWith ({ cls := "GossipStairsLaw", name := "fromOf", desc := "(LGossipStairs;I[J)I" } : Jvm.MethodName) method_9_code (4 : Nat) (Option.some Jvm.ClassFile.FieldType.int) [((0 : Nat), (9 : Nat), (12 : Nat), (19 : Nat))]) ∈ lw_all := lw_g (lw_at lw_m5 109 rfl) rfl
theorem q1158 : (Jvm.Cond.methodLink "GossipStairsLaw" (35 : Nat) ({ cls := "GossipStairs", name := "fromOf", desc := "(I)I" } : Jvm.MethodName)) ∈ lw_all := lw_g (lw_at lw_m5 110 rfl) rfl
theorem q1171 : (Jvm.Cond.methodLink "GossipStairsLaw" (205 : Nat) ({ cls := "GossipStairsLaw", name := "toOf", desc := "(LGossipStairs;I[J)I" } : Jvm.MethodName)) ∈ lw_all := lw_g (lw_at lw_m5 123 rfl) rfl
theorem q1172 : (Jvm.Cond.static ({ cls := "GossipStairsLaw", name := "toOf", desc := "(LGossipStairs;I[J)I" } : Jvm.MethodName)) ∈ lw_all := lw_g (lw_at lw_m5 124 rfl) rfl
theorem q1173 : (Jvm.Cond.codeWith ({ cls := "GossipStairsLaw", name := "toOf", desc := "(LGossipStairs;I[J)I" } : Jvm.MethodName) method_10_code (4 : Nat) (Option.some Jvm.ClassFile.FieldType.int) [((0 : Nat), (9 : Nat), (12 : Nat), (19 : Nat))]) ∈ lw_all := lw_g (lw_at lw_m5 125 rfl) rfl
theorem q1174 : (Jvm.Cond.methodLink "GossipStairsLaw" (38 : Nat) ({ cls := "GossipStairs", name := "toOf", desc := "(I)I" } : Jvm.MethodName)) ∈ lw_all := lw_g (lw_at lw_m5 126 rfl) rfl
theorem q1178 : (Jvm.Cond.methodLink "GossipStairsLaw" (208 : Nat) ({ cls := "GossipStairsLaw", name := "whyRefused", desc := "(LGossipStairs;II[J)I" } : Jvm.MethodName)) ∈ lw_all := lw_g (lw_at lw_m5 130 rfl) rfl
theorem q1179 : (Jvm.Cond.static ({ cls := "GossipStairsLaw", name := "whyRefused", desc := "(LGossipStairs;II[J)I" } : Jvm.MethodName)) ∈ lw_all := lw_g (lw_at lw_m5 131 rfl) rfl
theorem q1180 : (Jvm.Cond.codeWith ({ cls := "GossipStairsLaw", name := "whyRefused", desc := "(LGossipStairs;II[J)I" } : Jvm.MethodName) method_11_code (5 : Nat) (Option.some Jvm.ClassFile.FieldType.int) [((0 : Nat), (10 : Nat), (13 : Nat), (19 : Nat))]) ∈ lw_all := lw_g (lw_at lw_m5 132 rfl) rfl
theorem q1181 : (Jvm.Cond.methodLink "GossipStairsLaw" (41 : Nat) ({ cls := "GossipStairs", name := "whyRefused", desc := "(II)I" } : Jvm.MethodName)) ∈ lw_all := lw_g (lw_at lw_m5 133 rfl) rfl
theorem q1203 : (Jvm.Cond.methodLink "GossipStairsLaw" (211 : Nat) ({ cls := "GossipStairsLaw", name := "whyNoChain", desc := "(LGossipStairs;III[J)I" } : Jvm.MethodName)) ∈ lw_all := lw_g (lw_at lw_m5 155 rfl) rfl
theorem q1204 : (Jvm.Cond.static ({ cls := "GossipStairsLaw", name := "whyNoChain", desc := "(LGossipStairs;III[J)I" } : Jvm.MethodName)) ∈ lw_all := lw_g (lw_at lw_m5 156 rfl) rfl
theorem q1205 : (Jvm.Cond.codeWith ({ cls := "GossipStairsLaw", name := "whyNoChain", desc := "(LGossipStairs;III[J)I" } : Jvm.MethodName) method_12_code (6 : Nat) (Option.some Jvm.ClassFile.FieldType.int) [((0 : Nat), (12 : Nat), (15 : Nat), (19 : Nat))]) ∈ lw_all := lw_g (lw_at lw_m5 157 rfl) rfl
theorem q1206 : (Jvm.Cond.methodLink "GossipStairsLaw" (44 : Nat) ({ cls := "GossipStairs", name := "whyNoChain", desc := "(III)I" } : Jvm.MethodName)) ∈ lw_all := lw_g (lw_at lw_m5 158 rfl) rfl
theorem q1210 : (Jvm.Cond.methodLink "GossipStairsLaw" (214 : Nat) ({ cls := "GossipStairsLaw", name := "doesHear", desc := "(LGossipStairs;II[J)I" } : Jvm.MethodName)) ∈ lw_all := lw_g (lw_at lw_m5 162 rfl) rfl
theorem q1211 : (Jvm.Cond.static ({ cls := "GossipStairsLaw", name := "doesHear", desc := "(LGossipStairs;II[J)I" } : Jvm.MethodName)) ∈ lw_all := lw_g (lw_at lw_m5 163 rfl) rfl
theorem q1212 : (Jvm.Cond.codeWith ({ cls := "GossipStairsLaw", name := "doesHear", desc := "(LGossipStairs;II[J)I" } : Jvm.MethodName) method_13_code (5 : Nat) (Option.some Jvm.ClassFile.FieldType.int) [((0 : Nat), (17 : Nat), (20 : Nat), (19 : Nat))]) ∈ lw_all := lw_g (lw_at lw_m5 164 rfl) rfl
theorem q1213 : (Jvm.Cond.methodLink "GossipStairsLaw" (47 : Nat) ({ cls := "GossipStairs", name := "doesHear", desc := "(II)Z" } : Jvm.MethodName)) ∈ lw_all := lw_g (lw_at lw_m5 165 rfl) rfl
theorem q1219 : (Jvm.Cond.methodLink "GossipStairsLaw" (217 : Nat) ({ cls := "GossipStairsLaw", name := "hears", desc := "(LGossipStairs;I[J)I" } : Jvm.MethodName)) ∈ lw_all := lw_g (lw_at lw_m5 171 rfl) rfl
theorem q1220 : (Jvm.Cond.static ({ cls := "GossipStairsLaw", name := "hears", desc := "(LGossipStairs;I[J)I" } : Jvm.MethodName)) ∈ lw_all := lw_g (lw_at lw_m5 172 rfl) rfl
theorem q1221 : (Jvm.Cond.codeWith ({ cls := "GossipStairsLaw", name := "hears", desc := "(LGossipStairs;I[J)I" } : Jvm.MethodName) method_14_code (4 : Nat) (Option.some Jvm.ClassFile.FieldType.int) [((0 : Nat), (9 : Nat), (12 : Nat), (19 : Nat))]) ∈ lw_all := lw_g (lw_at lw_m5 173 rfl) rfl
theorem q1222 : (Jvm.Cond.methodLink "GossipStairsLaw" (51 : Nat) ({ cls := "GossipStairs", name := "hears", desc := "(I)I" } : Jvm.MethodName)) ∈ lw_all := lw_g (lw_at lw_m5 174 rfl) rfl
theorem q1234 : (Jvm.Cond.methodLink "GossipStairsLaw" (220 : Nat) ({ cls := "GossipStairsLaw", name := "isNeedless", desc := "(LGossipStairs;I[J)I" } : Jvm.MethodName)) ∈ lw_all := lw_g (lw_at lw_m5 186 rfl) rfl
theorem q1235 : (Jvm.Cond.static ({ cls := "GossipStairsLaw", name := "isNeedless", desc := "(LGossipStairs;I[J)I" } : Jvm.MethodName)) ∈ lw_all := lw_g (lw_at lw_m5 187 rfl) rfl
theorem q1236 : (Jvm.Cond.codeWith ({ cls := "GossipStairsLaw", name := "isNeedless", desc := "(LGossipStairs;I[J)I" } : Jvm.MethodName) method_15_code (4 : Nat) (Option.some Jvm.ClassFile.FieldType.int) [((0 : Nat), (16 : Nat), (19 : Nat), (19 : Nat))]) ∈ lw_all := lw_g (lw_at lw_m5 188 rfl) rfl
theorem q1237 : (Jvm.Cond.methodLink "GossipStairsLaw" (54 : Nat) ({ cls := "GossipStairs", name := "isNeedless", desc := "(I)Z" } : Jvm.MethodName)) ∈ lw_all := lw_g (lw_at lw_m5 189 rfl) rfl
theorem q1241 : (Jvm.Cond.methodLink "GossipStairsLaw" (227 : Nat) ({ cls := "GossipStairsLaw", name := "ways", desc := "(LGossipStairs;II[J)I" } : Jvm.MethodName)) ∈ lw_all := lw_g (lw_at lw_m5 193 rfl) rfl
theorem q1242 : (Jvm.Cond.static ({ cls := "GossipStairsLaw", name := "ways", desc := "(LGossipStairs;II[J)I" } : Jvm.MethodName)) ∈ lw_all := lw_g (lw_at lw_m5 194 rfl) rfl
theorem q1243 : (Jvm.Cond.codeWith ({ cls := "GossipStairsLaw", name := "ways", desc := "(LGossipStairs;II[J)I" } : Jvm.MethodName) method_16_code (5 : Nat) (Option.some Jvm.ClassFile.FieldType.int) [((0 : Nat), (10 : Nat), (13 : Nat), (19 : Nat))]) ∈ lw_all := lw_g (lw_at lw_m5 195 rfl) rfl
theorem q1244 : (Jvm.Cond.methodLink "GossipStairsLaw" (58 : Nat) ({ cls := "GossipStairs", name := "ways", desc := "(II)I" } : Jvm.MethodName)) ∈ lw_all := lw_g (lw_at lw_m5 196 rfl) rfl
theorem q1256 : (Jvm.Cond.methodLink "GossipStairsLaw" (230 : Nat) ({ cls := "GossipStairsLaw", name := "waysByGoingBack", desc := "(LGossipStairs;II[J)I" } : Jvm.MethodName)) ∈ lw_all := lw_g (lw_at lw_m5 208 rfl) rfl
theorem q1257 : (Jvm.Cond.static ({ cls := "GossipStairsLaw", name := "waysByGoingBack", desc := "(LGossipStairs;II[J)I" } : Jvm.MethodName)) ∈ lw_all := lw_g (lw_at lw_m5 209 rfl) rfl
theorem q1258 : (Jvm.Cond.codeWith ({ cls := "GossipStairsLaw", name := "waysByGoingBack", desc := "(LGossipStairs;II[J)I" } : Jvm.MethodName) method_17_code (5 : Nat) (Option.some Jvm.ClassFile.FieldType.int) [((0 : Nat), (10 : Nat), (13 : Nat), (19 : Nat))]) ∈ lw_all := lw_g (lw_at lw_m5 210 rfl) rfl
theorem q1259 : (Jvm.Cond.methodLink "GossipStairsLaw" (61 : Nat) ({ cls := "GossipStairs", name := "waysByGoingBack", desc := "(II)I" } : Jvm.MethodName)) ∈ lw_all := lw_g (lw_at lw_m5 211 rfl) rfl
theorem q1268 : (Jvm.Cond.methodLink "GossipStairsLaw" (233 : Nat) ({ cls := "GossipStairsLaw", name := "fewestArrows", desc := "(LGossipStairs;II[J)I" } : Jvm.MethodName)) ∈ lw_all := lw_g (lw_at lw_m5 220 rfl) rfl
theorem q1269 : (Jvm.Cond.static ({ cls := "GossipStairsLaw", name := "fewestArrows", desc := "(LGossipStairs;II[J)I" } : Jvm.MethodName)) ∈ lw_all := lw_g (lw_at lw_m5 221 rfl) rfl
theorem q1270 : (Jvm.Cond.codeWith ({ cls := "GossipStairsLaw", name := "fewestArrows", desc := "(LGossipStairs;II[J)I" } : Jvm.MethodName) method_18_code (5 : Nat) (Option.some Jvm.ClassFile.FieldType.int) [((0 : Nat), (10 : Nat), (13 : Nat), (19 : Nat)), ((0 : Nat), (10 : Nat), (17 : Nat), (67 : Nat))]) ∈ lw_all := lw_g (lw_at lw_m5 222 rfl) rfl
theorem q1271 : (Jvm.Cond.classLink "GossipStairsLaw" (67 : Nat) "java/util/NoSuchElementException") ∈ lw_all := lw_g (lw_at lw_m5 223 rfl) rfl
theorem q1272 : (Jvm.Cond.methodLink "GossipStairsLaw" (64 : Nat) ({ cls := "GossipStairs", name := "fewestArrows", desc := "(II)I" } : Jvm.MethodName)) ∈ lw_all := lw_g (lw_at lw_m5 224 rfl) rfl
theorem q1292 : (Jvm.Cond.methodLink "GossipStairsLaw" (236 : Nat) ({ cls := "GossipStairsLaw", name := "mostArrows", desc := "(LGossipStairs;II[J)I" } : Jvm.MethodName)) ∈ lw_all := lw_g (lw_at lw_m6 4 rfl) rfl
theorem q1293 : (Jvm.Cond.static ({ cls := "GossipStairsLaw", name := "mostArrows", desc := "(LGossipStairs;II[J)I" } : Jvm.MethodName)) ∈ lw_all := lw_g (lw_at lw_m6 5 rfl) rfl
theorem q1294 : (Jvm.Cond.codeWith ({ cls := "GossipStairsLaw", name := "mostArrows", desc := "(LGossipStairs;II[J)I" } : Jvm.MethodName) method_19_code (5 : Nat) (Option.some Jvm.ClassFile.FieldType.int) [((0 : Nat), (10 : Nat), (13 : Nat), (19 : Nat)), ((0 : Nat), (10 : Nat), (17 : Nat), (67 : Nat))]) ∈ lw_all := lw_g (lw_at lw_m6 6 rfl) rfl
theorem q1295 : (Jvm.Cond.methodLink "GossipStairsLaw" (69 : Nat) ({ cls := "GossipStairs", name := "mostArrows", desc := "(II)I" } : Jvm.MethodName)) ∈ lw_all := lw_g (lw_at lw_m6 7 rfl) rfl
theorem q1299 : (Jvm.Cond.methodLink "GossipStairsLaw" (247 : Nat) ({ cls := "GossipStairsLaw", name := "layerOf", desc := "(LGossipStairs;I[J)I" } : Jvm.MethodName)) ∈ lw_all := lw_g (lw_at lw_m6 11 rfl) rfl
theorem q1300 : (Jvm.Cond.static ({ cls := "GossipStairsLaw", name := "layerOf", desc := "(LGossipStairs;I[J)I" } : Jvm.MethodName)) ∈ lw_all := lw_g (lw_at lw_m6 12 rfl) rfl
theorem q1301 : (Jvm.Cond.codeWith ({ cls := "GossipStairsLaw", name := "layerOf", desc := "(LGossipStairs;I[J)I" } : Jvm.MethodName) method_20_code (4 : Nat) (Option.some Jvm.ClassFile.FieldType.int) [((0 : Nat), (9 : Nat), (12 : Nat), (19 : Nat))]) ∈ lw_all := lw_g (lw_at lw_m6 13 rfl) rfl
theorem q1302 : (Jvm.Cond.methodLink "GossipStairsLaw" (72 : Nat) ({ cls := "GossipStairs", name := "layerOf", desc := "(I)I" } : Jvm.MethodName)) ∈ lw_all := lw_g (lw_at lw_m6 14 rfl) rfl
theorem q1306 : (Jvm.Cond.methodLink "GossipStairsLaw" (250 : Nat) ({ cls := "GossipStairsLaw", name := "layerByGoingBack", desc := "(LGossipStairs;I[J)I" } : Jvm.MethodName)) ∈ lw_all := lw_g (lw_at lw_m6 18 rfl) rfl
theorem q1307 : (Jvm.Cond.static ({ cls := "GossipStairsLaw", name := "layerByGoingBack", desc := "(LGossipStairs;I[J)I" } : Jvm.MethodName)) ∈ lw_all := lw_g (lw_at lw_m6 19 rfl) rfl
theorem q1308 : (Jvm.Cond.codeWith ({ cls := "GossipStairsLaw", name := "layerByGoingBack", desc := "(LGossipStairs;I[J)I" } : Jvm.MethodName) method_21_code (4 : Nat) (Option.some Jvm.ClassFile.FieldType.int) [((0 : Nat), (9 : Nat), (12 : Nat), (19 : Nat))]) ∈ lw_all := lw_g (lw_at lw_m6 20 rfl) rfl
theorem q1309 : (Jvm.Cond.methodLink "GossipStairsLaw" (75 : Nat) ({ cls := "GossipStairs", name := "layerByGoingBack", desc := "(I)I" } : Jvm.MethodName)) ∈ lw_all := lw_g (lw_at lw_m6 21 rfl) rfl
theorem q1318 : (Jvm.Cond.methodLink "GossipStairsLaw" (253 : Nat) ({ cls := "GossipStairsLaw", name := "leastOf", desc := "(LGossipStairs;I[J)I" } : Jvm.MethodName)) ∈ lw_all := lw_g (lw_at lw_m6 30 rfl) rfl
theorem q1319 : (Jvm.Cond.static ({ cls := "GossipStairsLaw", name := "leastOf", desc := "(LGossipStairs;I[J)I" } : Jvm.MethodName)) ∈ lw_all := lw_g (lw_at lw_m6 31 rfl) rfl
theorem q1320 : (Jvm.Cond.codeWith ({ cls := "GossipStairsLaw", name := "leastOf", desc := "(LGossipStairs;I[J)I" } : Jvm.MethodName) method_22_code (4 : Nat) (Option.some Jvm.ClassFile.FieldType.int) [((0 : Nat), (9 : Nat), (12 : Nat), (19 : Nat))]) ∈ lw_all := lw_g (lw_at lw_m6 32 rfl) rfl
theorem q1321 : (Jvm.Cond.methodLink "GossipStairsLaw" (78 : Nat) ({ cls := "GossipStairs", name := "leastOf", desc := "(I)I" } : Jvm.MethodName)) ∈ lw_all := lw_g (lw_at lw_m6 33 rfl) rfl
theorem q1325 : (Jvm.Cond.methodLink "GossipStairsLaw" (260 : Nat) ({ cls := "GossipStairsLaw", name := "spanOf", desc := "(LGossipStairs;I[J)I" } : Jvm.MethodName)) ∈ lw_all := lw_g (lw_at lw_m6 37 rfl) rfl
theorem q1326 : (Jvm.Cond.static ({ cls := "GossipStairsLaw", name := "spanOf", desc := "(LGossipStairs;I[J)I" } : Jvm.MethodName)) ∈ lw_all := lw_g (lw_at lw_m6 38 rfl) rfl
theorem q1327 : (Jvm.Cond.codeWith ({ cls := "GossipStairsLaw", name := "spanOf", desc := "(LGossipStairs;I[J)I" } : Jvm.MethodName) method_23_code (4 : Nat) (Option.some Jvm.ClassFile.FieldType.int) [((0 : Nat), (9 : Nat), (12 : Nat), (19 : Nat))]) ∈ lw_all := lw_g (lw_at lw_m6 39 rfl) rfl
theorem q1328 : (Jvm.Cond.methodLink "GossipStairsLaw" (81 : Nat) ({ cls := "GossipStairs", name := "spanOf", desc := "(I)I" } : Jvm.MethodName)) ∈ lw_all := lw_g (lw_at lw_m6 40 rfl) rfl
theorem q1332 : (Jvm.Cond.methodLink "GossipStairsLaw" (263 : Nat) ({ cls := "GossipStairsLaw", name := "pointsOf", desc := "(LGossipStairs;I[J)I" } : Jvm.MethodName)) ∈ lw_all := lw_g (lw_at lw_m6 44 rfl) rfl
theorem q1333 : (Jvm.Cond.static ({ cls := "GossipStairsLaw", name := "pointsOf", desc := "(LGossipStairs;I[J)I" } : Jvm.MethodName)) ∈ lw_all := lw_g (lw_at lw_m6 45 rfl) rfl
theorem q1334 : (Jvm.Cond.codeWith ({ cls := "GossipStairsLaw", name := "pointsOf", desc := "(LGossipStairs;I[J)I" } : Jvm.MethodName) method_24_code (4 : Nat) (Option.some Jvm.ClassFile.FieldType.int) [((0 : Nat), (9 : Nat), (12 : Nat), (19 : Nat))]) ∈ lw_all := lw_g (lw_at lw_m6 46 rfl) rfl
theorem q1335 : (Jvm.Cond.methodLink "GossipStairsLaw" (84 : Nat) ({ cls := "GossipStairs", name := "pointsOf", desc := "(I)I" } : Jvm.MethodName)) ∈ lw_all := lw_g (lw_at lw_m6 47 rfl) rfl
theorem q1344 : (Jvm.Cond.methodLink "GossipStairsLaw" (270 : Nat) ({ cls := "GossipStairsLaw", name := "pointAt", desc := "(LGossipStairs;II[J)I" } : Jvm.MethodName)) ∈ lw_all := lw_g (lw_at lw_m6 56 rfl) rfl
theorem q1345 : (Jvm.Cond.static ({ cls := "GossipStairsLaw", name := "pointAt", desc := "(LGossipStairs;II[J)I" } : Jvm.MethodName)) ∈ lw_all := lw_g (lw_at lw_m6 57 rfl) rfl
theorem q1346 : (Jvm.Cond.codeWith ({ cls := "GossipStairsLaw", name := "pointAt", desc := "(LGossipStairs;II[J)I" } : Jvm.MethodName) method_25_code (5 : Nat) (Option.some Jvm.ClassFile.FieldType.int) [((0 : Nat), (10 : Nat), (13 : Nat), (19 : Nat)), ((0 : Nat), (10 : Nat), (17 : Nat), (67 : Nat))]) ∈ lw_all := lw_g (lw_at lw_m6 58 rfl) rfl
theorem q1347 : (Jvm.Cond.methodLink "GossipStairsLaw" (87 : Nat) ({ cls := "GossipStairs", name := "pointAt", desc := "(II)I" } : Jvm.MethodName)) ∈ lw_all := lw_g (lw_at lw_m6 59 rfl) rfl
theorem q1356 : (Jvm.Cond.methodLink "GossipStairsLaw" (273 : Nat) ({ cls := "GossipStairsLaw", name := "placeOf", desc := "(LGossipStairs;I[J)I" } : Jvm.MethodName)) ∈ lw_all := lw_g (lw_at lw_m6 68 rfl) rfl
theorem q1357 : (Jvm.Cond.static ({ cls := "GossipStairsLaw", name := "placeOf", desc := "(LGossipStairs;I[J)I" } : Jvm.MethodName)) ∈ lw_all := lw_g (lw_at lw_m6 69 rfl) rfl
theorem q1358 : (Jvm.Cond.codeWith ({ cls := "GossipStairsLaw", name := "placeOf", desc := "(LGossipStairs;I[J)I" } : Jvm.MethodName) method_26_code (4 : Nat) (Option.some Jvm.ClassFile.FieldType.int) [((0 : Nat), (9 : Nat), (12 : Nat), (19 : Nat))]) ∈ lw_all := lw_g (lw_at lw_m6 70 rfl) rfl
theorem q1359 : (Jvm.Cond.methodLink "GossipStairsLaw" (90 : Nat) ({ cls := "GossipStairs", name := "placeOf", desc := "(I)I" } : Jvm.MethodName)) ∈ lw_all := lw_g (lw_at lw_m6 71 rfl) rfl
theorem q1364 : (Jvm.Cond.methodLink "GossipStairsLaw" (276 : Nat) ({ cls := "GossipStairsLaw", name := "medianAbove", desc := "(LGossipStairs;II[J)I" } : Jvm.MethodName)) ∈ lw_all := lw_g (lw_at lw_m6 76 rfl) rfl
theorem q1365 : (Jvm.Cond.static ({ cls := "GossipStairsLaw", name := "medianAbove", desc := "(LGossipStairs;II[J)I" } : Jvm.MethodName)) ∈ lw_all := lw_g (lw_at lw_m6 77 rfl) rfl
theorem q1366 : (Jvm.Cond.codeWith ({ cls := "GossipStairsLaw", name := "medianAbove", desc := "(LGossipStairs;II[J)I" } : Jvm.MethodName) method_27_code (5 : Nat) (Option.some Jvm.ClassFile.FieldType.int) [((0 : Nat), (10 : Nat), (13 : Nat), (19 : Nat)), ((0 : Nat), (10 : Nat), (17 : Nat), (67 : Nat))]) ∈ lw_all := lw_g (lw_at lw_m6 78 rfl) rfl
theorem q1367 : (Jvm.Cond.methodLink "GossipStairsLaw" (93 : Nat) ({ cls := "GossipStairs", name := "medianAbove", desc := "(II)I" } : Jvm.MethodName)) ∈ lw_all := lw_g (lw_at lw_m6 79 rfl) rfl
theorem q1372 : (Jvm.Cond.methodLink "GossipStairsLaw" (279 : Nat) ({ cls := "GossipStairsLaw", name := "medianBelow", desc := "(LGossipStairs;II[J)I" } : Jvm.MethodName)) ∈ lw_all := lw_g (lw_at lw_m6 84 rfl) rfl
theorem q1373 : (Jvm.Cond.static ({ cls := "GossipStairsLaw", name := "medianBelow", desc := "(LGossipStairs;II[J)I" } : Jvm.MethodName)) ∈ lw_all := lw_g (lw_at lw_m6 85 rfl) rfl
theorem q1374 : (Jvm.Cond.codeWith ({ cls := "GossipStairsLaw", name := "medianBelow", desc := "(LGossipStairs;II[J)I" } : Jvm.MethodName) method_28_code (5 : Nat) (Option.some Jvm.ClassFile.FieldType.int) [((0 : Nat), (10 : Nat), (13 : Nat), (19 : Nat)), ((0 : Nat), (10 : Nat), (17 : Nat), (67 : Nat))]) ∈ lw_all := lw_g (lw_at lw_m6 86 rfl) rfl
theorem q1375 : (Jvm.Cond.methodLink "GossipStairsLaw" (96 : Nat) ({ cls := "GossipStairs", name := "medianBelow", desc := "(II)I" } : Jvm.MethodName)) ∈ lw_all := lw_g (lw_at lw_m6 87 rfl) rfl
theorem q1379 : (Jvm.Cond.methodLink "GossipStairsLaw" (282 : Nat) ({ cls := "GossipStairsLaw", name := "crowdedLayer", desc := "(LGossipStairs;[J)I" } : Jvm.MethodName)) ∈ lw_all := lw_g (lw_at lw_m6 91 rfl) rfl
theorem q1380 : (Jvm.Cond.static ({ cls := "GossipStairsLaw", name := "crowdedLayer", desc := "(LGossipStairs;[J)I" } : Jvm.MethodName)) ∈ lw_all := lw_g (lw_at lw_m6 92 rfl) rfl
theorem q1381 : (Jvm.Cond.codeWith ({ cls := "GossipStairsLaw", name := "crowdedLayer", desc := "(LGossipStairs;[J)I" } : Jvm.MethodName) method_29_code (3 : Nat) (Option.some Jvm.ClassFile.FieldType.int) [((0 : Nat), (8 : Nat), (11 : Nat), (67 : Nat))]) ∈ lw_all := lw_g (lw_at lw_m6 93 rfl) rfl
theorem q1382 : (Jvm.Cond.methodLink "GossipStairsLaw" (99 : Nat) ({ cls := "GossipStairs", name := "crowdedLayer", desc := "()I" } : Jvm.MethodName)) ∈ lw_all := lw_g (lw_at lw_m6 94 rfl) rfl
theorem q1386 : (Jvm.Cond.methodLink "GossipStairsLaw" (293 : Nat) ({ cls := "GossipStairsLaw", name := "crossingsBelow", desc := "(LGossipStairs;I[J)I" } : Jvm.MethodName)) ∈ lw_all := lw_g (lw_at lw_m6 98 rfl) rfl
theorem q1387 : (Jvm.Cond.static ({ cls := "GossipStairsLaw", name := "crossingsBelow", desc := "(LGossipStairs;I[J)I" } : Jvm.MethodName)) ∈ lw_all := lw_g (lw_at lw_m6 99 rfl) rfl
theorem q1388 : (Jvm.Cond.codeWith ({ cls := "GossipStairsLaw", name := "crossingsBelow", desc := "(LGossipStairs;I[J)I" } : Jvm.MethodName) method_30_code (4 : Nat) (Option.some Jvm.ClassFile.FieldType.int) [((0 : Nat), (9 : Nat), (12 : Nat), (19 : Nat))]) ∈ lw_all := lw_g (lw_at lw_m6 100 rfl) rfl
theorem q1389 : (Jvm.Cond.methodLink "GossipStairsLaw" (102 : Nat) ({ cls := "GossipStairs", name := "crossingsBelow", desc := "(I)I" } : Jvm.MethodName)) ∈ lw_all := lw_g (lw_at lw_m6 101 rfl) rfl
theorem q1394 : (Jvm.Cond.methodLink "GossipStairsLaw" (296 : Nat) ({ cls := "GossipStairsLaw", name := "crossingsOf", desc := "(LGossipStairs;I[J)I" } : Jvm.MethodName)) ∈ lw_all := lw_g (lw_at lw_m6 106 rfl) rfl
theorem q1395 : (Jvm.Cond.static ({ cls := "GossipStairsLaw", name := "crossingsOf", desc := "(LGossipStairs;I[J)I" } : Jvm.MethodName)) ∈ lw_all := lw_g (lw_at lw_m6 107 rfl) rfl
theorem q1396 : (Jvm.Cond.codeWith ({ cls := "GossipStairsLaw", name := "crossingsOf", desc := "(LGossipStairs;I[J)I" } : Jvm.MethodName) method_31_code (4 : Nat) (Option.some Jvm.ClassFile.FieldType.int) [((0 : Nat), (9 : Nat), (12 : Nat), (19 : Nat))]) ∈ lw_all := lw_g (lw_at lw_m6 108 rfl) rfl
theorem q1397 : (Jvm.Cond.methodLink "GossipStairsLaw" (105 : Nat) ({ cls := "GossipStairs", name := "crossingsOf", desc := "(I)I" } : Jvm.MethodName)) ∈ lw_all := lw_g (lw_at lw_m6 109 rfl) rfl
theorem q1405 : (Jvm.Cond.methodLink "GossipStairsLaw" (307 : Nat) ({ cls := "GossipStairsLaw", name := "columnAt", desc := "(LGossipStairs;II[J)I" } : Jvm.MethodName)) ∈ lw_all := lw_g (lw_at lw_m6 117 rfl) rfl
theorem q1406 : (Jvm.Cond.static ({ cls := "GossipStairsLaw", name := "columnAt", desc := "(LGossipStairs;II[J)I" } : Jvm.MethodName)) ∈ lw_all := lw_g (lw_at lw_m6 118 rfl) rfl
theorem q1407 : (Jvm.Cond.codeWith ({ cls := "GossipStairsLaw", name := "columnAt", desc := "(LGossipStairs;II[J)I" } : Jvm.MethodName) method_32_code (5 : Nat) (Option.some Jvm.ClassFile.FieldType.int) [((0 : Nat), (10 : Nat), (13 : Nat), (19 : Nat)), ((0 : Nat), (10 : Nat), (17 : Nat), (67 : Nat))]) ∈ lw_all := lw_g (lw_at lw_m6 119 rfl) rfl
theorem q1408 : (Jvm.Cond.methodLink "GossipStairsLaw" (108 : Nat) ({ cls := "GossipStairs", name := "columnAt", desc := "(II)I" } : Jvm.MethodName)) ∈ lw_all := lw_g (lw_at lw_m6 120 rfl) rfl
theorem q1412 : (Jvm.Cond.methodLink "GossipStairsLaw" (310 : Nat) ({ cls := "GossipStairsLaw", name := "bendsOf", desc := "(LGossipStairs;I[J)I" } : Jvm.MethodName)) ∈ lw_all := lw_g (lw_at lw_m6 124 rfl) rfl
theorem q1413 : (Jvm.Cond.static ({ cls := "GossipStairsLaw", name := "bendsOf", desc := "(LGossipStairs;I[J)I" } : Jvm.MethodName)) ∈ lw_all := lw_g (lw_at lw_m6 125 rfl) rfl
theorem q1414 : (Jvm.Cond.codeWith ({ cls := "GossipStairsLaw", name := "bendsOf", desc := "(LGossipStairs;I[J)I" } : Jvm.MethodName) method_33_code (4 : Nat) (Option.some Jvm.ClassFile.FieldType.int) [((0 : Nat), (9 : Nat), (12 : Nat), (19 : Nat))]) ∈ lw_all := lw_g (lw_at lw_m6 126 rfl) rfl
theorem q1415 : (Jvm.Cond.methodLink "GossipStairsLaw" (111 : Nat) ({ cls := "GossipStairs", name := "bendsOf", desc := "(I)I" } : Jvm.MethodName)) ∈ lw_all := lw_g (lw_at lw_m6 127 rfl) rfl
theorem q1419 : (Jvm.Cond.methodLink "GossipStairsLaw" (337 : Nat) ({ cls := "GossipStairsLaw", name := "meanPoints", desc := "(LGossipStairs;[F)I" } : Jvm.MethodName)) ∈ lw_all := lw_g (lw_at lw_m6 131 rfl) rfl
theorem q1420 : (Jvm.Cond.static ({ cls := "GossipStairsLaw", name := "meanPoints", desc := "(LGossipStairs;[F)I" } : Jvm.MethodName)) ∈ lw_all := lw_g (lw_at lw_m6 132 rfl) rfl
theorem q1421 : (Jvm.Cond.codeWith ({ cls := "GossipStairsLaw", name := "meanPoints", desc := "(LGossipStairs;[F)I" } : Jvm.MethodName) method_34_code (3 : Nat) (Option.some Jvm.ClassFile.FieldType.int) [((0 : Nat), (7 : Nat), (10 : Nat), (67 : Nat))]) ∈ lw_all := lw_g (lw_at lw_m6 133 rfl) rfl
theorem q1422 : (Jvm.Cond.methodLink "GossipStairsLaw" (114 : Nat) ({ cls := "GossipStairs", name := "meanPoints", desc := "()F" } : Jvm.MethodName)) ∈ lw_all := lw_g (lw_at lw_m6 134 rfl) rfl
theorem q1426 : (Jvm.Cond.methodLink "GossipStairsLaw" (345 : Nat) ({ cls := "GossipStairsLaw", name := "goBack", desc := "(LGossipStairs;[J)I" } : Jvm.MethodName)) ∈ lw_all := lw_g (lw_at lw_m6 138 rfl) rfl
theorem q1427 : (Jvm.Cond.static ({ cls := "GossipStairsLaw", name := "goBack", desc := "(LGossipStairs;[J)I" } : Jvm.MethodName)) ∈ lw_all := lw_g (lw_at lw_m6 139 rfl) rfl
theorem q1428 : (Jvm.Cond.codeWith ({ cls := "GossipStairsLaw", name := "goBack", desc := "(LGossipStairs;[J)I" } : Jvm.MethodName) method_35_code (3 : Nat) (Option.some Jvm.ClassFile.FieldType.int) [((0 : Nat), (8 : Nat), (11 : Nat), (13 : Nat))]) ∈ lw_all := lw_g (lw_at lw_m6 140 rfl) rfl
theorem q1429 : (Jvm.Cond.methodLink "GossipStairsLaw" (118 : Nat) ({ cls := "GossipStairs", name := "goBack", desc := "()I" } : Jvm.MethodName)) ∈ lw_all := lw_g (lw_at lw_m6 141 rfl) rfl
theorem q1437 : (Jvm.Cond.methodLink "GossipStairsLaw" (352 : Nat) ({ cls := "GossipStairsLaw", name := "undo", desc := "(LGossipStairs;[J)I" } : Jvm.MethodName)) ∈ lw_all := lw_g (lw_at lw_m6 149 rfl) rfl
theorem q1438 : (Jvm.Cond.static ({ cls := "GossipStairsLaw", name := "undo", desc := "(LGossipStairs;[J)I" } : Jvm.MethodName)) ∈ lw_all := lw_g (lw_at lw_m6 150 rfl) rfl
theorem q1439 : (Jvm.Cond.codeWith ({ cls := "GossipStairsLaw", name := "undo", desc := "(LGossipStairs;[J)I" } : Jvm.MethodName) method_36_code (3 : Nat) (Option.some Jvm.ClassFile.FieldType.int) [((0 : Nat), (8 : Nat), (11 : Nat), (13 : Nat))]) ∈ lw_all := lw_g (lw_at lw_m6 151 rfl) rfl
theorem q1440 : (Jvm.Cond.methodLink "GossipStairsLaw" (121 : Nat) ({ cls := "GossipStairs", name := "undo", desc := "()I" } : Jvm.MethodName)) ∈ lw_all := lw_g (lw_at lw_m6 152 rfl) rfl
theorem q1456 : (Jvm.Cond.methodLink "GossipStairsLaw" (355 : Nat) ({ cls := "GossipStairsLaw", name := "type", desc := "(LGossipStairs;I[J)I" } : Jvm.MethodName)) ∈ lw_all := lw_g (lw_at lw_m6 168 rfl) rfl
theorem q1457 : (Jvm.Cond.static ({ cls := "GossipStairsLaw", name := "type", desc := "(LGossipStairs;I[J)I" } : Jvm.MethodName)) ∈ lw_all := lw_g (lw_at lw_m6 169 rfl) rfl
theorem q1458 : (Jvm.Cond.codeWith ({ cls := "GossipStairsLaw", name := "type", desc := "(LGossipStairs;I[J)I" } : Jvm.MethodName) method_37_code (4 : Nat) (Option.some Jvm.ClassFile.FieldType.int) [((0 : Nat), (9 : Nat), (12 : Nat), (19 : Nat)), ((0 : Nat), (9 : Nat), (15 : Nat), (13 : Nat))]) ∈ lw_all := lw_g (lw_at lw_m6 170 rfl) rfl
theorem q1459 : (Jvm.Cond.methodLink "GossipStairsLaw" (124 : Nat) ({ cls := "GossipStairs", name := "type", desc := "(I)I" } : Jvm.MethodName)) ∈ lw_all := lw_g (lw_at lw_m6 171 rfl) rfl
theorem q1488 : (Jvm.Cond.methodLink "GossipStairsLaw" (362 : Nat) ({ cls := "GossipStairsLaw", name := "faultPosition", desc := "(LGossipStairs;[J)I" } : Jvm.MethodName)) ∈ lw_all := lw_g (lw_at lw_m6 200 rfl) rfl
theorem q1489 : (Jvm.Cond.static ({ cls := "GossipStairsLaw", name := "faultPosition", desc := "(LGossipStairs;[J)I" } : Jvm.MethodName)) ∈ lw_all := lw_g (lw_at lw_m6 201 rfl) rfl
theorem q1490 : (Jvm.Cond.codeWith ({ cls := "GossipStairsLaw", name := "faultPosition", desc := "(LGossipStairs;[J)I" } : Jvm.MethodName) method_38_code (3 : Nat) (Option.some Jvm.ClassFile.FieldType.int) [((0 : Nat), (8 : Nat), (11 : Nat), (67 : Nat))]) ∈ lw_all := lw_g (lw_at lw_m6 202 rfl) rfl
theorem q1491 : (Jvm.Cond.methodLink "GossipStairsLaw" (127 : Nat) ({ cls := "GossipStairs", name := "faultPosition", desc := "()I" } : Jvm.MethodName)) ∈ lw_all := lw_g (lw_at lw_m6 203 rfl) rfl
theorem q1625 : (Jvm.Cond.methodLink "GossipStairsLaw" (365 : Nat) ({ cls := "GossipStairsLaw", name := "faultReason", desc := "(LGossipStairs;[J)I" } : Jvm.MethodName)) ∈ lw_all := lw_g (lw_at lw_m7 97 rfl) rfl
theorem q1626 : (Jvm.Cond.static ({ cls := "GossipStairsLaw", name := "faultReason", desc := "(LGossipStairs;[J)I" } : Jvm.MethodName)) ∈ lw_all := lw_g (lw_at lw_m7 98 rfl) rfl
theorem q1627 : (Jvm.Cond.codeWith ({ cls := "GossipStairsLaw", name := "faultReason", desc := "(LGossipStairs;[J)I" } : Jvm.MethodName) method_39_code (3 : Nat) (Option.some Jvm.ClassFile.FieldType.int) [((0 : Nat), (8 : Nat), (11 : Nat), (67 : Nat))]) ∈ lw_all := lw_g (lw_at lw_m7 99 rfl) rfl
theorem q1628 : (Jvm.Cond.methodLink "GossipStairsLaw" (130 : Nat) ({ cls := "GossipStairs", name := "faultReason", desc := "()I" } : Jvm.MethodName)) ∈ lw_all := lw_g (lw_at lw_m7 100 rfl) rfl
theorem q1632 : (Jvm.Cond.methodLink "GossipStairsLaw" (368 : Nat) ({ cls := "GossipStairsLaw", name := "faultCause", desc := "(LGossipStairs;[J)I" } : Jvm.MethodName)) ∈ lw_all := lw_g (lw_at lw_m7 104 rfl) rfl
theorem q1633 : (Jvm.Cond.static ({ cls := "GossipStairsLaw", name := "faultCause", desc := "(LGossipStairs;[J)I" } : Jvm.MethodName)) ∈ lw_all := lw_g (lw_at lw_m7 105 rfl) rfl
theorem q1634 : (Jvm.Cond.codeWith ({ cls := "GossipStairsLaw", name := "faultCause", desc := "(LGossipStairs;[J)I" } : Jvm.MethodName) method_40_code (3 : Nat) (Option.some Jvm.ClassFile.FieldType.int) [((0 : Nat), (8 : Nat), (11 : Nat), (67 : Nat))]) ∈ lw_all := lw_g (lw_at lw_m7 106 rfl) rfl
theorem q1635 : (Jvm.Cond.methodLink "GossipStairsLaw" (133 : Nat) ({ cls := "GossipStairs", name := "faultCause", desc := "()I" } : Jvm.MethodName)) ∈ lw_all := lw_g (lw_at lw_m7 107 rfl) rfl
theorem q1639 : (Jvm.Cond.methodLink "GossipStairsLaw" (371 : Nat) ({ cls := "GossipStairsLaw", name := "play", desc := "(LGossipStairs;[J)I" } : Jvm.MethodName)) ∈ lw_all := lw_g (lw_at lw_m7 111 rfl) rfl
theorem q1640 : (Jvm.Cond.static ({ cls := "GossipStairsLaw", name := "play", desc := "(LGossipStairs;[J)I" } : Jvm.MethodName)) ∈ lw_all := lw_g (lw_at lw_m7 112 rfl) rfl
theorem q1641 : (Jvm.Cond.codeWith ({ cls := "GossipStairsLaw", name := "play", desc := "(LGossipStairs;[J)I" } : Jvm.MethodName) method_41_code (3 : Nat) (Option.some Jvm.ClassFile.FieldType.int) [((0 : Nat), (8 : Nat), (11 : Nat), (13 : Nat))]) ∈ lw_all := lw_g (lw_at lw_m7 113 rfl) rfl
theorem q1642 : (Jvm.Cond.methodLink "GossipStairsLaw" (136 : Nat) ({ cls := "GossipStairs", name := "play", desc := "()I" } : Jvm.MethodName)) ∈ lw_all := lw_g (lw_at lw_m7 114 rfl) rfl
theorem q1646 : (Jvm.Cond.classLink "GossipStairsLaw" (140 : Nat) "GossipStairsModel") ∈ lw_all := lw_g (lw_at lw_m7 118 rfl) rfl
theorem q1648 : (Jvm.Cond.methodLink "GossipStairsLaw" (142 : Nat) ({ cls := "GossipStairsModel", name := "<init>", desc := "()V" } : Jvm.MethodName)) ∈ lw_all := lw_g (lw_at lw_m7 120 rfl) rfl
theorem q1750 : (Jvm.Cond.methodLink "GossipStairsLaw" (149 : Nat) ({ cls := "GossipStairsModel", name := "thrown", desc := "()I" } : Jvm.MethodName)) ∈ lw_all := lw_g (lw_at lw_m7 222 rfl) rfl
theorem q1754 : (Jvm.Cond.methodLink "GossipStairsLaw" (148 : Nat) ({ cls := "GossipStairsModel", name := "addBox", desc := "()I" } : Jvm.MethodName)) ∈ lw_all := lw_g (lw_at lw_m7 226 rfl) rfl
theorem q1766 : (Jvm.Cond.methodLink "GossipStairsLaw" (155 : Nat) ({ cls := "GossipStairsModel", name := "addArrow", desc := "(II)I" } : Jvm.MethodName)) ∈ lw_all := lw_g (lw_at lw_m7 238 rfl) rfl
theorem q1793 : (Jvm.Cond.methodLink "GossipStairsLaw" (159 : Nat) ({ cls := "GossipStairsModel", name := "addChain", desc := "(III)I" } : Jvm.MethodName)) ∈ lw_all := lw_g (lw_at lw_m8 25 rfl) rfl
theorem q1805 : (Jvm.Cond.methodLink "GossipStairsLaw" (163 : Nat) ({ cls := "GossipStairsModel", name := "removeArrow", desc := "(I)I" } : Jvm.MethodName)) ∈ lw_all := lw_g (lw_at lw_m8 37 rfl) rfl
theorem q1813 : (Jvm.Cond.methodLink "GossipStairsLaw" (166 : Nat) ({ cls := "GossipStairsModel", name := "holdDown", desc := "(II)I" } : Jvm.MethodName)) ∈ lw_all := lw_g (lw_at lw_m8 45 rfl) rfl
theorem q1817 : (Jvm.Cond.methodLink "GossipStairsLaw" (170 : Nat) ({ cls := "GossipStairsModel", name := "sweepDown", desc := "()I" } : Jvm.MethodName)) ∈ lw_all := lw_g (lw_at lw_m8 49 rfl) rfl
theorem q1869 : (Jvm.Cond.methodLink "GossipStairsLaw" (174 : Nat) ({ cls := "GossipStairsModel", name := "sweepUp", desc := "()I" } : Jvm.MethodName)) ∈ lw_all := lw_g (lw_at lw_m8 101 rfl) rfl
theorem q1873 : (Jvm.Cond.methodLink "GossipStairsLaw" (178 : Nat) ({ cls := "GossipStairsModel", name := "untangle", desc := "()I" } : Jvm.MethodName)) ∈ lw_all := lw_g (lw_at lw_m8 105 rfl) rfl
theorem q1889 : (Jvm.Cond.methodLink "GossipStairsLaw" (181 : Nat) ({ cls := "GossipStairsModel", name := "exchange", desc := "(III)I" } : Jvm.MethodName)) ∈ lw_all := lw_g (lw_at lw_m8 121 rfl) rfl
theorem q1901 : (Jvm.Cond.methodLink "GossipStairsLaw" (185 : Nat) ({ cls := "GossipStairsModel", name := "settle", desc := "()I" } : Jvm.MethodName)) ∈ lw_all := lw_g (lw_at lw_m8 133 rfl) rfl
theorem q1913 : (Jvm.Cond.methodLink "GossipStairsLaw" (189 : Nat) ({ cls := "GossipStairsModel", name := "prune", desc := "()I" } : Jvm.MethodName)) ∈ lw_all := lw_g (lw_at lw_m8 145 rfl) rfl
theorem q1921 : (Jvm.Cond.methodLink "GossipStairsLaw" (193 : Nat) ({ cls := "GossipStairsModel", name := "turnRound", desc := "()I" } : Jvm.MethodName)) ∈ lw_all := lw_g (lw_at lw_m8 153 rfl) rfl
theorem q1925 : (Jvm.Cond.methodLink "GossipStairsLaw" (197 : Nat) ({ cls := "GossipStairsModel", name := "boxes", desc := "()I" } : Jvm.MethodName)) ∈ lw_all := lw_g (lw_at lw_m8 157 rfl) rfl
theorem q1933 : (Jvm.Cond.methodLink "GossipStairsLaw" (201 : Nat) ({ cls := "GossipStairsModel", name := "arrows", desc := "()I" } : Jvm.MethodName)) ∈ lw_all := lw_g (lw_at lw_m8 165 rfl) rfl
theorem q1937 : (Jvm.Cond.methodLink "GossipStairsLaw" (204 : Nat) ({ cls := "GossipStairsModel", name := "fromOf", desc := "(I)I" } : Jvm.MethodName)) ∈ lw_all := lw_g (lw_at lw_m8 169 rfl) rfl
theorem q1945 : (Jvm.Cond.methodLink "GossipStairsLaw" (207 : Nat) ({ cls := "GossipStairsModel", name := "toOf", desc := "(I)I" } : Jvm.MethodName)) ∈ lw_all := lw_g (lw_at lw_m8 177 rfl) rfl
theorem q1949 : (Jvm.Cond.methodLink "GossipStairsLaw" (210 : Nat) ({ cls := "GossipStairsModel", name := "whyRefused", desc := "(II)I" } : Jvm.MethodName)) ∈ lw_all := lw_g (lw_at lw_m8 181 rfl) rfl
theorem q1957 : (Jvm.Cond.methodLink "GossipStairsLaw" (213 : Nat) ({ cls := "GossipStairsModel", name := "whyNoChain", desc := "(III)I" } : Jvm.MethodName)) ∈ lw_all := lw_g (lw_at lw_m8 189 rfl) rfl
theorem q1961 : (Jvm.Cond.methodLink "GossipStairsLaw" (216 : Nat) ({ cls := "GossipStairsModel", name := "doesHear", desc := "(II)Z" } : Jvm.MethodName)) ∈ lw_all := lw_g (lw_at lw_m8 193 rfl) rfl
theorem q1965 : (Jvm.Cond.methodLink "GossipStairsLaw" (219 : Nat) ({ cls := "GossipStairsModel", name := "hears", desc := "(I)I" } : Jvm.MethodName)) ∈ lw_all := lw_g (lw_at lw_m8 197 rfl) rfl
theorem q1969 : (Jvm.Cond.methodLink "GossipStairsLaw" (222 : Nat) ({ cls := "GossipStairsModel", name := "isNeedless", desc := "(I)Z" } : Jvm.MethodName)) ∈ lw_all := lw_g (lw_at lw_m8 201 rfl) rfl
theorem q1973 : (Jvm.Cond.methodLink "GossipStairsLaw" (226 : Nat) ({ cls := "GossipStairsModel", name := "needless", desc := "()I" } : Jvm.MethodName)) ∈ lw_all := lw_g (lw_at lw_m8 205 rfl) rfl
theorem q1977 : (Jvm.Cond.methodLink "GossipStairsLaw" (229 : Nat) ({ cls := "GossipStairsModel", name := "ways", desc := "(II)I" } : Jvm.MethodName)) ∈ lw_all := lw_g (lw_at lw_m8 209 rfl) rfl
theorem q1989 : (Jvm.Cond.methodLink "GossipStairsLaw" (232 : Nat) ({ cls := "GossipStairsModel", name := "waysByGoingBack", desc := "(II)I" } : Jvm.MethodName)) ∈ lw_all := lw_g (lw_at lw_m8 221 rfl) rfl
theorem q1993 : (Jvm.Cond.methodLink "GossipStairsLaw" (235 : Nat) ({ cls := "GossipStairsModel", name := "fewestArrows", desc := "(II)I" } : Jvm.MethodName)) ∈ lw_all := lw_g (lw_at lw_m8 225 rfl) rfl
theorem q2005 : (Jvm.Cond.methodLink "GossipStairsLaw" (238 : Nat) ({ cls := "GossipStairsModel", name := "mostArrows", desc := "(II)I" } : Jvm.MethodName)) ∈ lw_all := lw_g (lw_at lw_m8 237 rfl) rfl
theorem q2009 : (Jvm.Cond.methodLink "GossipStairsLaw" (242 : Nat) ({ cls := "GossipStairsModel", name := "firstTellers", desc := "()I" } : Jvm.MethodName)) ∈ lw_all := lw_g (lw_at lw_m9 1 rfl) rfl
theorem q2017 : (Jvm.Cond.methodLink "GossipStairsLaw" (246 : Nat) ({ cls := "GossipStairsModel", name := "lastHearers", desc := "()I" } : Jvm.MethodName)) ∈ lw_all := lw_g (lw_at lw_m9 9 rfl) rfl
theorem q2021 : (Jvm.Cond.methodLink "GossipStairsLaw" (249 : Nat) ({ cls := "GossipStairsModel", name := "layerOf", desc := "(I)I" } : Jvm.MethodName)) ∈ lw_all := lw_g (lw_at lw_m9 13 rfl) rfl
theorem q2029 : (Jvm.Cond.methodLink "GossipStairsLaw" (252 : Nat) ({ cls := "GossipStairsModel", name := "layerByGoingBack", desc := "(I)I" } : Jvm.MethodName)) ∈ lw_all := lw_g (lw_at lw_m9 21 rfl) rfl
theorem q2033 : (Jvm.Cond.methodLink "GossipStairsLaw" (255 : Nat) ({ cls := "GossipStairsModel", name := "leastOf", desc := "(I)I" } : Jvm.MethodName)) ∈ lw_all := lw_g (lw_at lw_m9 25 rfl) rfl
theorem q2037 : (Jvm.Cond.methodLink "GossipStairsLaw" (259 : Nat) ({ cls := "GossipStairsModel", name := "layers", desc := "()I" } : Jvm.MethodName)) ∈ lw_all := lw_g (lw_at lw_m9 29 rfl) rfl
theorem q2041 : (Jvm.Cond.methodLink "GossipStairsLaw" (262 : Nat) ({ cls := "GossipStairsModel", name := "spanOf", desc := "(I)I" } : Jvm.MethodName)) ∈ lw_all := lw_g (lw_at lw_m9 33 rfl) rfl
theorem q2045 : (Jvm.Cond.methodLink "GossipStairsLaw" (265 : Nat) ({ cls := "GossipStairsModel", name := "pointsOf", desc := "(I)I" } : Jvm.MethodName)) ∈ lw_all := lw_g (lw_at lw_m9 37 rfl) rfl
theorem q2049 : (Jvm.Cond.methodLink "GossipStairsLaw" (269 : Nat) ({ cls := "GossipStairsModel", name := "arrowPoints", desc := "()I" } : Jvm.MethodName)) ∈ lw_all := lw_g (lw_at lw_m9 41 rfl) rfl
theorem q2057 : (Jvm.Cond.methodLink "GossipStairsLaw" (272 : Nat) ({ cls := "GossipStairsModel", name := "pointAt", desc := "(II)I" } : Jvm.MethodName)) ∈ lw_all := lw_g (lw_at lw_m9 49 rfl) rfl
theorem q2065 : (Jvm.Cond.methodLink "GossipStairsLaw" (275 : Nat) ({ cls := "GossipStairsModel", name := "placeOf", desc := "(I)I" } : Jvm.MethodName)) ∈ lw_all := lw_g (lw_at lw_m9 57 rfl) rfl
theorem q2069 : (Jvm.Cond.methodLink "GossipStairsLaw" (278 : Nat) ({ cls := "GossipStairsModel", name := "medianAbove", desc := "(II)I" } : Jvm.MethodName)) ∈ lw_all := lw_g (lw_at lw_m9 61 rfl) rfl
theorem q2073 : (Jvm.Cond.methodLink "GossipStairsLaw" (281 : Nat) ({ cls := "GossipStairsModel", name := "medianBelow", desc := "(II)I" } : Jvm.MethodName)) ∈ lw_all := lw_g (lw_at lw_m9 65 rfl) rfl
theorem q2077 : (Jvm.Cond.methodLink "GossipStairsLaw" (284 : Nat) ({ cls := "GossipStairsModel", name := "crowdedLayer", desc := "()I" } : Jvm.MethodName)) ∈ lw_all := lw_g (lw_at lw_m9 69 rfl) rfl
theorem q2081 : (Jvm.Cond.methodLink "GossipStairsLaw" (288 : Nat) ({ cls := "GossipStairsModel", name := "crossings", desc := "()I" } : Jvm.MethodName)) ∈ lw_all := lw_g (lw_at lw_m9 73 rfl) rfl
theorem q2089 : (Jvm.Cond.methodLink "GossipStairsLaw" (292 : Nat) ({ cls := "GossipStairsModel", name := "crossingsByPuttingIn", desc := "()I" } : Jvm.MethodName)) ∈ lw_all := lw_g (lw_at lw_m9 81 rfl) rfl
theorem q2093 : (Jvm.Cond.methodLink "GossipStairsLaw" (295 : Nat) ({ cls := "GossipStairsModel", name := "crossingsBelow", desc := "(I)I" } : Jvm.MethodName)) ∈ lw_all := lw_g (lw_at lw_m9 85 rfl) rfl
theorem q2097 : (Jvm.Cond.methodLink "GossipStairsLaw" (298 : Nat) ({ cls := "GossipStairsModel", name := "crossingsOf", desc := "(I)I" } : Jvm.MethodName)) ∈ lw_all := lw_g (lw_at lw_m9 89 rfl) rfl
theorem q2101 : (Jvm.Cond.methodLink "GossipStairsLaw" (302 : Nat) ({ cls := "GossipStairsModel", name := "ifSweptDown", desc := "()I" } : Jvm.MethodName)) ∈ lw_all := lw_g (lw_at lw_m9 93 rfl) rfl
theorem q2109 : (Jvm.Cond.methodLink "GossipStairsLaw" (306 : Nat) ({ cls := "GossipStairsModel", name := "ifSweptUp", desc := "()I" } : Jvm.MethodName)) ∈ lw_all := lw_g (lw_at lw_m9 101 rfl) rfl
theorem q2113 : (Jvm.Cond.methodLink "GossipStairsLaw" (309 : Nat) ({ cls := "GossipStairsModel", name := "columnAt", desc := "(II)I" } : Jvm.MethodName)) ∈ lw_all := lw_g (lw_at lw_m9 105 rfl) rfl
theorem q2121 : (Jvm.Cond.methodLink "GossipStairsLaw" (312 : Nat) ({ cls := "GossipStairsModel", name := "bendsOf", desc := "(I)I" } : Jvm.MethodName)) ∈ lw_all := lw_g (lw_at lw_m9 113 rfl) rfl
theorem q2133 : (Jvm.Cond.methodLink "GossipStairsLaw" (316 : Nat) ({ cls := "GossipStairsModel", name := "bends", desc := "()I" } : Jvm.MethodName)) ∈ lw_all := lw_g (lw_at lw_m9 125 rfl) rfl
theorem q2137 : (Jvm.Cond.methodLink "GossipStairsLaw" (320 : Nat) ({ cls := "GossipStairsModel", name := "widest", desc := "()I" } : Jvm.MethodName)) ∈ lw_all := lw_g (lw_at lw_m9 129 rfl) rfl
theorem q2141 : (Jvm.Cond.methodLink "GossipStairsLaw" (324 : Nat) ({ cls := "GossipStairsModel", name := "slant", desc := "()I" } : Jvm.MethodName)) ∈ lw_all := lw_g (lw_at lw_m9 133 rfl) rfl
theorem q2149 : (Jvm.Cond.methodLink "GossipStairsLaw" (328 : Nat) ({ cls := "GossipStairsModel", name := "straightLines", desc := "()I" } : Jvm.MethodName)) ∈ lw_all := lw_g (lw_at lw_m9 141 rfl) rfl
theorem q2153 : (Jvm.Cond.methodLink "GossipStairsLaw" (332 : Nat) ({ cls := "GossipStairsModel", name := "sweeps", desc := "()I" } : Jvm.MethodName)) ∈ lw_all := lw_g (lw_at lw_m9 145 rfl) rfl
theorem q2157 : (Jvm.Cond.methodLink "GossipStairsLaw" (336 : Nat) ({ cls := "GossipStairsModel", name := "came", desc := "()I" } : Jvm.MethodName)) ∈ lw_all := lw_g (lw_at lw_m9 149 rfl) rfl
theorem q2161 : (Jvm.Cond.methodLink "GossipStairsLaw" (340 : Nat) ({ cls := "GossipStairsModel", name := "meanPoints", desc := "()F" } : Jvm.MethodName)) ∈ lw_all := lw_g (lw_at lw_m9 153 rfl) rfl
theorem q2165 : (Jvm.Cond.methodLink "GossipStairsLaw" (344 : Nat) ({ cls := "GossipStairsModel", name := "keep", desc := "()I" } : Jvm.MethodName)) ∈ lw_all := lw_g (lw_at lw_m9 157 rfl) rfl
theorem q2172 : (Jvm.Cond.methodLink "GossipStairsLaw" (347 : Nat) ({ cls := "GossipStairsModel", name := "goBack", desc := "()I" } : Jvm.MethodName)) ∈ lw_all := lw_g (lw_at lw_m9 164 rfl) rfl
theorem q2176 : (Jvm.Cond.methodLink "GossipStairsLaw" (351 : Nat) ({ cls := "GossipStairsModel", name := "states", desc := "()I" } : Jvm.MethodName)) ∈ lw_all := lw_g (lw_at lw_m9 168 rfl) rfl
theorem q2180 : (Jvm.Cond.methodLink "GossipStairsLaw" (354 : Nat) ({ cls := "GossipStairsModel", name := "undo", desc := "()I" } : Jvm.MethodName)) ∈ lw_all := lw_g (lw_at lw_m9 172 rfl) rfl
theorem q2184 : (Jvm.Cond.methodLink "GossipStairsLaw" (357 : Nat) ({ cls := "GossipStairsModel", name := "type", desc := "(I)I" } : Jvm.MethodName)) ∈ lw_all := lw_g (lw_at lw_m9 176 rfl) rfl
theorem q2188 : (Jvm.Cond.methodLink "GossipStairsLaw" (361 : Nat) ({ cls := "GossipStairsModel", name := "clearText", desc := "()I" } : Jvm.MethodName)) ∈ lw_all := lw_g (lw_at lw_m9 180 rfl) rfl
theorem q2192 : (Jvm.Cond.methodLink "GossipStairsLaw" (364 : Nat) ({ cls := "GossipStairsModel", name := "faultPosition", desc := "()I" } : Jvm.MethodName)) ∈ lw_all := lw_g (lw_at lw_m9 184 rfl) rfl
theorem q2231 : (Jvm.Cond.methodLink "GossipStairsLaw" (367 : Nat) ({ cls := "GossipStairsModel", name := "faultReason", desc := "()I" } : Jvm.MethodName)) ∈ lw_all := lw_g (lw_at lw_m9 223 rfl) rfl
theorem q2235 : (Jvm.Cond.methodLink "GossipStairsLaw" (370 : Nat) ({ cls := "GossipStairsModel", name := "faultCause", desc := "()I" } : Jvm.MethodName)) ∈ lw_all := lw_g (lw_at lw_m9 227 rfl) rfl
theorem q2239 : (Jvm.Cond.methodLink "GossipStairsLaw" (373 : Nat) ({ cls := "GossipStairsModel", name := "play", desc := "()I" } : Jvm.MethodName)) ∈ lw_all := lw_g (lw_at lw_m9 231 rfl) rfl
/-! GossipStairs -/
def RX1 : String := "GossipStairs"
def TX1 : u_T := fun k => match k with
  | 0 => ("GossipStairs", "diagram", "LGossipStairs$Diagram;", false)
  | 1 => ("GossipStairs", "kept", "LGossipStairs$Diagram;", false)
  | 2 => ("GossipStairs", "history", "Ljava/util/ArrayDeque;", true)
  | _ => ("GossipStairs", "text", "Ljava/lang/StringBuilder;", true)
def tyX1 : Nat → FieldType := fun k => match k with
  | 0 => .object "GossipStairs$Diagram"
  | 1 => .object "GossipStairs$Diagram"
  | 2 => .object "java/util/ArrayDeque"
  | _ => .object "java/lang/StringBuilder"
abbrev wsX10 : List Cond := u_ws RX1 TX1 4
theorem nmX1 : ∀ a, a < 4 → ∀ b, b < 4 → a ≠ b → (TX1 a).2.1 ≠ (TX1 b).2.1 := by decide +kernel
theorem tyX1_ok : ∀ k, k < 4 → parseFieldDescriptor (TX1 k).2.2.1 = some (tyX1 k) := by decide +kernel
abbrev cX1_init : ByteArray := prog_1_method_5_code
def yX1_init : MethodName := ⟨RX1, "<init>", "()V"⟩
abbrev cX1_prune : ByteArray := prog_1_method_15_code
def yX1_prune : MethodName := ⟨RX1, "prune", "()I"⟩
abbrev cX1_act : ByteArray := prog_1_method_8_code
def yX1_act : MethodName := ⟨RX1, "act", "(C[I)I"⟩
abbrev cX1_done : ByteArray := prog_1_method_7_code
def yX1_done : MethodName := ⟨RX1, "done", "(LGossipStairs$Diagram;C[I)I"⟩
abbrev cX1_need : ByteArray := prog_1_method_3_code
def yX1_need : MethodName := ⟨RX1, "need", "(ZI)V"⟩
abbrev cX1_isBetween : ByteArray := prog_1_method_1_code
def yX1_isBetween : MethodName := ⟨RX1, "isBetween", "(JJJ)Z"⟩
abbrev cX1_needReason : ByteArray := prog_1_method_4_code
def yX1_needReason : MethodName := ⟨RX1, "needReason", "(ZI)V"⟩
abbrev cX1_changed : ByteArray := prog_1_method_6_code
def yX1_changed : MethodName := ⟨RX1, "changed", "(LGossipStairs$Diagram;I)I"⟩
abbrev cX1_turnRound : ByteArray := prog_1_method_16_code
def yX1_turnRound : MethodName := ⟨RX1, "turnRound", "()I"⟩
abbrev cX1_sweepDown : ByteArray := prog_1_method_17_code
def yX1_sweepDown : MethodName := ⟨RX1, "sweepDown", "()I"⟩
abbrev cX1_sweepUp : ByteArray := prog_1_method_18_code
def yX1_sweepUp : MethodName := ⟨RX1, "sweepUp", "()I"⟩
abbrev cX1_untangle : ByteArray := prog_1_method_19_code
def yX1_untangle : MethodName := ⟨RX1, "untangle", "()I"⟩
abbrev cX1_settle : ByteArray := prog_1_method_21_code
def yX1_settle : MethodName := ⟨RX1, "settle", "()I"⟩
abbrev cX1_boxes : ByteArray := prog_1_method_29_code
def yX1_boxes : MethodName := ⟨RX1, "boxes", "()I"⟩
abbrev cX1_arrows : ByteArray := prog_1_method_30_code
def yX1_arrows : MethodName := ⟨RX1, "arrows", "()I"⟩
abbrev cX1_needless : ByteArray := prog_1_method_38_code
def yX1_needless : MethodName := ⟨RX1, "needless", "()I"⟩
abbrev cX1_firstTellers : ByteArray := prog_1_method_44_code
def yX1_firstTellers : MethodName := ⟨RX1, "firstTellers", "()I"⟩
abbrev cX1_lastHearers : ByteArray := prog_1_method_45_code
def yX1_lastHearers : MethodName := ⟨RX1, "lastHearers", "()I"⟩
abbrev cX1_layers : ByteArray := prog_1_method_49_code
def yX1_layers : MethodName := ⟨RX1, "layers", "()I"⟩
abbrev cX1_arrowPoints : ByteArray := prog_1_method_53_code
def yX1_arrowPoints : MethodName := ⟨RX1, "arrowPoints", "()I"⟩
abbrev cX1_crossings : ByteArray := prog_1_method_59_code
def yX1_crossings : MethodName := ⟨RX1, "crossings", "()I"⟩
abbrev cX1_crossingsByPuttingIn : ByteArray := prog_1_method_60_code
def yX1_crossingsByPuttingIn : MethodName := ⟨RX1, "crossingsByPuttingIn", "()I"⟩
abbrev cX1_ifSweptDown : ByteArray := prog_1_method_63_code
def yX1_ifSweptDown : MethodName := ⟨RX1, "ifSweptDown", "()I"⟩
abbrev cX1_ifSweptUp : ByteArray := prog_1_method_64_code
def yX1_ifSweptUp : MethodName := ⟨RX1, "ifSweptUp", "()I"⟩
abbrev cX1_bends : ByteArray := prog_1_method_67_code
def yX1_bends : MethodName := ⟨RX1, "bends", "()I"⟩
abbrev cX1_widest : ByteArray := prog_1_method_68_code
def yX1_widest : MethodName := ⟨RX1, "widest", "()I"⟩
abbrev cX1_straightLines : ByteArray := prog_1_method_69_code
def yX1_straightLines : MethodName := ⟨RX1, "straightLines", "()I"⟩
abbrev cX1_slant : ByteArray := prog_1_method_70_code
def yX1_slant : MethodName := ⟨RX1, "slant", "()I"⟩
abbrev cX1_sweeps : ByteArray := prog_1_method_71_code
def yX1_sweeps : MethodName := ⟨RX1, "sweeps", "()I"⟩
abbrev cX1_came : ByteArray := prog_1_method_72_code
def yX1_came : MethodName := ⟨RX1, "came", "()I"⟩
abbrev cX1_keep : ByteArray := prog_1_method_74_code
def yX1_keep : MethodName := ⟨RX1, "keep", "()I"⟩
abbrev cX1_states : ByteArray := prog_1_method_76_code
def yX1_states : MethodName := ⟨RX1, "states", "()I"⟩
abbrev cX1_clearText : ByteArray := prog_1_method_79_code
def yX1_clearText : MethodName := ⟨RX1, "clearText", "()I"⟩
abbrev cX1_addBox : ByteArray := prog_1_method_10_code
def yX1_addBox : MethodName := ⟨RX1, "addBox", "()I"⟩
abbrev cX1_addArrow : ByteArray := prog_1_method_11_code
def yX1_addArrow : MethodName := ⟨RX1, "addArrow", "(II)I"⟩
abbrev cX1_addChain : ByteArray := prog_1_method_12_code
def yX1_addChain : MethodName := ⟨RX1, "addChain", "(III)I"⟩
abbrev cX1_removeArrow : ByteArray := prog_1_method_13_code
def yX1_removeArrow : MethodName := ⟨RX1, "removeArrow", "(I)I"⟩
abbrev cX1_holdDown : ByteArray := prog_1_method_14_code
def yX1_holdDown : MethodName := ⟨RX1, "holdDown", "(II)I"⟩
abbrev cX1_exchange : ByteArray := prog_1_method_20_code
def yX1_exchange : MethodName := ⟨RX1, "exchange", "(III)I"⟩
abbrev cX1_fromOf : ByteArray := prog_1_method_31_code
def yX1_fromOf : MethodName := ⟨RX1, "fromOf", "(I)I"⟩
abbrev cX1_arrowThere : ByteArray := prog_1_method_27_code
def yX1_arrowThere : MethodName := ⟨RX1, "arrowThere", "(I)I"⟩
abbrev cX1_needArgument : ByteArray := prog_1_method_22_code
def yX1_needArgument : MethodName := ⟨RX1, "needArgument", "(Z)V"⟩
abbrev cX1_toOf : ByteArray := prog_1_method_32_code
def yX1_toOf : MethodName := ⟨RX1, "toOf", "(I)I"⟩
abbrev cX1_whyRefused : ByteArray := prog_1_method_33_code
def yX1_whyRefused : MethodName := ⟨RX1, "whyRefused", "(II)I"⟩
abbrev cX1_why : ByteArray := prog_1_method_9_code
def yX1_why : MethodName := ⟨RX1, "why", "(C[I)I"⟩
abbrev cX1_told : ByteArray := prog_1_method_2_code
def yX1_told : MethodName := ⟨RX1, "told", "(Ljava/lang/Exception;)I"⟩
abbrev cX1_whyNoChain : ByteArray := prog_1_method_34_code
def yX1_whyNoChain : MethodName := ⟨RX1, "whyNoChain", "(III)I"⟩
abbrev cX1_doesHear : ByteArray := prog_1_method_35_code
def yX1_doesHear : MethodName := ⟨RX1, "doesHear", "(II)Z"⟩
abbrev cX1_hears : ByteArray := prog_1_method_36_code
def yX1_hears : MethodName := ⟨RX1, "hears", "(I)I"⟩
abbrev cX1_known : ByteArray := prog_1_method_26_code
def yX1_known : MethodName := ⟨RX1, "known", "(I)I"⟩
abbrev cX1_isNeedless : ByteArray := prog_1_method_37_code
def yX1_isNeedless : MethodName := ⟨RX1, "isNeedless", "(I)Z"⟩
abbrev cX1_ways : ByteArray := prog_1_method_40_code
def yX1_ways : MethodName := ⟨RX1, "ways", "(II)I"⟩
abbrev cX1_needTwo : ByteArray := prog_1_method_39_code
def yX1_needTwo : MethodName := ⟨RX1, "needTwo", "(II)V"⟩
abbrev cX1_waysByGoingBack : ByteArray := prog_1_method_41_code
def yX1_waysByGoingBack : MethodName := ⟨RX1, "waysByGoingBack", "(II)I"⟩
abbrev cX1_fewestArrows : ByteArray := prog_1_method_42_code
def yX1_fewestArrows : MethodName := ⟨RX1, "fewestArrows", "(II)I"⟩
abbrev cX1_there : ByteArray := prog_1_method_25_code
def yX1_there : MethodName := ⟨RX1, "there", "(I)I"⟩
abbrev cX1_needSuch : ByteArray := prog_1_method_23_code
def yX1_needSuch : MethodName := ⟨RX1, "needSuch", "(Z)V"⟩
abbrev cX1_mostArrows : ByteArray := prog_1_method_43_code
def yX1_mostArrows : MethodName := ⟨RX1, "mostArrows", "(II)I"⟩
abbrev cX1_layerOf : ByteArray := prog_1_method_46_code
def yX1_layerOf : MethodName := ⟨RX1, "layerOf", "(I)I"⟩
abbrev cX1_layerByGoingBack : ByteArray := prog_1_method_47_code
def yX1_layerByGoingBack : MethodName := ⟨RX1, "layerByGoingBack", "(I)I"⟩
abbrev cX1_leastOf : ByteArray := prog_1_method_48_code
def yX1_leastOf : MethodName := ⟨RX1, "leastOf", "(I)I"⟩
abbrev cX1_spanOf : ByteArray := prog_1_method_50_code
def yX1_spanOf : MethodName := ⟨RX1, "spanOf", "(I)I"⟩
abbrev cX1_pointsOf : ByteArray := prog_1_method_52_code
def yX1_pointsOf : MethodName := ⟨RX1, "pointsOf", "(I)I"⟩
abbrev cX1_layerThere : ByteArray := prog_1_method_28_code
def yX1_layerThere : MethodName := ⟨RX1, "layerThere", "(I)I"⟩
abbrev cX1_pointAt : ByteArray := prog_1_method_55_code
def yX1_pointAt : MethodName := ⟨RX1, "pointAt", "(II)I"⟩
abbrev cX1_needPoint : ByteArray := prog_1_method_54_code
def yX1_needPoint : MethodName := ⟨RX1, "needPoint", "(II)V"⟩
abbrev cX1_placeOf : ByteArray := prog_1_method_56_code
def yX1_placeOf : MethodName := ⟨RX1, "placeOf", "(I)I"⟩
abbrev cX1_medianAbove : ByteArray := prog_1_method_57_code
def yX1_medianAbove : MethodName := ⟨RX1, "medianAbove", "(II)I"⟩
abbrev cX1_medianBelow : ByteArray := prog_1_method_58_code
def yX1_medianBelow : MethodName := ⟨RX1, "medianBelow", "(II)I"⟩
abbrev cX1_crowdedLayer : ByteArray := prog_1_method_51_code
def yX1_crowdedLayer : MethodName := ⟨RX1, "crowdedLayer", "()I"⟩
abbrev cX1_crossingsBelow : ByteArray := prog_1_method_61_code
def yX1_crossingsBelow : MethodName := ⟨RX1, "crossingsBelow", "(I)I"⟩
abbrev cX1_crossingsOf : ByteArray := prog_1_method_62_code
def yX1_crossingsOf : MethodName := ⟨RX1, "crossingsOf", "(I)I"⟩
abbrev cX1_columnAt : ByteArray := prog_1_method_65_code
def yX1_columnAt : MethodName := ⟨RX1, "columnAt", "(II)I"⟩
abbrev cX1_bendsOf : ByteArray := prog_1_method_66_code
def yX1_bendsOf : MethodName := ⟨RX1, "bendsOf", "(I)I"⟩
abbrev cX1_meanPoints : ByteArray := prog_1_method_73_code
def yX1_meanPoints : MethodName := ⟨RX1, "meanPoints", "()F"⟩
abbrev cX1_goBack : ByteArray := prog_1_method_75_code
def yX1_goBack : MethodName := ⟨RX1, "goBack", "()I"⟩
abbrev cX1_needState : ByteArray := prog_1_method_24_code
def yX1_needState : MethodName := ⟨RX1, "needState", "(Z)V"⟩
abbrev cX1_undo : ByteArray := prog_1_method_77_code
def yX1_undo : MethodName := ⟨RX1, "undo", "()I"⟩
abbrev cX1_type : ByteArray := prog_1_method_78_code
def yX1_type : MethodName := ⟨RX1, "type", "(I)I"⟩
abbrev cX1_faultPosition : ByteArray := prog_1_method_81_code
def yX1_faultPosition : MethodName := ⟨RX1, "faultPosition", "()I"⟩
abbrev cX1_faulty : ByteArray := prog_1_method_80_code
def yX1_faulty : MethodName := ⟨RX1, "faulty", "()LGossipStairs$Reader;"⟩
abbrev cX1_faultReason : ByteArray := prog_1_method_82_code
def yX1_faultReason : MethodName := ⟨RX1, "faultReason", "()I"⟩
abbrev cX1_faultCause : ByteArray := prog_1_method_83_code
def yX1_faultCause : MethodName := ⟨RX1, "faultCause", "()I"⟩
abbrev cX1_play : ByteArray := prog_1_method_84_code
def yX1_play : MethodName := ⟨RX1, "play", "()I"⟩
theorem q89 : (Jvm.Cond.initialized "GossipStairs") ∈ lw_all := lw_g (lw_at lw_m1 1 rfl) rfl
theorem q119 : (Jvm.Cond.instantiable "GossipStairs" (4 : Nat)) ∈ lw_all := lw_g (lw_at lw_m1 31 rfl) rfl
theorem q121 : (Jvm.Cond.instanceMethod ({ cls := "GossipStairs", name := "<init>", desc := "()V" } : Jvm.MethodName)) ∈ lw_all := lw_g (lw_at lw_m1 33 rfl) rfl
theorem q122 : (Jvm.Cond.code ({ cls := "GossipStairs", name := "<init>", desc := "()V" } : Jvm.MethodName) prog_1_method_5_code (1 : Nat) (Option.none : Option Jvm.ClassFile.FieldType)) ∈ lw_all := lw_g (lw_at lw_m1 34 rfl) rfl
theorem q123 : (Jvm.Cond.methodLink "GossipStairs" (30 : Nat) ({ cls := "java/lang/Object", name := "<init>", desc := "()V" } : Jvm.MethodName)) ∈ lw_all := lw_g (lw_at lw_m1 35 rfl) rfl
theorem q126 : (Jvm.Cond.classLink "GossipStairs" (35 : Nat) "GossipStairs$Diagram") ∈ lw_all := lw_g (lw_at lw_m1 38 rfl) rfl
theorem q128 : (Jvm.Cond.methodLink "GossipStairs" (37 : Nat) ({ cls := "GossipStairs$Diagram", name := "<init>", desc := "()V" } : Jvm.MethodName)) ∈ lw_all := lw_g (lw_at lw_m1 40 rfl) rfl
theorem q133 : (Jvm.Cond.fieldLinkNest "GossipStairs" (171 : Nat) "GossipStairs$Diagram" "froms" "[I" "GossipStairs") ∈ lw_tbl := lw_at lw_m1 45 rfl
theorem q135 : (Jvm.Cond.fieldLinkNest "GossipStairs" (178 : Nat) "GossipStairs$Diagram" "tos" "[I" "GossipStairs") ∈ lw_tbl := lw_at lw_m1 47 rfl
theorem q137 : (Jvm.Cond.fieldLinkNest "GossipStairs" (223 : Nat) "GossipStairs$Diagram" "least" "[I" "GossipStairs") ∈ lw_tbl := lw_at lw_m1 49 rfl
theorem q139 : (Jvm.Cond.fieldLinkNest "GossipStairs" (217 : Nat) "GossipStairs$Diagram" "layers" "[I" "GossipStairs") ∈ lw_tbl := lw_at lw_m1 51 rfl
theorem q142 : (Jvm.Cond.fieldLinkNest "GossipStairs" (229 : Nat) "GossipStairs$Diagram" "lengths" "[I" "GossipStairs") ∈ lw_tbl := lw_at lw_m1 54 rfl
theorem q149 : (Jvm.Cond.fieldLinkNest "GossipStairs" (165 : Nat) "GossipStairs$Diagram" "boxes" "I" "GossipStairs") ∈ lw_tbl := lw_at lw_m1 61 rfl
theorem q151 : (Jvm.Cond.fieldLinkNest "GossipStairs" (168 : Nat) "GossipStairs$Diagram" "arrows" "I" "GossipStairs") ∈ lw_tbl := lw_at lw_m1 63 rfl
theorem q153 : (Jvm.Cond.fieldLinkNest "GossipStairs" (226 : Nat) "GossipStairs$Diagram" "depth" "I" "GossipStairs") ∈ lw_tbl := lw_at lw_m1 65 rfl
theorem q155 : (Jvm.Cond.fieldLinkNest "GossipStairs" (282 : Nat) "GossipStairs$Diagram" "made" "I" "GossipStairs") ∈ lw_tbl := lw_at lw_m1 67 rfl
theorem q157 : (Jvm.Cond.fieldLinkNest "GossipStairs" (285 : Nat) "GossipStairs$Diagram" "come" "I" "GossipStairs") ∈ lw_tbl := lw_at lw_m1 69 rfl
theorem q192 : (Jvm.Cond.classLink "GossipStairs" (42 : Nat) "java/util/ArrayDeque") ∈ lw_all := lw_g (lw_at lw_m1 104 rfl) rfl
theorem q194 : (Jvm.Cond.methodLink "GossipStairs" (44 : Nat) ({ cls := "java/util/ArrayDeque", name := "<init>", desc := "()V" } : Jvm.MethodName)) ∈ lw_all := lw_g (lw_at lw_m1 106 rfl) rfl
theorem q213 : (Jvm.Cond.classLink "GossipStairs" (49 : Nat) "java/lang/StringBuilder") ∈ lw_all := lw_g (lw_at lw_m1 125 rfl) rfl
theorem q215 : (Jvm.Cond.methodLink "GossipStairs" (51 : Nat) ({ cls := "java/lang/StringBuilder", name := "<init>", desc := "()V" } : Jvm.MethodName)) ∈ lw_all := lw_g (lw_at lw_m1 127 rfl) rfl
theorem q247 : (Jvm.Cond.fieldLink "GossipStairs" (38 : Nat) "GossipStairs" "diagram" "LGossipStairs$Diagram;") ∈ lw_all := lw_g (lw_at lw_m1 159 rfl) rfl
theorem q248 : (Jvm.Cond.fieldLink "GossipStairs" (288 : Nat) "GossipStairs" "kept" "LGossipStairs$Diagram;") ∈ lw_all := lw_g (lw_at lw_m1 160 rfl) rfl
theorem q249 : (Jvm.Cond.fieldLink "GossipStairs" (45 : Nat) "GossipStairs" "history" "Ljava/util/ArrayDeque;") ∈ lw_all := lw_g (lw_at lw_m1 161 rfl) rfl
theorem q251 : (Jvm.Cond.fieldLink "GossipStairs" (52 : Nat) "GossipStairs" "text" "Ljava/lang/StringBuilder;") ∈ lw_all := lw_g (lw_at lw_m1 163 rfl) rfl
theorem q252 : (Jvm.Cond.lays "GossipStairs" "GossipStairs" "diagram" "LGossipStairs$Diagram;") ∈ lw_all := lw_g (lw_at lw_m1 164 rfl) rfl
theorem q253 : (Jvm.Cond.soleField "GossipStairs" "diagram") ∈ lw_all := lw_g (lw_at lw_m1 165 rfl) rfl
theorem q254 : (Jvm.Cond.lays "GossipStairs" "GossipStairs" "kept" "LGossipStairs$Diagram;") ∈ lw_all := lw_g (lw_at lw_m1 166 rfl) rfl
theorem q255 : (Jvm.Cond.soleField "GossipStairs" "kept") ∈ lw_all := lw_g (lw_at lw_m1 167 rfl) rfl
theorem q256 : (Jvm.Cond.laysFinal "GossipStairs" "GossipStairs" "history" "Ljava/util/ArrayDeque;") ∈ lw_all := lw_g (lw_at lw_m1 168 rfl) rfl
theorem q257 : (Jvm.Cond.soleField "GossipStairs" "history") ∈ lw_all := lw_g (lw_at lw_m1 169 rfl) rfl
theorem q258 : (Jvm.Cond.laysFinal "GossipStairs" "GossipStairs" "text" "Ljava/lang/StringBuilder;") ∈ lw_all := lw_g (lw_at lw_m1 170 rfl) rfl
theorem q259 : (Jvm.Cond.soleField "GossipStairs" "text") ∈ lw_all := lw_g (lw_at lw_m1 171 rfl) rfl
theorem q260 : (Jvm.Cond.superclass "GossipStairs" "java/lang/Object") ∈ lw_all := lw_g (lw_at lw_m1 172 rfl) rfl
theorem q262 : (Jvm.Cond.instanceMethod ({ cls := "GossipStairs", name := "prune", desc := "()I" } : Jvm.MethodName)) ∈ lw_all := lw_g (lw_at lw_m1 174 rfl) rfl
theorem q263 : (Jvm.Cond.selects "GossipStairs" ({ cls := "GossipStairs", name := "prune", desc := "()I" } : Jvm.MethodName) ({ cls := "GossipStairs", name := "prune", desc := "()I" } : Jvm.MethodName)) ∈ lw_all := lw_g (lw_at lw_m1 175 rfl) rfl
theorem q264 : (Jvm.Cond.code ({ cls := "GossipStairs", name := "prune", desc := "()I" } : Jvm.MethodName) prog_1_method_15_code (1 : Nat) (Option.some Jvm.ClassFile.FieldType.int)) ∈ lw_all := lw_g (lw_at lw_m1 176 rfl) rfl
theorem q265 : (Jvm.Cond.methodLink "GossipStairs" (135 : Nat) ({ cls := "GossipStairs", name := "act", desc := "(C[I)I" } : Jvm.MethodName)) ∈ lw_all := lw_g (lw_at lw_m1 177 rfl) rfl
theorem q266 : (Jvm.Cond.privateMethod ({ cls := "GossipStairs", name := "act", desc := "(C[I)I" } : Jvm.MethodName)) ∈ lw_tbl := lw_at lw_m1 178 rfl
theorem q267 : (Jvm.Cond.instanceMethod ({ cls := "GossipStairs", name := "act", desc := "(C[I)I" } : Jvm.MethodName)) ∈ lw_all := lw_g (lw_at lw_m1 179 rfl) rfl
theorem q268 : (Jvm.Cond.codeWith ({ cls := "GossipStairs", name := "act", desc := "(C[I)I" } : Jvm.MethodName) prog_1_method_8_code (5 : Nat) (Option.some Jvm.ClassFile.FieldType.int) [((12 : Nat), (23 : Nat), (24 : Nat), (18 : Nat))]) ∈ lw_all := lw_g (lw_at lw_m1 180 rfl) rfl
theorem q269 : (Jvm.Cond.classLink "GossipStairs" (18 : Nat) "GossipStairs$Refused") ∈ lw_all := lw_g (lw_at lw_m1 181 rfl) rfl
theorem q270 : (Jvm.Cond.methodLink "GossipStairs" (105 : Nat) ({ cls := "GossipStairs$Diagram", name := "<init>", desc := "(LGossipStairs$Diagram;)V" } : Jvm.MethodName)) ∈ lw_all := lw_g (lw_at lw_m1 182 rfl) rfl
theorem q280 : (Jvm.Cond.methodLink "GossipStairs" (108 : Nat) ({ cls := "GossipStairs", name := "done", desc := "(LGossipStairs$Diagram;C[I)I" } : Jvm.MethodName)) ∈ lw_all := lw_g (lw_at lw_m1 192 rfl) rfl
theorem q281 : (Jvm.Cond.static ({ cls := "GossipStairs", name := "done", desc := "(LGossipStairs$Diagram;C[I)I" } : Jvm.MethodName)) ∈ lw_all := lw_g (lw_at lw_m1 193 rfl) rfl
theorem q282 : (Jvm.Cond.code ({ cls := "GossipStairs", name := "done", desc := "(LGossipStairs$Diagram;C[I)I" } : Jvm.MethodName) prog_1_method_7_code (3 : Nat) (Option.some Jvm.ClassFile.FieldType.int)) ∈ lw_all := lw_g (lw_at lw_m1 194 rfl) rfl
theorem q283 : (Jvm.Cond.methodLink "GossipStairs" (68 : Nat) ({ cls := "GossipStairs$Diagram", name := "getsBox", desc := "()I" } : Jvm.MethodName)) ∈ lw_all := lw_g (lw_at lw_m1 195 rfl) rfl
theorem q288 : (Jvm.Cond.static ({ cls := "GossipStairs", name := "need", desc := "(ZI)V" } : Jvm.MethodName)) ∈ lw_all := lw_g (lw_at lw_m1 200 rfl) rfl
theorem q289 : (Jvm.Cond.code ({ cls := "GossipStairs", name := "need", desc := "(ZI)V" } : Jvm.MethodName) prog_1_method_3_code (2 : Nat) (Option.none : Option Jvm.ClassFile.FieldType)) ∈ lw_all := lw_g (lw_at lw_m1 201 rfl) rfl
theorem q331 : (Jvm.Cond.methodLink "GossipStairs" (20 : Nat) ({ cls := "GossipStairs$Refused", name := "<init>", desc := "(I)V" } : Jvm.MethodName)) ∈ lw_all := lw_g (lw_at lw_m2 3 rfl) rfl
theorem q343 : (Jvm.Cond.fieldLinkNest "GossipStairs" (116 : Nat) "GossipStairs$Refused" "kind" "I" "GossipStairs") ∈ lw_tbl := lw_at lw_m2 15 rfl
theorem q371 : (Jvm.Cond.methodLink "GossipStairs" (71 : Nat) ({ cls := "GossipStairs$Diagram", name := "getsArrow", desc := "(II)I" } : Jvm.MethodName)) ∈ lw_all := lw_g (lw_at lw_m2 43 rfl) rfl
theorem q384 : (Jvm.Cond.static ({ cls := "GossipStairs", name := "isBetween", desc := "(JJJ)Z" } : Jvm.MethodName)) ∈ lw_all := lw_g (lw_at lw_m2 56 rfl) rfl
theorem q385 : (Jvm.Cond.code ({ cls := "GossipStairs", name := "isBetween", desc := "(JJJ)Z" } : Jvm.MethodName) prog_1_method_1_code (6 : Nat) (Option.some Jvm.ClassFile.FieldType.boolean)) ∈ lw_all := lw_g (lw_at lw_m2 57 rfl) rfl
theorem q387 : (Jvm.Cond.static ({ cls := "GossipStairs", name := "needReason", desc := "(ZI)V" } : Jvm.MethodName)) ∈ lw_all := lw_g (lw_at lw_m2 59 rfl) rfl
theorem q388 : (Jvm.Cond.code ({ cls := "GossipStairs", name := "needReason", desc := "(ZI)V" } : Jvm.MethodName) prog_1_method_4_code (2 : Nat) (Option.none : Option Jvm.ClassFile.FieldType)) ∈ lw_all := lw_g (lw_at lw_m2 60 rfl) rfl
theorem q389 : (Jvm.Cond.classLink "GossipStairs" (7 : Nat) "GossipStairs$Reason") ∈ lw_all := lw_g (lw_at lw_m2 61 rfl) rfl
theorem q398 : (Jvm.Cond.methodLink "GossipStairs" (26 : Nat) ({ cls := "GossipStairs$Reason", name := "<init>", desc := "(I)V" } : Jvm.MethodName)) ∈ lw_all := lw_g (lw_at lw_m2 70 rfl) rfl
theorem q404 : (Jvm.Cond.fieldLinkNest "GossipStairs" (9 : Nat) "GossipStairs$Reason" "number" "I" "GossipStairs") ∈ lw_tbl := lw_at lw_m2 76 rfl
theorem q409 : (Jvm.Cond.methodLink "GossipStairs" (27 : Nat) ({ cls := "GossipStairs$Refused", name := "<init>", desc := "(ILjava/lang/Exception;)V" } : Jvm.MethodName)) ∈ lw_all := lw_g (lw_at lw_m2 81 rfl) rfl
theorem q493 : (Jvm.Cond.selects "GossipStairs" ({ cls := "java/lang/Object", name := "getClass", desc := "()Ljava/lang/Class;" } : Jvm.MethodName) ({ cls := "java/lang/Object", name := "getClass", desc := "()Ljava/lang/Class;" } : Jvm.MethodName)) ∈ lw_all := lw_g (lw_at lw_m2 165 rfl) rfl
theorem q561 : (Jvm.Cond.methodLink "GossipStairs" (75 : Nat) ({ cls := "GossipStairs$Diagram", name := "getsChain", desc := "(III)I" } : Jvm.MethodName)) ∈ lw_all := lw_g (lw_at lw_m2 233 rfl) rfl
theorem q586 : (Jvm.Cond.fieldLinkNest "GossipStairs" (3 : Nat) "GossipStairs$Step" "which" "I" "GossipStairs") ∈ lw_tbl := lw_at lw_m3 18 rfl
theorem q592 : (Jvm.Cond.methodLink "GossipStairs" (79 : Nat) ({ cls := "GossipStairs$Diagram", name := "losesArrow", desc := "(I)I" } : Jvm.MethodName)) ∈ lw_all := lw_g (lw_at lw_m3 24 rfl) rfl
theorem q600 : (Jvm.Cond.methodLink "GossipStairs" (83 : Nat) ({ cls := "GossipStairs$Diagram", name := "holds", desc := "(II)I" } : Jvm.MethodName)) ∈ lw_all := lw_g (lw_at lw_m3 32 rfl) rfl
theorem q605 : (Jvm.Cond.methodLink "GossipStairs" (86 : Nat) ({ cls := "GossipStairs$Diagram", name := "prunes", desc := "()I" } : Jvm.MethodName)) ∈ lw_all := lw_g (lw_at lw_m3 37 rfl) rfl
theorem q610 : (Jvm.Cond.methodLink "GossipStairs" (89 : Nat) ({ cls := "GossipStairs$Diagram", name := "turnsRound", desc := "()I" } : Jvm.MethodName)) ∈ lw_all := lw_g (lw_at lw_m3 42 rfl) rfl
theorem q614 : (Jvm.Cond.methodLink "GossipStairs" (92 : Nat) ({ cls := "GossipStairs$Diagram", name := "goes", desc := "(Z)I" } : Jvm.MethodName)) ∈ lw_all := lw_g (lw_at lw_m3 46 rfl) rfl
theorem q674 : (Jvm.Cond.methodLink "GossipStairs" (96 : Nat) ({ cls := "GossipStairs$Diagram", name := "untangles", desc := "()I" } : Jvm.MethodName)) ∈ lw_all := lw_g (lw_at lw_m3 106 rfl) rfl
theorem q686 : (Jvm.Cond.methodLink "GossipStairs" (99 : Nat) ({ cls := "GossipStairs$Diagram", name := "swapsAt", desc := "(III)I" } : Jvm.MethodName)) ∈ lw_all := lw_g (lw_at lw_m3 118 rfl) rfl
theorem q694 : (Jvm.Cond.methodLink "GossipStairs" (102 : Nat) ({ cls := "GossipStairs$Diagram", name := "settles", desc := "()I" } : Jvm.MethodName)) ∈ lw_all := lw_g (lw_at lw_m3 126 rfl) rfl
theorem q702 : (Jvm.Cond.methodLink "GossipStairs" (112 : Nat) ({ cls := "GossipStairs", name := "changed", desc := "(LGossipStairs$Diagram;I)I" } : Jvm.MethodName)) ∈ lw_all := lw_g (lw_at lw_m3 134 rfl) rfl
theorem q703 : (Jvm.Cond.privateMethod ({ cls := "GossipStairs", name := "changed", desc := "(LGossipStairs$Diagram;I)I" } : Jvm.MethodName)) ∈ lw_tbl := lw_at lw_m3 135 rfl
theorem q704 : (Jvm.Cond.instanceMethod ({ cls := "GossipStairs", name := "changed", desc := "(LGossipStairs$Diagram;I)I" } : Jvm.MethodName)) ∈ lw_all := lw_g (lw_at lw_m3 136 rfl) rfl
theorem q705 : (Jvm.Cond.code ({ cls := "GossipStairs", name := "changed", desc := "(LGossipStairs$Diagram;I)I" } : Jvm.MethodName) prog_1_method_6_code (3 : Nat) (Option.some Jvm.ClassFile.FieldType.int)) ∈ lw_all := lw_g (lw_at lw_m3 137 rfl) rfl
theorem q706 : (Jvm.Cond.methodLink "GossipStairs" (56 : Nat) ({ cls := "java/util/ArrayDeque", name := "addLast", desc := "(Ljava/lang/Object;)V" } : Jvm.MethodName)) ∈ lw_all := lw_g (lw_at lw_m3 138 rfl) rfl
theorem q707 : (Jvm.Cond.methodLink "GossipStairs" (60 : Nat) ({ cls := "java/util/ArrayDeque", name := "size", desc := "()I" } : Jvm.MethodName)) ∈ lw_all := lw_g (lw_at lw_m3 139 rfl) rfl
theorem q714 : (Jvm.Cond.methodLink "GossipStairs" (64 : Nat) ({ cls := "java/util/ArrayDeque", name := "removeFirst", desc := "()Ljava/lang/Object;" } : Jvm.MethodName)) ∈ lw_all := lw_g (lw_at lw_m3 146 rfl) rfl
theorem q715 : (Jvm.Cond.classLink "GossipStairs" (119 : Nat) "java/lang/IllegalArgumentException") ∈ lw_all := lw_g (lw_at lw_m3 147 rfl) rfl
theorem q724 : (Jvm.Cond.stringRef "GossipStairs" (121 : Nat) "out of range") ∈ lw_tbl := lw_at lw_m3 156 rfl
theorem q725 : (Jvm.Cond.methodLink "GossipStairs" (123 : Nat) ({ cls := "java/lang/IllegalArgumentException", name := "<init>", desc := "(Ljava/lang/String;Ljava/lang/Throwable;)V" } : Jvm.MethodName)) ∈ lw_all := lw_g (lw_at lw_m3 157 rfl) rfl
theorem q734 : (Jvm.Cond.classLink "GossipStairs" (126 : Nat) "java/lang/IllegalStateException") ∈ lw_all := lw_g (lw_at lw_m3 166 rfl) rfl
theorem q735 : (Jvm.Cond.stringRef "GossipStairs" (128 : Nat) "not possible") ∈ lw_tbl := lw_at lw_m3 167 rfl
theorem q736 : (Jvm.Cond.methodLink "GossipStairs" (130 : Nat) ({ cls := "java/lang/IllegalStateException", name := "<init>", desc := "(Ljava/lang/String;Ljava/lang/Throwable;)V" } : Jvm.MethodName)) ∈ lw_all := lw_g (lw_at lw_m3 168 rfl) rfl
theorem q741 : (Jvm.Cond.instanceMethod ({ cls := "GossipStairs", name := "turnRound", desc := "()I" } : Jvm.MethodName)) ∈ lw_all := lw_g (lw_at lw_m3 173 rfl) rfl
theorem q742 : (Jvm.Cond.selects "GossipStairs" ({ cls := "GossipStairs", name := "turnRound", desc := "()I" } : Jvm.MethodName) ({ cls := "GossipStairs", name := "turnRound", desc := "()I" } : Jvm.MethodName)) ∈ lw_all := lw_g (lw_at lw_m3 174 rfl) rfl
theorem q743 : (Jvm.Cond.code ({ cls := "GossipStairs", name := "turnRound", desc := "()I" } : Jvm.MethodName) prog_1_method_16_code (1 : Nat) (Option.some Jvm.ClassFile.FieldType.int)) ∈ lw_all := lw_g (lw_at lw_m3 175 rfl) rfl
theorem q745 : (Jvm.Cond.instanceMethod ({ cls := "GossipStairs", name := "sweepDown", desc := "()I" } : Jvm.MethodName)) ∈ lw_all := lw_g (lw_at lw_m3 177 rfl) rfl
theorem q746 : (Jvm.Cond.selects "GossipStairs" ({ cls := "GossipStairs", name := "sweepDown", desc := "()I" } : Jvm.MethodName) ({ cls := "GossipStairs", name := "sweepDown", desc := "()I" } : Jvm.MethodName)) ∈ lw_all := lw_g (lw_at lw_m3 178 rfl) rfl
theorem q747 : (Jvm.Cond.code ({ cls := "GossipStairs", name := "sweepDown", desc := "()I" } : Jvm.MethodName) prog_1_method_17_code (1 : Nat) (Option.some Jvm.ClassFile.FieldType.int)) ∈ lw_all := lw_g (lw_at lw_m3 179 rfl) rfl
theorem q749 : (Jvm.Cond.instanceMethod ({ cls := "GossipStairs", name := "sweepUp", desc := "()I" } : Jvm.MethodName)) ∈ lw_all := lw_g (lw_at lw_m3 181 rfl) rfl
theorem q750 : (Jvm.Cond.selects "GossipStairs" ({ cls := "GossipStairs", name := "sweepUp", desc := "()I" } : Jvm.MethodName) ({ cls := "GossipStairs", name := "sweepUp", desc := "()I" } : Jvm.MethodName)) ∈ lw_all := lw_g (lw_at lw_m3 182 rfl) rfl
theorem q751 : (Jvm.Cond.code ({ cls := "GossipStairs", name := "sweepUp", desc := "()I" } : Jvm.MethodName) prog_1_method_18_code (1 : Nat) (Option.some Jvm.ClassFile.FieldType.int)) ∈ lw_all := lw_g (lw_at lw_m3 183 rfl) rfl
theorem q753 : (Jvm.Cond.instanceMethod ({ cls := "GossipStairs", name := "untangle", desc := "()I" } : Jvm.MethodName)) ∈ lw_all := lw_g (lw_at lw_m3 185 rfl) rfl
theorem q754 : (Jvm.Cond.selects "GossipStairs" ({ cls := "GossipStairs", name := "untangle", desc := "()I" } : Jvm.MethodName) ({ cls := "GossipStairs", name := "untangle", desc := "()I" } : Jvm.MethodName)) ∈ lw_all := lw_g (lw_at lw_m3 186 rfl) rfl
theorem q755 : (Jvm.Cond.code ({ cls := "GossipStairs", name := "untangle", desc := "()I" } : Jvm.MethodName) prog_1_method_19_code (1 : Nat) (Option.some Jvm.ClassFile.FieldType.int)) ∈ lw_all := lw_g (lw_at lw_m3 187 rfl) rfl
theorem q757 : (Jvm.Cond.instanceMethod ({ cls := "GossipStairs", name := "settle", desc := "()I" } : Jvm.MethodName)) ∈ lw_all := lw_g (lw_at lw_m3 189 rfl) rfl
theorem q758 : (Jvm.Cond.selects "GossipStairs" ({ cls := "GossipStairs", name := "settle", desc := "()I" } : Jvm.MethodName) ({ cls := "GossipStairs", name := "settle", desc := "()I" } : Jvm.MethodName)) ∈ lw_all := lw_g (lw_at lw_m3 190 rfl) rfl
theorem q759 : (Jvm.Cond.code ({ cls := "GossipStairs", name := "settle", desc := "()I" } : Jvm.MethodName) prog_1_method_21_code (1 : Nat) (Option.some Jvm.ClassFile.FieldType.int)) ∈ lw_all := lw_g (lw_at lw_m3 191 rfl) rfl
theorem q761 : (Jvm.Cond.instanceMethod ({ cls := "GossipStairs", name := "boxes", desc := "()I" } : Jvm.MethodName)) ∈ lw_all := lw_g (lw_at lw_m3 193 rfl) rfl
theorem q762 : (Jvm.Cond.selects "GossipStairs" ({ cls := "GossipStairs", name := "boxes", desc := "()I" } : Jvm.MethodName) ({ cls := "GossipStairs", name := "boxes", desc := "()I" } : Jvm.MethodName)) ∈ lw_all := lw_g (lw_at lw_m3 194 rfl) rfl
theorem q763 : (Jvm.Cond.code ({ cls := "GossipStairs", name := "boxes", desc := "()I" } : Jvm.MethodName) prog_1_method_29_code (1 : Nat) (Option.some Jvm.ClassFile.FieldType.int)) ∈ lw_all := lw_g (lw_at lw_m3 195 rfl) rfl
theorem q765 : (Jvm.Cond.instanceMethod ({ cls := "GossipStairs", name := "arrows", desc := "()I" } : Jvm.MethodName)) ∈ lw_all := lw_g (lw_at lw_m3 197 rfl) rfl
theorem q766 : (Jvm.Cond.selects "GossipStairs" ({ cls := "GossipStairs", name := "arrows", desc := "()I" } : Jvm.MethodName) ({ cls := "GossipStairs", name := "arrows", desc := "()I" } : Jvm.MethodName)) ∈ lw_all := lw_g (lw_at lw_m3 198 rfl) rfl
theorem q767 : (Jvm.Cond.code ({ cls := "GossipStairs", name := "arrows", desc := "()I" } : Jvm.MethodName) prog_1_method_30_code (1 : Nat) (Option.some Jvm.ClassFile.FieldType.int)) ∈ lw_all := lw_g (lw_at lw_m3 199 rfl) rfl
theorem q769 : (Jvm.Cond.instanceMethod ({ cls := "GossipStairs", name := "needless", desc := "()I" } : Jvm.MethodName)) ∈ lw_all := lw_g (lw_at lw_m3 201 rfl) rfl
theorem q770 : (Jvm.Cond.selects "GossipStairs" ({ cls := "GossipStairs", name := "needless", desc := "()I" } : Jvm.MethodName) ({ cls := "GossipStairs", name := "needless", desc := "()I" } : Jvm.MethodName)) ∈ lw_all := lw_g (lw_at lw_m3 202 rfl) rfl
theorem q771 : (Jvm.Cond.code ({ cls := "GossipStairs", name := "needless", desc := "()I" } : Jvm.MethodName) prog_1_method_38_code (1 : Nat) (Option.some Jvm.ClassFile.FieldType.int)) ∈ lw_all := lw_g (lw_at lw_m3 203 rfl) rfl
theorem q772 : (Jvm.Cond.methodLink "GossipStairs" (194 : Nat) ({ cls := "GossipStairs$Diagram", name := "needlessOnes", desc := "()I" } : Jvm.MethodName)) ∈ lw_all := lw_g (lw_at lw_m3 204 rfl) rfl
theorem q777 : (Jvm.Cond.instanceMethod ({ cls := "GossipStairs", name := "firstTellers", desc := "()I" } : Jvm.MethodName)) ∈ lw_all := lw_g (lw_at lw_m3 209 rfl) rfl
theorem q778 : (Jvm.Cond.selects "GossipStairs" ({ cls := "GossipStairs", name := "firstTellers", desc := "()I" } : Jvm.MethodName) ({ cls := "GossipStairs", name := "firstTellers", desc := "()I" } : Jvm.MethodName)) ∈ lw_all := lw_g (lw_at lw_m3 210 rfl) rfl
theorem q779 : (Jvm.Cond.code ({ cls := "GossipStairs", name := "firstTellers", desc := "()I" } : Jvm.MethodName) prog_1_method_44_code (1 : Nat) (Option.some Jvm.ClassFile.FieldType.int)) ∈ lw_all := lw_g (lw_at lw_m3 211 rfl) rfl
theorem q780 : (Jvm.Cond.methodLink "GossipStairs" (214 : Nat) ({ cls := "GossipStairs$Diagram", name := "endBoxes", desc := "(Z)I" } : Jvm.MethodName)) ∈ lw_all := lw_g (lw_at lw_m3 212 rfl) rfl
theorem q785 : (Jvm.Cond.instanceMethod ({ cls := "GossipStairs", name := "lastHearers", desc := "()I" } : Jvm.MethodName)) ∈ lw_all := lw_g (lw_at lw_m3 217 rfl) rfl
theorem q786 : (Jvm.Cond.selects "GossipStairs" ({ cls := "GossipStairs", name := "lastHearers", desc := "()I" } : Jvm.MethodName) ({ cls := "GossipStairs", name := "lastHearers", desc := "()I" } : Jvm.MethodName)) ∈ lw_all := lw_g (lw_at lw_m3 218 rfl) rfl
theorem q787 : (Jvm.Cond.code ({ cls := "GossipStairs", name := "lastHearers", desc := "()I" } : Jvm.MethodName) prog_1_method_45_code (1 : Nat) (Option.some Jvm.ClassFile.FieldType.int)) ∈ lw_all := lw_g (lw_at lw_m3 219 rfl) rfl
theorem q789 : (Jvm.Cond.instanceMethod ({ cls := "GossipStairs", name := "layers", desc := "()I" } : Jvm.MethodName)) ∈ lw_all := lw_g (lw_at lw_m3 221 rfl) rfl
theorem q790 : (Jvm.Cond.selects "GossipStairs" ({ cls := "GossipStairs", name := "layers", desc := "()I" } : Jvm.MethodName) ({ cls := "GossipStairs", name := "layers", desc := "()I" } : Jvm.MethodName)) ∈ lw_all := lw_g (lw_at lw_m3 222 rfl) rfl
theorem q791 : (Jvm.Cond.code ({ cls := "GossipStairs", name := "layers", desc := "()I" } : Jvm.MethodName) prog_1_method_49_code (1 : Nat) (Option.some Jvm.ClassFile.FieldType.int)) ∈ lw_all := lw_g (lw_at lw_m3 223 rfl) rfl
theorem q793 : (Jvm.Cond.instanceMethod ({ cls := "GossipStairs", name := "arrowPoints", desc := "()I" } : Jvm.MethodName)) ∈ lw_all := lw_g (lw_at lw_m3 225 rfl) rfl
theorem q794 : (Jvm.Cond.selects "GossipStairs" ({ cls := "GossipStairs", name := "arrowPoints", desc := "()I" } : Jvm.MethodName) ({ cls := "GossipStairs", name := "arrowPoints", desc := "()I" } : Jvm.MethodName)) ∈ lw_all := lw_g (lw_at lw_m3 226 rfl) rfl
theorem q795 : (Jvm.Cond.code ({ cls := "GossipStairs", name := "arrowPoints", desc := "()I" } : Jvm.MethodName) prog_1_method_53_code (1 : Nat) (Option.some Jvm.ClassFile.FieldType.int)) ∈ lw_all := lw_g (lw_at lw_m3 227 rfl) rfl
theorem q796 : (Jvm.Cond.methodLink "GossipStairs" (235 : Nat) ({ cls := "GossipStairs$Diagram", name := "pointCount", desc := "()I" } : Jvm.MethodName)) ∈ lw_all := lw_g (lw_at lw_m3 228 rfl) rfl
theorem q801 : (Jvm.Cond.instanceMethod ({ cls := "GossipStairs", name := "crossings", desc := "()I" } : Jvm.MethodName)) ∈ lw_all := lw_g (lw_at lw_m3 233 rfl) rfl
theorem q802 : (Jvm.Cond.selects "GossipStairs" ({ cls := "GossipStairs", name := "crossings", desc := "()I" } : Jvm.MethodName) ({ cls := "GossipStairs", name := "crossings", desc := "()I" } : Jvm.MethodName)) ∈ lw_all := lw_g (lw_at lw_m3 234 rfl) rfl
theorem q803 : (Jvm.Cond.code ({ cls := "GossipStairs", name := "crossings", desc := "()I" } : Jvm.MethodName) prog_1_method_59_code (1 : Nat) (Option.some Jvm.ClassFile.FieldType.int)) ∈ lw_all := lw_g (lw_at lw_m3 235 rfl) rfl
theorem q804 : (Jvm.Cond.methodLink "GossipStairs" (250 : Nat) ({ cls := "GossipStairs$Diagram", name := "allCrossings", desc := "()I" } : Jvm.MethodName)) ∈ lw_all := lw_g (lw_at lw_m3 236 rfl) rfl
theorem q806 : (Jvm.Cond.instanceMethod ({ cls := "GossipStairs", name := "crossingsByPuttingIn", desc := "()I" } : Jvm.MethodName)) ∈ lw_all := lw_g (lw_at lw_m3 238 rfl) rfl
theorem q807 : (Jvm.Cond.selects "GossipStairs" ({ cls := "GossipStairs", name := "crossingsByPuttingIn", desc := "()I" } : Jvm.MethodName) ({ cls := "GossipStairs", name := "crossingsByPuttingIn", desc := "()I" } : Jvm.MethodName)) ∈ lw_all := lw_g (lw_at lw_m3 239 rfl) rfl
theorem q808 : (Jvm.Cond.code ({ cls := "GossipStairs", name := "crossingsByPuttingIn", desc := "()I" } : Jvm.MethodName) prog_1_method_60_code (3 : Nat) (Option.some Jvm.ClassFile.FieldType.int)) ∈ lw_all := lw_g (lw_at lw_m4 0 rfl) rfl
theorem q809 : (Jvm.Cond.methodLink "GossipStairs" (253 : Nat) ({ cls := "GossipStairs$Diagram", name := "putIn", desc := "(I)I" } : Jvm.MethodName)) ∈ lw_all := lw_g (lw_at lw_m4 1 rfl) rfl
theorem q818 : (Jvm.Cond.instanceMethod ({ cls := "GossipStairs", name := "ifSweptDown", desc := "()I" } : Jvm.MethodName)) ∈ lw_all := lw_g (lw_at lw_m4 10 rfl) rfl
theorem q819 : (Jvm.Cond.selects "GossipStairs" ({ cls := "GossipStairs", name := "ifSweptDown", desc := "()I" } : Jvm.MethodName) ({ cls := "GossipStairs", name := "ifSweptDown", desc := "()I" } : Jvm.MethodName)) ∈ lw_all := lw_g (lw_at lw_m4 11 rfl) rfl
theorem q820 : (Jvm.Cond.code ({ cls := "GossipStairs", name := "ifSweptDown", desc := "()I" } : Jvm.MethodName) prog_1_method_63_code (1 : Nat) (Option.some Jvm.ClassFile.FieldType.int)) ∈ lw_all := lw_g (lw_at lw_m4 12 rfl) rfl
theorem q822 : (Jvm.Cond.instanceMethod ({ cls := "GossipStairs", name := "ifSweptUp", desc := "()I" } : Jvm.MethodName)) ∈ lw_all := lw_g (lw_at lw_m4 14 rfl) rfl
theorem q823 : (Jvm.Cond.selects "GossipStairs" ({ cls := "GossipStairs", name := "ifSweptUp", desc := "()I" } : Jvm.MethodName) ({ cls := "GossipStairs", name := "ifSweptUp", desc := "()I" } : Jvm.MethodName)) ∈ lw_all := lw_g (lw_at lw_m4 15 rfl) rfl
theorem q824 : (Jvm.Cond.code ({ cls := "GossipStairs", name := "ifSweptUp", desc := "()I" } : Jvm.MethodName) prog_1_method_64_code (1 : Nat) (Option.some Jvm.ClassFile.FieldType.int)) ∈ lw_all := lw_g (lw_at lw_m4 16 rfl) rfl
theorem q826 : (Jvm.Cond.instanceMethod ({ cls := "GossipStairs", name := "bends", desc := "()I" } : Jvm.MethodName)) ∈ lw_all := lw_g (lw_at lw_m4 18 rfl) rfl
theorem q827 : (Jvm.Cond.selects "GossipStairs" ({ cls := "GossipStairs", name := "bends", desc := "()I" } : Jvm.MethodName) ({ cls := "GossipStairs", name := "bends", desc := "()I" } : Jvm.MethodName)) ∈ lw_all := lw_g (lw_at lw_m4 19 rfl) rfl
theorem q828 : (Jvm.Cond.code ({ cls := "GossipStairs", name := "bends", desc := "()I" } : Jvm.MethodName) prog_1_method_67_code (4 : Nat) (Option.some Jvm.ClassFile.FieldType.int)) ∈ lw_all := lw_g (lw_at lw_m4 20 rfl) rfl
theorem q829 : (Jvm.Cond.methodLink "GossipStairs" (262 : Nat) ({ cls := "GossipStairs$Diagram", name := "columns", desc := "()[I" } : Jvm.MethodName)) ∈ lw_all := lw_g (lw_at lw_m4 21 rfl) rfl
theorem q833 : (Jvm.Cond.methodLink "GossipStairs" (266 : Nat) ({ cls := "GossipStairs$Diagram", name := "bendsBy", desc := "(I[I)I" } : Jvm.MethodName)) ∈ lw_all := lw_g (lw_at lw_m4 25 rfl) rfl
theorem q842 : (Jvm.Cond.instanceMethod ({ cls := "GossipStairs", name := "widest", desc := "()I" } : Jvm.MethodName)) ∈ lw_all := lw_g (lw_at lw_m4 34 rfl) rfl
theorem q843 : (Jvm.Cond.selects "GossipStairs" ({ cls := "GossipStairs", name := "widest", desc := "()I" } : Jvm.MethodName) ({ cls := "GossipStairs", name := "widest", desc := "()I" } : Jvm.MethodName)) ∈ lw_all := lw_g (lw_at lw_m4 35 rfl) rfl
theorem q844 : (Jvm.Cond.code ({ cls := "GossipStairs", name := "widest", desc := "()I" } : Jvm.MethodName) prog_1_method_68_code (6 : Nat) (Option.some Jvm.ClassFile.FieldType.int)) ∈ lw_all := lw_g (lw_at lw_m4 36 rfl) rfl
theorem q845 : (Jvm.Cond.methodLink "GossipStairs" (270 : Nat) ({ cls := "java/lang/Math", name := "max", desc := "(II)I" } : Jvm.MethodName)) ∈ lw_all := lw_g (lw_at lw_m4 37 rfl) rfl
theorem q847 : (Jvm.Cond.instanceMethod ({ cls := "GossipStairs", name := "straightLines", desc := "()I" } : Jvm.MethodName)) ∈ lw_all := lw_g (lw_at lw_m4 39 rfl) rfl
theorem q848 : (Jvm.Cond.selects "GossipStairs" ({ cls := "GossipStairs", name := "straightLines", desc := "()I" } : Jvm.MethodName) ({ cls := "GossipStairs", name := "straightLines", desc := "()I" } : Jvm.MethodName)) ∈ lw_all := lw_g (lw_at lw_m4 40 rfl) rfl
theorem q849 : (Jvm.Cond.code ({ cls := "GossipStairs", name := "straightLines", desc := "()I" } : Jvm.MethodName) prog_1_method_69_code (1 : Nat) (Option.some Jvm.ClassFile.FieldType.int)) ∈ lw_all := lw_g (lw_at lw_m4 41 rfl) rfl
theorem q850 : (Jvm.Cond.methodLink "GossipStairs" (275 : Nat) ({ cls := "GossipStairs$Diagram", name := "straights", desc := "([I)I" } : Jvm.MethodName)) ∈ lw_all := lw_g (lw_at lw_m4 42 rfl) rfl
theorem q855 : (Jvm.Cond.instanceMethod ({ cls := "GossipStairs", name := "slant", desc := "()I" } : Jvm.MethodName)) ∈ lw_all := lw_g (lw_at lw_m4 47 rfl) rfl
theorem q856 : (Jvm.Cond.selects "GossipStairs" ({ cls := "GossipStairs", name := "slant", desc := "()I" } : Jvm.MethodName) ({ cls := "GossipStairs", name := "slant", desc := "()I" } : Jvm.MethodName)) ∈ lw_all := lw_g (lw_at lw_m4 48 rfl) rfl
theorem q857 : (Jvm.Cond.code ({ cls := "GossipStairs", name := "slant", desc := "()I" } : Jvm.MethodName) prog_1_method_70_code (1 : Nat) (Option.some Jvm.ClassFile.FieldType.int)) ∈ lw_all := lw_g (lw_at lw_m4 49 rfl) rfl
theorem q858 : (Jvm.Cond.methodLink "GossipStairs" (279 : Nat) ({ cls := "GossipStairs$Diagram", name := "slants", desc := "([I)I" } : Jvm.MethodName)) ∈ lw_all := lw_g (lw_at lw_m4 50 rfl) rfl
theorem q866 : (Jvm.Cond.instanceMethod ({ cls := "GossipStairs", name := "sweeps", desc := "()I" } : Jvm.MethodName)) ∈ lw_all := lw_g (lw_at lw_m4 58 rfl) rfl
theorem q867 : (Jvm.Cond.selects "GossipStairs" ({ cls := "GossipStairs", name := "sweeps", desc := "()I" } : Jvm.MethodName) ({ cls := "GossipStairs", name := "sweeps", desc := "()I" } : Jvm.MethodName)) ∈ lw_all := lw_g (lw_at lw_m4 59 rfl) rfl
theorem q868 : (Jvm.Cond.code ({ cls := "GossipStairs", name := "sweeps", desc := "()I" } : Jvm.MethodName) prog_1_method_71_code (1 : Nat) (Option.some Jvm.ClassFile.FieldType.int)) ∈ lw_all := lw_g (lw_at lw_m4 60 rfl) rfl
theorem q870 : (Jvm.Cond.instanceMethod ({ cls := "GossipStairs", name := "came", desc := "()I" } : Jvm.MethodName)) ∈ lw_all := lw_g (lw_at lw_m4 62 rfl) rfl
theorem q871 : (Jvm.Cond.selects "GossipStairs" ({ cls := "GossipStairs", name := "came", desc := "()I" } : Jvm.MethodName) ({ cls := "GossipStairs", name := "came", desc := "()I" } : Jvm.MethodName)) ∈ lw_all := lw_g (lw_at lw_m4 63 rfl) rfl
theorem q872 : (Jvm.Cond.code ({ cls := "GossipStairs", name := "came", desc := "()I" } : Jvm.MethodName) prog_1_method_72_code (1 : Nat) (Option.some Jvm.ClassFile.FieldType.int)) ∈ lw_all := lw_g (lw_at lw_m4 64 rfl) rfl
theorem q874 : (Jvm.Cond.instanceMethod ({ cls := "GossipStairs", name := "keep", desc := "()I" } : Jvm.MethodName)) ∈ lw_all := lw_g (lw_at lw_m4 66 rfl) rfl
theorem q875 : (Jvm.Cond.selects "GossipStairs" ({ cls := "GossipStairs", name := "keep", desc := "()I" } : Jvm.MethodName) ({ cls := "GossipStairs", name := "keep", desc := "()I" } : Jvm.MethodName)) ∈ lw_all := lw_g (lw_at lw_m4 67 rfl) rfl
theorem q876 : (Jvm.Cond.code ({ cls := "GossipStairs", name := "keep", desc := "()I" } : Jvm.MethodName) prog_1_method_74_code (1 : Nat) (Option.some Jvm.ClassFile.FieldType.int)) ∈ lw_all := lw_g (lw_at lw_m4 68 rfl) rfl
theorem q878 : (Jvm.Cond.instanceMethod ({ cls := "GossipStairs", name := "states", desc := "()I" } : Jvm.MethodName)) ∈ lw_all := lw_g (lw_at lw_m4 70 rfl) rfl
theorem q879 : (Jvm.Cond.selects "GossipStairs" ({ cls := "GossipStairs", name := "states", desc := "()I" } : Jvm.MethodName) ({ cls := "GossipStairs", name := "states", desc := "()I" } : Jvm.MethodName)) ∈ lw_all := lw_g (lw_at lw_m4 71 rfl) rfl
theorem q880 : (Jvm.Cond.code ({ cls := "GossipStairs", name := "states", desc := "()I" } : Jvm.MethodName) prog_1_method_76_code (1 : Nat) (Option.some Jvm.ClassFile.FieldType.int)) ∈ lw_all := lw_g (lw_at lw_m4 72 rfl) rfl
theorem q882 : (Jvm.Cond.instanceMethod ({ cls := "GossipStairs", name := "clearText", desc := "()I" } : Jvm.MethodName)) ∈ lw_all := lw_g (lw_at lw_m4 74 rfl) rfl
theorem q883 : (Jvm.Cond.selects "GossipStairs" ({ cls := "GossipStairs", name := "clearText", desc := "()I" } : Jvm.MethodName) ({ cls := "GossipStairs", name := "clearText", desc := "()I" } : Jvm.MethodName)) ∈ lw_all := lw_g (lw_at lw_m4 75 rfl) rfl
theorem q884 : (Jvm.Cond.code ({ cls := "GossipStairs", name := "clearText", desc := "()I" } : Jvm.MethodName) prog_1_method_79_code (2 : Nat) (Option.some Jvm.ClassFile.FieldType.int)) ∈ lw_all := lw_g (lw_at lw_m4 76 rfl) rfl
theorem q885 : (Jvm.Cond.methodLink "GossipStairs" (309 : Nat) ({ cls := "java/lang/StringBuilder", name := "length", desc := "()I" } : Jvm.MethodName)) ∈ lw_all := lw_g (lw_at lw_m4 77 rfl) rfl
theorem q892 : (Jvm.Cond.methodLink "GossipStairs" (316 : Nat) ({ cls := "java/lang/StringBuilder", name := "setLength", desc := "(I)V" } : Jvm.MethodName)) ∈ lw_all := lw_g (lw_at lw_m4 84 rfl) rfl
theorem q1116 : (Jvm.Cond.instanceMethod ({ cls := "GossipStairs", name := "addBox", desc := "()I" } : Jvm.MethodName)) ∈ lw_all := lw_g (lw_at lw_m5 68 rfl) rfl
theorem q1117 : (Jvm.Cond.selects "GossipStairs" ({ cls := "GossipStairs", name := "addBox", desc := "()I" } : Jvm.MethodName) ({ cls := "GossipStairs", name := "addBox", desc := "()I" } : Jvm.MethodName)) ∈ lw_all := lw_g (lw_at lw_m5 69 rfl) rfl
theorem q1118 : (Jvm.Cond.code ({ cls := "GossipStairs", name := "addBox", desc := "()I" } : Jvm.MethodName) prog_1_method_10_code (1 : Nat) (Option.some Jvm.ClassFile.FieldType.int)) ∈ lw_all := lw_g (lw_at lw_m5 70 rfl) rfl
theorem q1124 : (Jvm.Cond.instanceMethod ({ cls := "GossipStairs", name := "addArrow", desc := "(II)I" } : Jvm.MethodName)) ∈ lw_all := lw_g (lw_at lw_m5 76 rfl) rfl
theorem q1125 : (Jvm.Cond.selects "GossipStairs" ({ cls := "GossipStairs", name := "addArrow", desc := "(II)I" } : Jvm.MethodName) ({ cls := "GossipStairs", name := "addArrow", desc := "(II)I" } : Jvm.MethodName)) ∈ lw_all := lw_g (lw_at lw_m5 77 rfl) rfl
theorem q1126 : (Jvm.Cond.code ({ cls := "GossipStairs", name := "addArrow", desc := "(II)I" } : Jvm.MethodName) prog_1_method_11_code (3 : Nat) (Option.some Jvm.ClassFile.FieldType.int)) ∈ lw_all := lw_g (lw_at lw_m5 78 rfl) rfl
theorem q1131 : (Jvm.Cond.instanceMethod ({ cls := "GossipStairs", name := "addChain", desc := "(III)I" } : Jvm.MethodName)) ∈ lw_all := lw_g (lw_at lw_m5 83 rfl) rfl
theorem q1132 : (Jvm.Cond.selects "GossipStairs" ({ cls := "GossipStairs", name := "addChain", desc := "(III)I" } : Jvm.MethodName) ({ cls := "GossipStairs", name := "addChain", desc := "(III)I" } : Jvm.MethodName)) ∈ lw_all := lw_g (lw_at lw_m5 84 rfl) rfl
theorem q1133 : (Jvm.Cond.code ({ cls := "GossipStairs", name := "addChain", desc := "(III)I" } : Jvm.MethodName) prog_1_method_12_code (4 : Nat) (Option.some Jvm.ClassFile.FieldType.int)) ∈ lw_all := lw_g (lw_at lw_m5 85 rfl) rfl
theorem q1138 : (Jvm.Cond.instanceMethod ({ cls := "GossipStairs", name := "removeArrow", desc := "(I)I" } : Jvm.MethodName)) ∈ lw_all := lw_g (lw_at lw_m5 90 rfl) rfl
theorem q1139 : (Jvm.Cond.selects "GossipStairs" ({ cls := "GossipStairs", name := "removeArrow", desc := "(I)I" } : Jvm.MethodName) ({ cls := "GossipStairs", name := "removeArrow", desc := "(I)I" } : Jvm.MethodName)) ∈ lw_all := lw_g (lw_at lw_m5 91 rfl) rfl
theorem q1140 : (Jvm.Cond.code ({ cls := "GossipStairs", name := "removeArrow", desc := "(I)I" } : Jvm.MethodName) prog_1_method_13_code (2 : Nat) (Option.some Jvm.ClassFile.FieldType.int)) ∈ lw_all := lw_g (lw_at lw_m5 92 rfl) rfl
theorem q1145 : (Jvm.Cond.instanceMethod ({ cls := "GossipStairs", name := "holdDown", desc := "(II)I" } : Jvm.MethodName)) ∈ lw_all := lw_g (lw_at lw_m5 97 rfl) rfl
theorem q1146 : (Jvm.Cond.selects "GossipStairs" ({ cls := "GossipStairs", name := "holdDown", desc := "(II)I" } : Jvm.MethodName) ({ cls := "GossipStairs", name := "holdDown", desc := "(II)I" } : Jvm.MethodName)) ∈ lw_all := lw_g (lw_at lw_m5 98 rfl) rfl
theorem q1147 : (Jvm.Cond.code ({ cls := "GossipStairs", name := "holdDown", desc := "(II)I" } : Jvm.MethodName) prog_1_method_14_code (3 : Nat) (Option.some Jvm.ClassFile.FieldType.int)) ∈ lw_all := lw_g (lw_at lw_m5 99 rfl) rfl
theorem q1152 : (Jvm.Cond.instanceMethod ({ cls := "GossipStairs", name := "exchange", desc := "(III)I" } : Jvm.MethodName)) ∈ lw_all := lw_g (lw_at lw_m5 104 rfl) rfl
theorem q1153 : (Jvm.Cond.selects "GossipStairs" ({ cls := "GossipStairs", name := "exchange", desc := "(III)I" } : Jvm.MethodName) ({ cls := "GossipStairs", name := "exchange", desc := "(III)I" } : Jvm.MethodName)) ∈ lw_all := lw_g (lw_at lw_m5 105 rfl) rfl
theorem q1154 : (Jvm.Cond.code ({ cls := "GossipStairs", name := "exchange", desc := "(III)I" } : Jvm.MethodName) prog_1_method_20_code (4 : Nat) (Option.some Jvm.ClassFile.FieldType.int)) ∈ lw_all := lw_g (lw_at lw_m5 106 rfl) rfl
theorem q1159 : (Jvm.Cond.instanceMethod ({ cls := "GossipStairs", name := "fromOf", desc := "(I)I" } : Jvm.MethodName)) ∈ lw_all := lw_g (lw_at lw_m5 111 rfl) rfl
theorem q1160 : (Jvm.Cond.selects "GossipStairs" ({ cls := "GossipStairs", name := "fromOf", desc := "(I)I" } : Jvm.MethodName) ({ cls := "GossipStairs", name := "fromOf", desc := "(I)I" } : Jvm.MethodName)) ∈ lw_all := lw_g (lw_at lw_m5 112 rfl) rfl
theorem q1161 : (Jvm.Cond.code ({ cls := "GossipStairs", name := "fromOf", desc := "(I)I" } : Jvm.MethodName) prog_1_method_31_code (2 : Nat) (Option.some Jvm.ClassFile.FieldType.int)) ∈ lw_all := lw_g (lw_at lw_m5 113 rfl) rfl
theorem q1162 : (Jvm.Cond.methodLink "GossipStairs" (175 : Nat) ({ cls := "GossipStairs", name := "arrowThere", desc := "(I)I" } : Jvm.MethodName)) ∈ lw_all := lw_g (lw_at lw_m5 114 rfl) rfl
theorem q1163 : (Jvm.Cond.privateMethod ({ cls := "GossipStairs", name := "arrowThere", desc := "(I)I" } : Jvm.MethodName)) ∈ lw_tbl := lw_at lw_m5 115 rfl
theorem q1164 : (Jvm.Cond.instanceMethod ({ cls := "GossipStairs", name := "arrowThere", desc := "(I)I" } : Jvm.MethodName)) ∈ lw_all := lw_g (lw_at lw_m5 116 rfl) rfl
theorem q1165 : (Jvm.Cond.code ({ cls := "GossipStairs", name := "arrowThere", desc := "(I)I" } : Jvm.MethodName) prog_1_method_27_code (2 : Nat) (Option.some Jvm.ClassFile.FieldType.int)) ∈ lw_all := lw_g (lw_at lw_m5 117 rfl) rfl
theorem q1166 : (Jvm.Cond.methodLink "GossipStairs" (159 : Nat) ({ cls := "GossipStairs$Diagram", name := "isArrow", desc := "(I)Z" } : Jvm.MethodName)) ∈ lw_all := lw_g (lw_at lw_m5 118 rfl) rfl
theorem q1167 : (Jvm.Cond.methodLink "GossipStairs" (156 : Nat) ({ cls := "GossipStairs", name := "needArgument", desc := "(Z)V" } : Jvm.MethodName)) ∈ lw_all := lw_g (lw_at lw_m5 119 rfl) rfl
theorem q1168 : (Jvm.Cond.static ({ cls := "GossipStairs", name := "needArgument", desc := "(Z)V" } : Jvm.MethodName)) ∈ lw_all := lw_g (lw_at lw_m5 120 rfl) rfl
theorem q1169 : (Jvm.Cond.code ({ cls := "GossipStairs", name := "needArgument", desc := "(Z)V" } : Jvm.MethodName) prog_1_method_22_code (1 : Nat) (Option.none : Option Jvm.ClassFile.FieldType)) ∈ lw_all := lw_g (lw_at lw_m5 121 rfl) rfl
theorem q1170 : (Jvm.Cond.methodLink "GossipStairs" (139 : Nat) ({ cls := "java/lang/IllegalArgumentException", name := "<init>", desc := "(Ljava/lang/String;)V" } : Jvm.MethodName)) ∈ lw_all := lw_g (lw_at lw_m5 122 rfl) rfl
theorem q1175 : (Jvm.Cond.instanceMethod ({ cls := "GossipStairs", name := "toOf", desc := "(I)I" } : Jvm.MethodName)) ∈ lw_all := lw_g (lw_at lw_m5 127 rfl) rfl
theorem q1176 : (Jvm.Cond.selects "GossipStairs" ({ cls := "GossipStairs", name := "toOf", desc := "(I)I" } : Jvm.MethodName) ({ cls := "GossipStairs", name := "toOf", desc := "(I)I" } : Jvm.MethodName)) ∈ lw_all := lw_g (lw_at lw_m5 128 rfl) rfl
theorem q1177 : (Jvm.Cond.code ({ cls := "GossipStairs", name := "toOf", desc := "(I)I" } : Jvm.MethodName) prog_1_method_32_code (2 : Nat) (Option.some Jvm.ClassFile.FieldType.int)) ∈ lw_all := lw_g (lw_at lw_m5 129 rfl) rfl
theorem q1182 : (Jvm.Cond.instanceMethod ({ cls := "GossipStairs", name := "whyRefused", desc := "(II)I" } : Jvm.MethodName)) ∈ lw_all := lw_g (lw_at lw_m5 134 rfl) rfl
theorem q1183 : (Jvm.Cond.selects "GossipStairs" ({ cls := "GossipStairs", name := "whyRefused", desc := "(II)I" } : Jvm.MethodName) ({ cls := "GossipStairs", name := "whyRefused", desc := "(II)I" } : Jvm.MethodName)) ∈ lw_all := lw_g (lw_at lw_m5 135 rfl) rfl
theorem q1184 : (Jvm.Cond.code ({ cls := "GossipStairs", name := "whyRefused", desc := "(II)I" } : Jvm.MethodName) prog_1_method_33_code (3 : Nat) (Option.some Jvm.ClassFile.FieldType.int)) ∈ lw_all := lw_g (lw_at lw_m5 136 rfl) rfl
theorem q1185 : (Jvm.Cond.methodLink "GossipStairs" (181 : Nat) ({ cls := "GossipStairs", name := "why", desc := "(C[I)I" } : Jvm.MethodName)) ∈ lw_all := lw_g (lw_at lw_m5 137 rfl) rfl
theorem q1186 : (Jvm.Cond.privateMethod ({ cls := "GossipStairs", name := "why", desc := "(C[I)I" } : Jvm.MethodName)) ∈ lw_tbl := lw_at lw_m5 138 rfl
theorem q1187 : (Jvm.Cond.instanceMethod ({ cls := "GossipStairs", name := "why", desc := "(C[I)I" } : Jvm.MethodName)) ∈ lw_all := lw_g (lw_at lw_m5 139 rfl) rfl
theorem q1188 : (Jvm.Cond.codeWith ({ cls := "GossipStairs", name := "why", desc := "(C[I)I" } : Jvm.MethodName) prog_1_method_9_code (5 : Nat) (Option.some Jvm.ClassFile.FieldType.int) [((12 : Nat), (21 : Nat), (22 : Nat), (18 : Nat))]) ∈ lw_all := lw_g (lw_at lw_m5 140 rfl) rfl
theorem q1189 : (Jvm.Cond.methodLink "GossipStairs" (131 : Nat) ({ cls := "GossipStairs", name := "told", desc := "(Ljava/lang/Exception;)I" } : Jvm.MethodName)) ∈ lw_all := lw_g (lw_at lw_m5 141 rfl) rfl
theorem q1190 : (Jvm.Cond.static ({ cls := "GossipStairs", name := "told", desc := "(Ljava/lang/Exception;)I" } : Jvm.MethodName)) ∈ lw_all := lw_g (lw_at lw_m5 142 rfl) rfl
theorem q1191 : (Jvm.Cond.code ({ cls := "GossipStairs", name := "told", desc := "(Ljava/lang/Exception;)I" } : Jvm.MethodName) prog_1_method_2_code (3 : Nat) (Option.some Jvm.ClassFile.FieldType.int)) ∈ lw_all := lw_g (lw_at lw_m5 143 rfl) rfl
theorem q1192 : (Jvm.Cond.classLink "GossipStairs" (1 : Nat) "GossipStairs$Step") ∈ lw_all := lw_g (lw_at lw_m5 144 rfl) rfl
theorem q1193 : (Jvm.Cond.methodLink "GossipStairs" (12 : Nat) ({ cls := "java/lang/Throwable", name := "getCause", desc := "()Ljava/lang/Throwable;" } : Jvm.MethodName)) ∈ lw_all := lw_g (lw_at lw_m5 145 rfl) rfl
theorem q1207 : (Jvm.Cond.instanceMethod ({ cls := "GossipStairs", name := "whyNoChain", desc := "(III)I" } : Jvm.MethodName)) ∈ lw_all := lw_g (lw_at lw_m5 159 rfl) rfl
theorem q1208 : (Jvm.Cond.selects "GossipStairs" ({ cls := "GossipStairs", name := "whyNoChain", desc := "(III)I" } : Jvm.MethodName) ({ cls := "GossipStairs", name := "whyNoChain", desc := "(III)I" } : Jvm.MethodName)) ∈ lw_all := lw_g (lw_at lw_m5 160 rfl) rfl
theorem q1209 : (Jvm.Cond.code ({ cls := "GossipStairs", name := "whyNoChain", desc := "(III)I" } : Jvm.MethodName) prog_1_method_34_code (4 : Nat) (Option.some Jvm.ClassFile.FieldType.int)) ∈ lw_all := lw_g (lw_at lw_m5 161 rfl) rfl
theorem q1214 : (Jvm.Cond.instanceMethod ({ cls := "GossipStairs", name := "doesHear", desc := "(II)Z" } : Jvm.MethodName)) ∈ lw_all := lw_g (lw_at lw_m5 166 rfl) rfl
theorem q1215 : (Jvm.Cond.selects "GossipStairs" ({ cls := "GossipStairs", name := "doesHear", desc := "(II)Z" } : Jvm.MethodName) ({ cls := "GossipStairs", name := "doesHear", desc := "(II)Z" } : Jvm.MethodName)) ∈ lw_all := lw_g (lw_at lw_m5 167 rfl) rfl
theorem q1216 : (Jvm.Cond.code ({ cls := "GossipStairs", name := "doesHear", desc := "(II)Z" } : Jvm.MethodName) prog_1_method_35_code (3 : Nat) (Option.some Jvm.ClassFile.FieldType.boolean)) ∈ lw_all := lw_g (lw_at lw_m5 168 rfl) rfl
theorem q1217 : (Jvm.Cond.methodLink "GossipStairs" (152 : Nat) ({ cls := "GossipStairs$Diagram", name := "isBox", desc := "(I)Z" } : Jvm.MethodName)) ∈ lw_all := lw_g (lw_at lw_m5 169 rfl) rfl
theorem q1218 : (Jvm.Cond.methodLink "GossipStairs" (184 : Nat) ({ cls := "GossipStairs$Diagram", name := "listens", desc := "(III)Z" } : Jvm.MethodName)) ∈ lw_all := lw_g (lw_at lw_m5 170 rfl) rfl
theorem q1223 : (Jvm.Cond.instanceMethod ({ cls := "GossipStairs", name := "hears", desc := "(I)I" } : Jvm.MethodName)) ∈ lw_all := lw_g (lw_at lw_m5 175 rfl) rfl
theorem q1224 : (Jvm.Cond.selects "GossipStairs" ({ cls := "GossipStairs", name := "hears", desc := "(I)I" } : Jvm.MethodName) ({ cls := "GossipStairs", name := "hears", desc := "(I)I" } : Jvm.MethodName)) ∈ lw_all := lw_g (lw_at lw_m5 176 rfl) rfl
theorem q1225 : (Jvm.Cond.code ({ cls := "GossipStairs", name := "hears", desc := "(I)I" } : Jvm.MethodName) prog_1_method_36_code (2 : Nat) (Option.some Jvm.ClassFile.FieldType.int)) ∈ lw_all := lw_g (lw_at lw_m5 177 rfl) rfl
theorem q1226 : (Jvm.Cond.methodLink "GossipStairs" (188 : Nat) ({ cls := "GossipStairs", name := "known", desc := "(I)I" } : Jvm.MethodName)) ∈ lw_all := lw_g (lw_at lw_m5 178 rfl) rfl
theorem q1227 : (Jvm.Cond.privateMethod ({ cls := "GossipStairs", name := "known", desc := "(I)I" } : Jvm.MethodName)) ∈ lw_tbl := lw_at lw_m5 179 rfl
theorem q1228 : (Jvm.Cond.instanceMethod ({ cls := "GossipStairs", name := "known", desc := "(I)I" } : Jvm.MethodName)) ∈ lw_all := lw_g (lw_at lw_m5 180 rfl) rfl
theorem q1229 : (Jvm.Cond.code ({ cls := "GossipStairs", name := "known", desc := "(I)I" } : Jvm.MethodName) prog_1_method_26_code (2 : Nat) (Option.some Jvm.ClassFile.FieldType.int)) ∈ lw_all := lw_g (lw_at lw_m5 181 rfl) rfl
theorem q1230 : (Jvm.Cond.methodLink "GossipStairs" (191 : Nat) ({ cls := "GossipStairs$Diagram", name := "heard", desc := "(I)I" } : Jvm.MethodName)) ∈ lw_all := lw_g (lw_at lw_m5 182 rfl) rfl
theorem q1238 : (Jvm.Cond.instanceMethod ({ cls := "GossipStairs", name := "isNeedless", desc := "(I)Z" } : Jvm.MethodName)) ∈ lw_all := lw_g (lw_at lw_m5 190 rfl) rfl
theorem q1239 : (Jvm.Cond.selects "GossipStairs" ({ cls := "GossipStairs", name := "isNeedless", desc := "(I)Z" } : Jvm.MethodName) ({ cls := "GossipStairs", name := "isNeedless", desc := "(I)Z" } : Jvm.MethodName)) ∈ lw_all := lw_g (lw_at lw_m5 191 rfl) rfl
theorem q1240 : (Jvm.Cond.code ({ cls := "GossipStairs", name := "isNeedless", desc := "(I)Z" } : Jvm.MethodName) prog_1_method_37_code (3 : Nat) (Option.some Jvm.ClassFile.FieldType.boolean)) ∈ lw_all := lw_g (lw_at lw_m5 192 rfl) rfl
theorem q1245 : (Jvm.Cond.instanceMethod ({ cls := "GossipStairs", name := "ways", desc := "(II)I" } : Jvm.MethodName)) ∈ lw_all := lw_g (lw_at lw_m5 197 rfl) rfl
theorem q1246 : (Jvm.Cond.selects "GossipStairs" ({ cls := "GossipStairs", name := "ways", desc := "(II)I" } : Jvm.MethodName) ({ cls := "GossipStairs", name := "ways", desc := "(II)I" } : Jvm.MethodName)) ∈ lw_all := lw_g (lw_at lw_m5 198 rfl) rfl
theorem q1247 : (Jvm.Cond.code ({ cls := "GossipStairs", name := "ways", desc := "(II)I" } : Jvm.MethodName) prog_1_method_40_code (3 : Nat) (Option.some Jvm.ClassFile.FieldType.int)) ∈ lw_all := lw_g (lw_at lw_m5 199 rfl) rfl
theorem q1248 : (Jvm.Cond.methodLink "GossipStairs" (197 : Nat) ({ cls := "GossipStairs", name := "needTwo", desc := "(II)V" } : Jvm.MethodName)) ∈ lw_all := lw_g (lw_at lw_m5 200 rfl) rfl
theorem q1249 : (Jvm.Cond.privateMethod ({ cls := "GossipStairs", name := "needTwo", desc := "(II)V" } : Jvm.MethodName)) ∈ lw_tbl := lw_at lw_m5 201 rfl
theorem q1250 : (Jvm.Cond.instanceMethod ({ cls := "GossipStairs", name := "needTwo", desc := "(II)V" } : Jvm.MethodName)) ∈ lw_all := lw_g (lw_at lw_m5 202 rfl) rfl
theorem q1251 : (Jvm.Cond.code ({ cls := "GossipStairs", name := "needTwo", desc := "(II)V" } : Jvm.MethodName) prog_1_method_39_code (3 : Nat) (Option.none : Option Jvm.ClassFile.FieldType)) ∈ lw_all := lw_g (lw_at lw_m5 203 rfl) rfl
theorem q1252 : (Jvm.Cond.methodLink "GossipStairs" (201 : Nat) ({ cls := "GossipStairs$Diagram", name := "waysByLayers", desc := "(II)I" } : Jvm.MethodName)) ∈ lw_all := lw_g (lw_at lw_m5 204 rfl) rfl
theorem q1260 : (Jvm.Cond.instanceMethod ({ cls := "GossipStairs", name := "waysByGoingBack", desc := "(II)I" } : Jvm.MethodName)) ∈ lw_all := lw_g (lw_at lw_m5 212 rfl) rfl
theorem q1261 : (Jvm.Cond.selects "GossipStairs" ({ cls := "GossipStairs", name := "waysByGoingBack", desc := "(II)I" } : Jvm.MethodName) ({ cls := "GossipStairs", name := "waysByGoingBack", desc := "(II)I" } : Jvm.MethodName)) ∈ lw_all := lw_g (lw_at lw_m5 213 rfl) rfl
theorem q1262 : (Jvm.Cond.code ({ cls := "GossipStairs", name := "waysByGoingBack", desc := "(II)I" } : Jvm.MethodName) prog_1_method_41_code (3 : Nat) (Option.some Jvm.ClassFile.FieldType.int)) ∈ lw_all := lw_g (lw_at lw_m5 214 rfl) rfl
theorem q1263 : (Jvm.Cond.methodLink "GossipStairs" (204 : Nat) ({ cls := "GossipStairs$Diagram", name := "waysBack", desc := "(II)I" } : Jvm.MethodName)) ∈ lw_all := lw_g (lw_at lw_m5 215 rfl) rfl
theorem q1273 : (Jvm.Cond.instanceMethod ({ cls := "GossipStairs", name := "fewestArrows", desc := "(II)I" } : Jvm.MethodName)) ∈ lw_all := lw_g (lw_at lw_m5 225 rfl) rfl
theorem q1274 : (Jvm.Cond.selects "GossipStairs" ({ cls := "GossipStairs", name := "fewestArrows", desc := "(II)I" } : Jvm.MethodName) ({ cls := "GossipStairs", name := "fewestArrows", desc := "(II)I" } : Jvm.MethodName)) ∈ lw_all := lw_g (lw_at lw_m5 226 rfl) rfl
theorem q1275 : (Jvm.Cond.code ({ cls := "GossipStairs", name := "fewestArrows", desc := "(II)I" } : Jvm.MethodName) prog_1_method_42_code (3 : Nat) (Option.some Jvm.ClassFile.FieldType.int)) ∈ lw_all := lw_g (lw_at lw_m5 227 rfl) rfl
theorem q1276 : (Jvm.Cond.methodLink "GossipStairs" (207 : Nat) ({ cls := "GossipStairs$Diagram", name := "arrowsOn", desc := "(IIZ)I" } : Jvm.MethodName)) ∈ lw_all := lw_g (lw_at lw_m5 228 rfl) rfl
theorem q1280 : (Jvm.Cond.methodLink "GossipStairs" (211 : Nat) ({ cls := "GossipStairs", name := "there", desc := "(I)I" } : Jvm.MethodName)) ∈ lw_all := lw_g (lw_at lw_m5 232 rfl) rfl
theorem q1281 : (Jvm.Cond.static ({ cls := "GossipStairs", name := "there", desc := "(I)I" } : Jvm.MethodName)) ∈ lw_all := lw_g (lw_at lw_m5 233 rfl) rfl
theorem q1282 : (Jvm.Cond.code ({ cls := "GossipStairs", name := "there", desc := "(I)I" } : Jvm.MethodName) prog_1_method_25_code (1 : Nat) (Option.some Jvm.ClassFile.FieldType.int)) ∈ lw_all := lw_g (lw_at lw_m5 234 rfl) rfl
theorem q1283 : (Jvm.Cond.methodLink "GossipStairs" (148 : Nat) ({ cls := "GossipStairs", name := "needSuch", desc := "(Z)V" } : Jvm.MethodName)) ∈ lw_all := lw_g (lw_at lw_m5 235 rfl) rfl
theorem q1284 : (Jvm.Cond.static ({ cls := "GossipStairs", name := "needSuch", desc := "(Z)V" } : Jvm.MethodName)) ∈ lw_all := lw_g (lw_at lw_m5 236 rfl) rfl
theorem q1285 : (Jvm.Cond.code ({ cls := "GossipStairs", name := "needSuch", desc := "(Z)V" } : Jvm.MethodName) prog_1_method_23_code (1 : Nat) (Option.none : Option Jvm.ClassFile.FieldType)) ∈ lw_all := lw_g (lw_at lw_m5 237 rfl) rfl
theorem q1286 : (Jvm.Cond.classLink "GossipStairs" (142 : Nat) "java/util/NoSuchElementException") ∈ lw_all := lw_g (lw_at lw_m5 238 rfl) rfl
theorem q1287 : (Jvm.Cond.stringRef "GossipStairs" (144 : Nat) "there is none") ∈ lw_tbl := lw_at lw_m5 239 rfl
theorem q1288 : (Jvm.Cond.methodLink "GossipStairs" (146 : Nat) ({ cls := "java/util/NoSuchElementException", name := "<init>", desc := "(Ljava/lang/String;)V" } : Jvm.MethodName)) ∈ lw_all := lw_g (lw_at lw_m6 0 rfl) rfl
theorem q1296 : (Jvm.Cond.instanceMethod ({ cls := "GossipStairs", name := "mostArrows", desc := "(II)I" } : Jvm.MethodName)) ∈ lw_all := lw_g (lw_at lw_m6 8 rfl) rfl
theorem q1297 : (Jvm.Cond.selects "GossipStairs" ({ cls := "GossipStairs", name := "mostArrows", desc := "(II)I" } : Jvm.MethodName) ({ cls := "GossipStairs", name := "mostArrows", desc := "(II)I" } : Jvm.MethodName)) ∈ lw_all := lw_g (lw_at lw_m6 9 rfl) rfl
theorem q1298 : (Jvm.Cond.code ({ cls := "GossipStairs", name := "mostArrows", desc := "(II)I" } : Jvm.MethodName) prog_1_method_43_code (3 : Nat) (Option.some Jvm.ClassFile.FieldType.int)) ∈ lw_all := lw_g (lw_at lw_m6 10 rfl) rfl
theorem q1303 : (Jvm.Cond.instanceMethod ({ cls := "GossipStairs", name := "layerOf", desc := "(I)I" } : Jvm.MethodName)) ∈ lw_all := lw_g (lw_at lw_m6 15 rfl) rfl
theorem q1304 : (Jvm.Cond.selects "GossipStairs" ({ cls := "GossipStairs", name := "layerOf", desc := "(I)I" } : Jvm.MethodName) ({ cls := "GossipStairs", name := "layerOf", desc := "(I)I" } : Jvm.MethodName)) ∈ lw_all := lw_g (lw_at lw_m6 16 rfl) rfl
theorem q1305 : (Jvm.Cond.code ({ cls := "GossipStairs", name := "layerOf", desc := "(I)I" } : Jvm.MethodName) prog_1_method_46_code (2 : Nat) (Option.some Jvm.ClassFile.FieldType.int)) ∈ lw_all := lw_g (lw_at lw_m6 17 rfl) rfl
theorem q1310 : (Jvm.Cond.instanceMethod ({ cls := "GossipStairs", name := "layerByGoingBack", desc := "(I)I" } : Jvm.MethodName)) ∈ lw_all := lw_g (lw_at lw_m6 22 rfl) rfl
theorem q1311 : (Jvm.Cond.selects "GossipStairs" ({ cls := "GossipStairs", name := "layerByGoingBack", desc := "(I)I" } : Jvm.MethodName) ({ cls := "GossipStairs", name := "layerByGoingBack", desc := "(I)I" } : Jvm.MethodName)) ∈ lw_all := lw_g (lw_at lw_m6 23 rfl) rfl
theorem q1312 : (Jvm.Cond.code ({ cls := "GossipStairs", name := "layerByGoingBack", desc := "(I)I" } : Jvm.MethodName) prog_1_method_47_code (2 : Nat) (Option.some Jvm.ClassFile.FieldType.int)) ∈ lw_all := lw_g (lw_at lw_m6 24 rfl) rfl
theorem q1313 : (Jvm.Cond.methodLink "GossipStairs" (220 : Nat) ({ cls := "GossipStairs$Diagram", name := "back", desc := "(I)I" } : Jvm.MethodName)) ∈ lw_all := lw_g (lw_at lw_m6 25 rfl) rfl
theorem q1322 : (Jvm.Cond.instanceMethod ({ cls := "GossipStairs", name := "leastOf", desc := "(I)I" } : Jvm.MethodName)) ∈ lw_all := lw_g (lw_at lw_m6 34 rfl) rfl
theorem q1323 : (Jvm.Cond.selects "GossipStairs" ({ cls := "GossipStairs", name := "leastOf", desc := "(I)I" } : Jvm.MethodName) ({ cls := "GossipStairs", name := "leastOf", desc := "(I)I" } : Jvm.MethodName)) ∈ lw_all := lw_g (lw_at lw_m6 35 rfl) rfl
theorem q1324 : (Jvm.Cond.code ({ cls := "GossipStairs", name := "leastOf", desc := "(I)I" } : Jvm.MethodName) prog_1_method_48_code (2 : Nat) (Option.some Jvm.ClassFile.FieldType.int)) ∈ lw_all := lw_g (lw_at lw_m6 36 rfl) rfl
theorem q1329 : (Jvm.Cond.instanceMethod ({ cls := "GossipStairs", name := "spanOf", desc := "(I)I" } : Jvm.MethodName)) ∈ lw_all := lw_g (lw_at lw_m6 41 rfl) rfl
theorem q1330 : (Jvm.Cond.selects "GossipStairs" ({ cls := "GossipStairs", name := "spanOf", desc := "(I)I" } : Jvm.MethodName) ({ cls := "GossipStairs", name := "spanOf", desc := "(I)I" } : Jvm.MethodName)) ∈ lw_all := lw_g (lw_at lw_m6 42 rfl) rfl
theorem q1331 : (Jvm.Cond.code ({ cls := "GossipStairs", name := "spanOf", desc := "(I)I" } : Jvm.MethodName) prog_1_method_50_code (3 : Nat) (Option.some Jvm.ClassFile.FieldType.int)) ∈ lw_all := lw_g (lw_at lw_m6 43 rfl) rfl
theorem q1336 : (Jvm.Cond.instanceMethod ({ cls := "GossipStairs", name := "pointsOf", desc := "(I)I" } : Jvm.MethodName)) ∈ lw_all := lw_g (lw_at lw_m6 48 rfl) rfl
theorem q1337 : (Jvm.Cond.selects "GossipStairs" ({ cls := "GossipStairs", name := "pointsOf", desc := "(I)I" } : Jvm.MethodName) ({ cls := "GossipStairs", name := "pointsOf", desc := "(I)I" } : Jvm.MethodName)) ∈ lw_all := lw_g (lw_at lw_m6 49 rfl) rfl
theorem q1338 : (Jvm.Cond.code ({ cls := "GossipStairs", name := "pointsOf", desc := "(I)I" } : Jvm.MethodName) prog_1_method_52_code (2 : Nat) (Option.some Jvm.ClassFile.FieldType.int)) ∈ lw_all := lw_g (lw_at lw_m6 50 rfl) rfl
theorem q1339 : (Jvm.Cond.methodLink "GossipStairs" (232 : Nat) ({ cls := "GossipStairs", name := "layerThere", desc := "(I)I" } : Jvm.MethodName)) ∈ lw_all := lw_g (lw_at lw_m6 51 rfl) rfl
theorem q1340 : (Jvm.Cond.privateMethod ({ cls := "GossipStairs", name := "layerThere", desc := "(I)I" } : Jvm.MethodName)) ∈ lw_tbl := lw_at lw_m6 52 rfl
theorem q1341 : (Jvm.Cond.instanceMethod ({ cls := "GossipStairs", name := "layerThere", desc := "(I)I" } : Jvm.MethodName)) ∈ lw_all := lw_g (lw_at lw_m6 53 rfl) rfl
theorem q1342 : (Jvm.Cond.code ({ cls := "GossipStairs", name := "layerThere", desc := "(I)I" } : Jvm.MethodName) prog_1_method_28_code (2 : Nat) (Option.some Jvm.ClassFile.FieldType.int)) ∈ lw_all := lw_g (lw_at lw_m6 54 rfl) rfl
theorem q1343 : (Jvm.Cond.methodLink "GossipStairs" (162 : Nat) ({ cls := "GossipStairs$Diagram", name := "isLayer", desc := "(I)Z" } : Jvm.MethodName)) ∈ lw_all := lw_g (lw_at lw_m6 55 rfl) rfl
theorem q1348 : (Jvm.Cond.instanceMethod ({ cls := "GossipStairs", name := "pointAt", desc := "(II)I" } : Jvm.MethodName)) ∈ lw_all := lw_g (lw_at lw_m6 60 rfl) rfl
theorem q1349 : (Jvm.Cond.selects "GossipStairs" ({ cls := "GossipStairs", name := "pointAt", desc := "(II)I" } : Jvm.MethodName) ({ cls := "GossipStairs", name := "pointAt", desc := "(II)I" } : Jvm.MethodName)) ∈ lw_all := lw_g (lw_at lw_m6 61 rfl) rfl
theorem q1350 : (Jvm.Cond.code ({ cls := "GossipStairs", name := "pointAt", desc := "(II)I" } : Jvm.MethodName) prog_1_method_55_code (3 : Nat) (Option.some Jvm.ClassFile.FieldType.int)) ∈ lw_all := lw_g (lw_at lw_m6 62 rfl) rfl
theorem q1351 : (Jvm.Cond.methodLink "GossipStairs" (238 : Nat) ({ cls := "GossipStairs", name := "needPoint", desc := "(II)V" } : Jvm.MethodName)) ∈ lw_all := lw_g (lw_at lw_m6 63 rfl) rfl
theorem q1352 : (Jvm.Cond.privateMethod ({ cls := "GossipStairs", name := "needPoint", desc := "(II)V" } : Jvm.MethodName)) ∈ lw_tbl := lw_at lw_m6 64 rfl
theorem q1353 : (Jvm.Cond.instanceMethod ({ cls := "GossipStairs", name := "needPoint", desc := "(II)V" } : Jvm.MethodName)) ∈ lw_all := lw_g (lw_at lw_m6 65 rfl) rfl
theorem q1354 : (Jvm.Cond.code ({ cls := "GossipStairs", name := "needPoint", desc := "(II)V" } : Jvm.MethodName) prog_1_method_54_code (3 : Nat) (Option.none : Option Jvm.ClassFile.FieldType)) ∈ lw_all := lw_g (lw_at lw_m6 66 rfl) rfl
theorem q1355 : (Jvm.Cond.methodLink "GossipStairs" (241 : Nat) ({ cls := "GossipStairs$Diagram", name := "point", desc := "(II)I" } : Jvm.MethodName)) ∈ lw_all := lw_g (lw_at lw_m6 67 rfl) rfl
theorem q1360 : (Jvm.Cond.instanceMethod ({ cls := "GossipStairs", name := "placeOf", desc := "(I)I" } : Jvm.MethodName)) ∈ lw_all := lw_g (lw_at lw_m6 72 rfl) rfl
theorem q1361 : (Jvm.Cond.selects "GossipStairs" ({ cls := "GossipStairs", name := "placeOf", desc := "(I)I" } : Jvm.MethodName) ({ cls := "GossipStairs", name := "placeOf", desc := "(I)I" } : Jvm.MethodName)) ∈ lw_all := lw_g (lw_at lw_m6 73 rfl) rfl
theorem q1362 : (Jvm.Cond.code ({ cls := "GossipStairs", name := "placeOf", desc := "(I)I" } : Jvm.MethodName) prog_1_method_56_code (2 : Nat) (Option.some Jvm.ClassFile.FieldType.int)) ∈ lw_all := lw_g (lw_at lw_m6 74 rfl) rfl
theorem q1363 : (Jvm.Cond.methodLink "GossipStairs" (244 : Nat) ({ cls := "GossipStairs$Diagram", name := "place", desc := "(II)I" } : Jvm.MethodName)) ∈ lw_all := lw_g (lw_at lw_m6 75 rfl) rfl
theorem q1368 : (Jvm.Cond.instanceMethod ({ cls := "GossipStairs", name := "medianAbove", desc := "(II)I" } : Jvm.MethodName)) ∈ lw_all := lw_g (lw_at lw_m6 80 rfl) rfl
theorem q1369 : (Jvm.Cond.selects "GossipStairs" ({ cls := "GossipStairs", name := "medianAbove", desc := "(II)I" } : Jvm.MethodName) ({ cls := "GossipStairs", name := "medianAbove", desc := "(II)I" } : Jvm.MethodName)) ∈ lw_all := lw_g (lw_at lw_m6 81 rfl) rfl
theorem q1370 : (Jvm.Cond.code ({ cls := "GossipStairs", name := "medianAbove", desc := "(II)I" } : Jvm.MethodName) prog_1_method_57_code (3 : Nat) (Option.some Jvm.ClassFile.FieldType.int)) ∈ lw_all := lw_g (lw_at lw_m6 82 rfl) rfl
theorem q1371 : (Jvm.Cond.methodLink "GossipStairs" (247 : Nat) ({ cls := "GossipStairs$Diagram", name := "median", desc := "(IIZ)I" } : Jvm.MethodName)) ∈ lw_all := lw_g (lw_at lw_m6 83 rfl) rfl
theorem q1376 : (Jvm.Cond.instanceMethod ({ cls := "GossipStairs", name := "medianBelow", desc := "(II)I" } : Jvm.MethodName)) ∈ lw_all := lw_g (lw_at lw_m6 88 rfl) rfl
theorem q1377 : (Jvm.Cond.selects "GossipStairs" ({ cls := "GossipStairs", name := "medianBelow", desc := "(II)I" } : Jvm.MethodName) ({ cls := "GossipStairs", name := "medianBelow", desc := "(II)I" } : Jvm.MethodName)) ∈ lw_all := lw_g (lw_at lw_m6 89 rfl) rfl
theorem q1378 : (Jvm.Cond.code ({ cls := "GossipStairs", name := "medianBelow", desc := "(II)I" } : Jvm.MethodName) prog_1_method_58_code (3 : Nat) (Option.some Jvm.ClassFile.FieldType.int)) ∈ lw_all := lw_g (lw_at lw_m6 90 rfl) rfl
theorem q1383 : (Jvm.Cond.instanceMethod ({ cls := "GossipStairs", name := "crowdedLayer", desc := "()I" } : Jvm.MethodName)) ∈ lw_all := lw_g (lw_at lw_m6 95 rfl) rfl
theorem q1384 : (Jvm.Cond.selects "GossipStairs" ({ cls := "GossipStairs", name := "crowdedLayer", desc := "()I" } : Jvm.MethodName) ({ cls := "GossipStairs", name := "crowdedLayer", desc := "()I" } : Jvm.MethodName)) ∈ lw_all := lw_g (lw_at lw_m6 96 rfl) rfl
theorem q1385 : (Jvm.Cond.code ({ cls := "GossipStairs", name := "crowdedLayer", desc := "()I" } : Jvm.MethodName) prog_1_method_51_code (3 : Nat) (Option.some Jvm.ClassFile.FieldType.int)) ∈ lw_all := lw_g (lw_at lw_m6 97 rfl) rfl
theorem q1390 : (Jvm.Cond.instanceMethod ({ cls := "GossipStairs", name := "crossingsBelow", desc := "(I)I" } : Jvm.MethodName)) ∈ lw_all := lw_g (lw_at lw_m6 102 rfl) rfl
theorem q1391 : (Jvm.Cond.selects "GossipStairs" ({ cls := "GossipStairs", name := "crossingsBelow", desc := "(I)I" } : Jvm.MethodName) ({ cls := "GossipStairs", name := "crossingsBelow", desc := "(I)I" } : Jvm.MethodName)) ∈ lw_all := lw_g (lw_at lw_m6 103 rfl) rfl
theorem q1392 : (Jvm.Cond.code ({ cls := "GossipStairs", name := "crossingsBelow", desc := "(I)I" } : Jvm.MethodName) prog_1_method_61_code (3 : Nat) (Option.some Jvm.ClassFile.FieldType.int)) ∈ lw_all := lw_g (lw_at lw_m6 104 rfl) rfl
theorem q1393 : (Jvm.Cond.methodLink "GossipStairs" (256 : Nat) ({ cls := "GossipStairs$Diagram", name := "crossingsAt", desc := "(I)I" } : Jvm.MethodName)) ∈ lw_all := lw_g (lw_at lw_m6 105 rfl) rfl
theorem q1398 : (Jvm.Cond.instanceMethod ({ cls := "GossipStairs", name := "crossingsOf", desc := "(I)I" } : Jvm.MethodName)) ∈ lw_all := lw_g (lw_at lw_m6 110 rfl) rfl
theorem q1399 : (Jvm.Cond.selects "GossipStairs" ({ cls := "GossipStairs", name := "crossingsOf", desc := "(I)I" } : Jvm.MethodName) ({ cls := "GossipStairs", name := "crossingsOf", desc := "(I)I" } : Jvm.MethodName)) ∈ lw_all := lw_g (lw_at lw_m6 111 rfl) rfl
theorem q1400 : (Jvm.Cond.code ({ cls := "GossipStairs", name := "crossingsOf", desc := "(I)I" } : Jvm.MethodName) prog_1_method_62_code (2 : Nat) (Option.some Jvm.ClassFile.FieldType.int)) ∈ lw_all := lw_g (lw_at lw_m6 112 rfl) rfl
theorem q1401 : (Jvm.Cond.methodLink "GossipStairs" (259 : Nat) ({ cls := "GossipStairs$Diagram", name := "crossingsBy", desc := "(I)I" } : Jvm.MethodName)) ∈ lw_all := lw_g (lw_at lw_m6 113 rfl) rfl
theorem q1409 : (Jvm.Cond.instanceMethod ({ cls := "GossipStairs", name := "columnAt", desc := "(II)I" } : Jvm.MethodName)) ∈ lw_all := lw_g (lw_at lw_m6 121 rfl) rfl
theorem q1410 : (Jvm.Cond.selects "GossipStairs" ({ cls := "GossipStairs", name := "columnAt", desc := "(II)I" } : Jvm.MethodName) ({ cls := "GossipStairs", name := "columnAt", desc := "(II)I" } : Jvm.MethodName)) ∈ lw_all := lw_g (lw_at lw_m6 122 rfl) rfl
theorem q1411 : (Jvm.Cond.code ({ cls := "GossipStairs", name := "columnAt", desc := "(II)I" } : Jvm.MethodName) prog_1_method_65_code (3 : Nat) (Option.some Jvm.ClassFile.FieldType.int)) ∈ lw_all := lw_g (lw_at lw_m6 123 rfl) rfl
theorem q1416 : (Jvm.Cond.instanceMethod ({ cls := "GossipStairs", name := "bendsOf", desc := "(I)I" } : Jvm.MethodName)) ∈ lw_all := lw_g (lw_at lw_m6 128 rfl) rfl
theorem q1417 : (Jvm.Cond.selects "GossipStairs" ({ cls := "GossipStairs", name := "bendsOf", desc := "(I)I" } : Jvm.MethodName) ({ cls := "GossipStairs", name := "bendsOf", desc := "(I)I" } : Jvm.MethodName)) ∈ lw_all := lw_g (lw_at lw_m6 129 rfl) rfl
theorem q1418 : (Jvm.Cond.code ({ cls := "GossipStairs", name := "bendsOf", desc := "(I)I" } : Jvm.MethodName) prog_1_method_66_code (3 : Nat) (Option.some Jvm.ClassFile.FieldType.int)) ∈ lw_all := lw_g (lw_at lw_m6 130 rfl) rfl
theorem q1423 : (Jvm.Cond.instanceMethod ({ cls := "GossipStairs", name := "meanPoints", desc := "()F" } : Jvm.MethodName)) ∈ lw_all := lw_g (lw_at lw_m6 135 rfl) rfl
theorem q1424 : (Jvm.Cond.selects "GossipStairs" ({ cls := "GossipStairs", name := "meanPoints", desc := "()F" } : Jvm.MethodName) ({ cls := "GossipStairs", name := "meanPoints", desc := "()F" } : Jvm.MethodName)) ∈ lw_all := lw_g (lw_at lw_m6 136 rfl) rfl
theorem q1425 : (Jvm.Cond.code ({ cls := "GossipStairs", name := "meanPoints", desc := "()F" } : Jvm.MethodName) prog_1_method_73_code (1 : Nat) (Option.some Jvm.ClassFile.FieldType.float)) ∈ lw_all := lw_g (lw_at lw_m6 137 rfl) rfl
theorem q1430 : (Jvm.Cond.instanceMethod ({ cls := "GossipStairs", name := "goBack", desc := "()I" } : Jvm.MethodName)) ∈ lw_all := lw_g (lw_at lw_m6 142 rfl) rfl
theorem q1431 : (Jvm.Cond.selects "GossipStairs" ({ cls := "GossipStairs", name := "goBack", desc := "()I" } : Jvm.MethodName) ({ cls := "GossipStairs", name := "goBack", desc := "()I" } : Jvm.MethodName)) ∈ lw_all := lw_g (lw_at lw_m6 143 rfl) rfl
theorem q1432 : (Jvm.Cond.code ({ cls := "GossipStairs", name := "goBack", desc := "()I" } : Jvm.MethodName) prog_1_method_75_code (1 : Nat) (Option.some Jvm.ClassFile.FieldType.int)) ∈ lw_all := lw_g (lw_at lw_m6 144 rfl) rfl
theorem q1433 : (Jvm.Cond.methodLink "GossipStairs" (291 : Nat) ({ cls := "GossipStairs", name := "needState", desc := "(Z)V" } : Jvm.MethodName)) ∈ lw_all := lw_g (lw_at lw_m6 145 rfl) rfl
theorem q1434 : (Jvm.Cond.static ({ cls := "GossipStairs", name := "needState", desc := "(Z)V" } : Jvm.MethodName)) ∈ lw_all := lw_g (lw_at lw_m6 146 rfl) rfl
theorem q1435 : (Jvm.Cond.code ({ cls := "GossipStairs", name := "needState", desc := "(Z)V" } : Jvm.MethodName) prog_1_method_24_code (1 : Nat) (Option.none : Option Jvm.ClassFile.FieldType)) ∈ lw_all := lw_g (lw_at lw_m6 147 rfl) rfl
theorem q1436 : (Jvm.Cond.methodLink "GossipStairs" (147 : Nat) ({ cls := "java/lang/IllegalStateException", name := "<init>", desc := "(Ljava/lang/String;)V" } : Jvm.MethodName)) ∈ lw_all := lw_g (lw_at lw_m6 148 rfl) rfl
theorem q1441 : (Jvm.Cond.instanceMethod ({ cls := "GossipStairs", name := "undo", desc := "()I" } : Jvm.MethodName)) ∈ lw_all := lw_g (lw_at lw_m6 153 rfl) rfl
theorem q1442 : (Jvm.Cond.selects "GossipStairs" ({ cls := "GossipStairs", name := "undo", desc := "()I" } : Jvm.MethodName) ({ cls := "GossipStairs", name := "undo", desc := "()I" } : Jvm.MethodName)) ∈ lw_all := lw_g (lw_at lw_m6 154 rfl) rfl
theorem q1443 : (Jvm.Cond.code ({ cls := "GossipStairs", name := "undo", desc := "()I" } : Jvm.MethodName) prog_1_method_77_code (1 : Nat) (Option.some Jvm.ClassFile.FieldType.int)) ∈ lw_all := lw_g (lw_at lw_m6 155 rfl) rfl
theorem q1444 : (Jvm.Cond.methodLink "GossipStairs" (294 : Nat) ({ cls := "java/util/ArrayDeque", name := "isEmpty", desc := "()Z" } : Jvm.MethodName)) ∈ lw_all := lw_g (lw_at lw_m6 156 rfl) rfl
theorem q1445 : (Jvm.Cond.methodLink "GossipStairs" (298 : Nat) ({ cls := "java/util/ArrayDeque", name := "removeLast", desc := "()Ljava/lang/Object;" } : Jvm.MethodName)) ∈ lw_all := lw_g (lw_at lw_m6 157 rfl) rfl
theorem q1460 : (Jvm.Cond.instanceMethod ({ cls := "GossipStairs", name := "type", desc := "(I)I" } : Jvm.MethodName)) ∈ lw_all := lw_g (lw_at lw_m6 172 rfl) rfl
theorem q1461 : (Jvm.Cond.selects "GossipStairs" ({ cls := "GossipStairs", name := "type", desc := "(I)I" } : Jvm.MethodName) ({ cls := "GossipStairs", name := "type", desc := "(I)I" } : Jvm.MethodName)) ∈ lw_all := lw_g (lw_at lw_m6 173 rfl) rfl
theorem q1462 : (Jvm.Cond.code ({ cls := "GossipStairs", name := "type", desc := "(I)I" } : Jvm.MethodName) prog_1_method_78_code (2 : Nat) (Option.some Jvm.ClassFile.FieldType.int)) ∈ lw_all := lw_g (lw_at lw_m6 174 rfl) rfl
theorem q1463 : (Jvm.Cond.constantLong "GossipStairs" (301 : Nat) (32 : Int64)) ∈ lw_all := lw_g (lw_at lw_m6 175 rfl) rfl
theorem q1464 : (Jvm.Cond.constantLong "GossipStairs" (303 : Nat) (126 : Int64)) ∈ lw_all := lw_g (lw_at lw_m6 176 rfl) rfl
theorem q1465 : (Jvm.Cond.methodLink "GossipStairs" (305 : Nat) ({ cls := "GossipStairs", name := "isBetween", desc := "(JJJ)Z" } : Jvm.MethodName)) ∈ lw_all := lw_g (lw_at lw_m6 177 rfl) rfl
theorem q1466 : (Jvm.Cond.methodLink "GossipStairs" (312 : Nat) ({ cls := "java/lang/StringBuilder", name := "append", desc := "(C)Ljava/lang/StringBuilder;" } : Jvm.MethodName)) ∈ lw_all := lw_g (lw_at lw_m6 178 rfl) rfl
theorem q1492 : (Jvm.Cond.instanceMethod ({ cls := "GossipStairs", name := "faultPosition", desc := "()I" } : Jvm.MethodName)) ∈ lw_all := lw_g (lw_at lw_m6 204 rfl) rfl
theorem q1493 : (Jvm.Cond.selects "GossipStairs" ({ cls := "GossipStairs", name := "faultPosition", desc := "()I" } : Jvm.MethodName) ({ cls := "GossipStairs", name := "faultPosition", desc := "()I" } : Jvm.MethodName)) ∈ lw_all := lw_g (lw_at lw_m6 205 rfl) rfl
theorem q1494 : (Jvm.Cond.code ({ cls := "GossipStairs", name := "faultPosition", desc := "()I" } : Jvm.MethodName) prog_1_method_81_code (1 : Nat) (Option.some Jvm.ClassFile.FieldType.int)) ∈ lw_all := lw_g (lw_at lw_m6 206 rfl) rfl
theorem q1495 : (Jvm.Cond.methodLink "GossipStairs" (327 : Nat) ({ cls := "GossipStairs", name := "faulty", desc := "()LGossipStairs$Reader;" } : Jvm.MethodName)) ∈ lw_all := lw_g (lw_at lw_m6 207 rfl) rfl
theorem q1496 : (Jvm.Cond.privateMethod ({ cls := "GossipStairs", name := "faulty", desc := "()LGossipStairs$Reader;" } : Jvm.MethodName)) ∈ lw_tbl := lw_at lw_m6 208 rfl
theorem q1497 : (Jvm.Cond.instanceMethod ({ cls := "GossipStairs", name := "faulty", desc := "()LGossipStairs$Reader;" } : Jvm.MethodName)) ∈ lw_all := lw_g (lw_at lw_m6 209 rfl) rfl
theorem q1498 : (Jvm.Cond.code ({ cls := "GossipStairs", name := "faulty", desc := "()LGossipStairs$Reader;" } : Jvm.MethodName) prog_1_method_80_code (2 : Nat) (Option.some (Jvm.ClassFile.FieldType.object "GossipStairs$Reader"))) ∈ lw_all := lw_g (lw_at lw_m6 210 rfl) rfl
theorem q1499 : (Jvm.Cond.classLink "GossipStairs" (319 : Nat) "GossipStairs$Reader") ∈ lw_all := lw_g (lw_at lw_m6 211 rfl) rfl
theorem q1501 : (Jvm.Cond.methodLinkNest "GossipStairs" (321 : Nat) ({ cls := "GossipStairs$Reader", name := "<init>", desc := "(LGossipStairs;)V" } : Jvm.MethodName) "GossipStairs") ∈ lw_tbl := lw_at lw_m6 213 rfl
theorem q1508 : (Jvm.Cond.fieldLinkNest "GossipStairs" (340 : Nat) "GossipStairs$Reader" "trial" "LGossipStairs$Diagram;" "GossipStairs") ∈ lw_tbl := lw_at lw_m6 220 rfl
theorem q1512 : (Jvm.Cond.fieldLinkNest "GossipStairs" (331 : Nat) "GossipStairs$Reader" "begins" "I" "GossipStairs") ∈ lw_tbl := lw_at lw_m6 224 rfl
theorem q1514 : (Jvm.Cond.fieldLinkNest "GossipStairs" (334 : Nat) "GossipStairs$Reader" "reason" "I" "GossipStairs") ∈ lw_tbl := lw_at lw_m6 226 rfl
theorem q1516 : (Jvm.Cond.fieldLinkNest "GossipStairs" (337 : Nat) "GossipStairs$Reader" "cause" "I" "GossipStairs") ∈ lw_tbl := lw_at lw_m6 228 rfl
theorem q1518 : (Jvm.Cond.fieldLinkNest "GossipStairs" (343 : Nat) "GossipStairs$Reader" "many" "I" "GossipStairs") ∈ lw_tbl := lw_at lw_m6 230 rfl
theorem q1537 : (Jvm.Cond.methodLink "GossipStairs" (324 : Nat) ({ cls := "GossipStairs$Reader", name := "isWell", desc := "()Z" } : Jvm.MethodName)) ∈ lw_all := lw_g (lw_at lw_m7 9 rfl) rfl
theorem q1629 : (Jvm.Cond.instanceMethod ({ cls := "GossipStairs", name := "faultReason", desc := "()I" } : Jvm.MethodName)) ∈ lw_all := lw_g (lw_at lw_m7 101 rfl) rfl
theorem q1630 : (Jvm.Cond.selects "GossipStairs" ({ cls := "GossipStairs", name := "faultReason", desc := "()I" } : Jvm.MethodName) ({ cls := "GossipStairs", name := "faultReason", desc := "()I" } : Jvm.MethodName)) ∈ lw_all := lw_g (lw_at lw_m7 102 rfl) rfl
theorem q1631 : (Jvm.Cond.code ({ cls := "GossipStairs", name := "faultReason", desc := "()I" } : Jvm.MethodName) prog_1_method_82_code (1 : Nat) (Option.some Jvm.ClassFile.FieldType.int)) ∈ lw_all := lw_g (lw_at lw_m7 103 rfl) rfl
theorem q1636 : (Jvm.Cond.instanceMethod ({ cls := "GossipStairs", name := "faultCause", desc := "()I" } : Jvm.MethodName)) ∈ lw_all := lw_g (lw_at lw_m7 108 rfl) rfl
theorem q1637 : (Jvm.Cond.selects "GossipStairs" ({ cls := "GossipStairs", name := "faultCause", desc := "()I" } : Jvm.MethodName) ({ cls := "GossipStairs", name := "faultCause", desc := "()I" } : Jvm.MethodName)) ∈ lw_all := lw_g (lw_at lw_m7 109 rfl) rfl
theorem q1638 : (Jvm.Cond.code ({ cls := "GossipStairs", name := "faultCause", desc := "()I" } : Jvm.MethodName) prog_1_method_83_code (1 : Nat) (Option.some Jvm.ClassFile.FieldType.int)) ∈ lw_all := lw_g (lw_at lw_m7 110 rfl) rfl
theorem q1643 : (Jvm.Cond.instanceMethod ({ cls := "GossipStairs", name := "play", desc := "()I" } : Jvm.MethodName)) ∈ lw_all := lw_g (lw_at lw_m7 115 rfl) rfl
theorem q1644 : (Jvm.Cond.selects "GossipStairs" ({ cls := "GossipStairs", name := "play", desc := "()I" } : Jvm.MethodName) ({ cls := "GossipStairs", name := "play", desc := "()I" } : Jvm.MethodName)) ∈ lw_all := lw_g (lw_at lw_m7 116 rfl) rfl
theorem q1645 : (Jvm.Cond.code ({ cls := "GossipStairs", name := "play", desc := "()I" } : Jvm.MethodName) prog_1_method_84_code (2 : Nat) (Option.some Jvm.ClassFile.FieldType.int)) ∈ lw_all := lw_g (lw_at lw_m7 117 rfl) rfl
theorem q2260 : (Jvm.Cond.castable "GossipStairs" "java/lang/Object") ∈ lw_tbl := lw_at lw_m10 12 rfl
theorem in_X1 : ∀ w ∈ wsX10, w ∈ lw_all := lw_in wsX10 [252, 254, 256, 258] (by decide +kernel) (by decide +kernel)
/-! GossipStairs$Diagram -/
def RX2 : String := "GossipStairs$Diagram"
def TX2 : u_T := fun k => match k with
  | 0 => ("GossipStairs$Diagram", "froms", "[I", true)
  | 1 => ("GossipStairs$Diagram", "tos", "[I", true)
  | 2 => ("GossipStairs$Diagram", "least", "[I", true)
  | 3 => ("GossipStairs$Diagram", "layers", "[I", true)
  | 4 => ("GossipStairs$Diagram", "rows", "[I", true)
  | 5 => ("GossipStairs$Diagram", "lengths", "[I", true)
  | 6 => ("GossipStairs$Diagram", "uppers", "[I", true)
  | 7 => ("GossipStairs$Diagram", "lowers", "[I", true)
  | 8 => ("GossipStairs$Diagram", "near", "[I", true)
  | 9 => ("GossipStairs$Diagram", "medians", "[I", true)
  | 10 => ("GossipStairs$Diagram", "points", "[I", true)
  | 11 => ("GossipStairs$Diagram", "boxes", "I", false)
  | 12 => ("GossipStairs$Diagram", "arrows", "I", false)
  | 13 => ("GossipStairs$Diagram", "depth", "I", false)
  | 14 => ("GossipStairs$Diagram", "made", "I", false)
  | _ => ("GossipStairs$Diagram", "come", "I", false)
def tyX2 : Nat → FieldType := fun k => match k with
  | 0 => .array .int
  | 1 => .array .int
  | 2 => .array .int
  | 3 => .array .int
  | 4 => .array .int
  | 5 => .array .int
  | 6 => .array .int
  | 7 => .array .int
  | 8 => .array .int
  | 9 => .array .int
  | 10 => .array .int
  | 11 => .int
  | 12 => .int
  | 13 => .int
  | 14 => .int
  | _ => .int
abbrev wsX20 : List Cond := u_ws RX2 TX2 16
theorem nmX2 : ∀ a, a < 16 → ∀ b, b < 16 → a ≠ b → (TX2 a).2.1 ≠ (TX2 b).2.1 := by decide +kernel
theorem tyX2_ok : ∀ k, k < 16 → parseFieldDescriptor (TX2 k).2.2.1 = some (tyX2 k) := by decide +kernel
abbrev cX2_init : ByteArray := prog_2_method_1_code
def yX2_init : MethodName := ⟨RX2, "<init>", "()V"⟩
abbrev cX2_init_2 : ByteArray := prog_2_method_2_code
def yX2_init_2 : MethodName := ⟨RX2, "<init>", "(LGossipStairs$Diagram;)V"⟩
abbrev cX2_getsBox : ByteArray := prog_2_method_43_code
def yX2_getsBox : MethodName := ⟨RX2, "getsBox", "()I"⟩
abbrev cX2_lays : ByteArray := prog_2_method_15_code
def yX2_lays : MethodName := ⟨RX2, "lays", "()V"⟩
abbrev cX2_puts : ByteArray := prog_2_method_16_code
def yX2_puts : MethodName := ⟨RX2, "puts", "(II)V"⟩
abbrev cX2_getsArrow : ByteArray := prog_2_method_45_code
def yX2_getsArrow : MethodName := ⟨RX2, "getsArrow", "(II)I"⟩
abbrev cX2_needBox : ByteArray := prog_2_method_44_code
def yX2_needBox : MethodName := ⟨RX2, "needBox", "(I)V"⟩
abbrev cX2_isBox : ByteArray := prog_2_method_3_code
def yX2_isBox : MethodName := ⟨RX2, "isBox", "(I)Z"⟩
abbrev cX2_isThere : ByteArray := prog_2_method_9_code
def yX2_isThere : MethodName := ⟨RX2, "isThere", "(II)Z"⟩
abbrev cX2_listens : ByteArray := prog_2_method_7_code
def yX2_listens : MethodName := ⟨RX2, "listens", "(III)Z"⟩
abbrev cX2_getsChain : ByteArray := prog_2_method_47_code
def yX2_getsChain : MethodName := ⟨RX2, "getsChain", "(III)I"⟩
abbrev cX2_step : ByteArray := prog_2_method_46_code
def yX2_step : MethodName := ⟨RX2, "step", "(III)I"⟩
abbrev cX2_losesArrow : ByteArray := prog_2_method_48_code
def yX2_losesArrow : MethodName := ⟨RX2, "losesArrow", "(I)I"⟩
abbrev cX2_isArrow : ByteArray := prog_2_method_4_code
def yX2_isArrow : MethodName := ⟨RX2, "isArrow", "(I)Z"⟩
abbrev cX2_holds : ByteArray := prog_2_method_51_code
def yX2_holds : MethodName := ⟨RX2, "holds", "(II)I"⟩
abbrev cX2_prunes : ByteArray := prog_2_method_49_code
def yX2_prunes : MethodName := ⟨RX2, "prunes", "()I"⟩
abbrev cX2_turnsRound : ByteArray := prog_2_method_50_code
def yX2_turnsRound : MethodName := ⟨RX2, "turnsRound", "()I"⟩
abbrev cX2_goes : ByteArray := prog_2_method_52_code
def yX2_goes : MethodName := ⟨RX2, "goes", "(Z)I"⟩
abbrev cX2_brushes : ByteArray := prog_2_method_34_code
def yX2_brushes : MethodName := ⟨RX2, "brushes", "(Z)V"⟩
abbrev cX2_orders : ByteArray := prog_2_method_33_code
def yX2_orders : MethodName := ⟨RX2, "orders", "(IZ)V"⟩
abbrev cX2_median : ByteArray := prog_2_method_32_code
def yX2_median : MethodName := ⟨RX2, "median", "(IIZ)I"⟩
abbrev cX2_neighbours : ByteArray := prog_2_method_30_code
def yX2_neighbours : MethodName := ⟨RX2, "neighbours", "(IIZ[I)I"⟩
abbrev cX2_hasLine : ByteArray := prog_2_method_20_code
def yX2_hasLine : MethodName := ⟨RX2, "hasLine", "(II)Z"⟩
abbrev cX2_endOf : ByteArray := prog_2_method_22_code
def yX2_endOf : MethodName := ⟨RX2, "endOf", "(II)I"⟩
abbrev cX2_pointOf : ByteArray := prog_2_method_21_code
def yX2_pointOf : MethodName := ⟨RX2, "pointOf", "(II)I"⟩
abbrev cX2_place : ByteArray := prog_2_method_19_code
def yX2_place : MethodName := ⟨RX2, "place", "(II)I"⟩
abbrev cX2_point : ByteArray := prog_2_method_6_code
def yX2_point : MethodName := ⟨RX2, "point", "(II)I"⟩
abbrev cX2_middle : ByteArray := prog_2_method_31_code
def yX2_middle : MethodName := ⟨RX2, "middle", "(II)I"⟩
abbrev cX2_allCrossings : ByteArray := prog_2_method_26_code
def yX2_allCrossings : MethodName := ⟨RX2, "allCrossings", "()I"⟩
abbrev cX2_crossingsAt : ByteArray := prog_2_method_25_code
def yX2_crossingsAt : MethodName := ⟨RX2, "crossingsAt", "(I)I"⟩
abbrev cX2_ends : ByteArray := prog_2_method_23_code
def yX2_ends : MethodName := ⟨RX2, "ends", "(I)V"⟩
abbrev cX2_doCross : ByteArray := prog_2_method_24_code
def yX2_doCross : MethodName := ⟨RX2, "doCross", "(II)Z"⟩
abbrev cX2_untangles : ByteArray := prog_2_method_37_code
def yX2_untangles : MethodName := ⟨RX2, "untangles", "()I"⟩
abbrev cX2_around : ByteArray := prog_2_method_36_code
def yX2_around : MethodName := ⟨RX2, "around", "(I)I"⟩
abbrev cX2_swaps : ByteArray := prog_2_method_35_code
def yX2_swaps : MethodName := ⟨RX2, "swaps", "(III)V"⟩
abbrev cX2_swapsAt : ByteArray := prog_2_method_53_code
def yX2_swapsAt : MethodName := ⟨RX2, "swapsAt", "(III)I"⟩
abbrev cX2_isLayer : ByteArray := prog_2_method_5_code
def yX2_isLayer : MethodName := ⟨RX2, "isLayer", "(I)Z"⟩
abbrev cX2_settles : ByteArray := prog_2_method_54_code
def yX2_settles : MethodName := ⟨RX2, "settles", "()I"⟩
abbrev cX2_needlessOnes : ByteArray := prog_2_method_10_code
def yX2_needlessOnes : MethodName := ⟨RX2, "needlessOnes", "()I"⟩
abbrev cX2_endBoxes : ByteArray := prog_2_method_14_code
def yX2_endBoxes : MethodName := ⟨RX2, "endBoxes", "(Z)I"⟩
abbrev cX2_pointCount : ByteArray := prog_2_method_18_code
def yX2_pointCount : MethodName := ⟨RX2, "pointCount", "()I"⟩
abbrev cX2_putIn : ByteArray := prog_2_method_28_code
def yX2_putIn : MethodName := ⟨RX2, "putIn", "(I)I"⟩
abbrev cX2_lines : ByteArray := prog_2_method_29_code
def yX2_lines : MethodName := ⟨RX2, "lines", "(II)I"⟩
abbrev cX2_columns : ByteArray := prog_2_method_38_code
def yX2_columns : MethodName := ⟨RX2, "columns", "()[I"⟩
abbrev cX2_bendsBy : ByteArray := prog_2_method_40_code
def yX2_bendsBy : MethodName := ⟨RX2, "bendsBy", "(I[I)I"⟩
abbrev cX2_growth : ByteArray := prog_2_method_39_code
def yX2_growth : MethodName := ⟨RX2, "growth", "(II[I)I"⟩
abbrev cX2_straights : ByteArray := prog_2_method_41_code
def yX2_straights : MethodName := ⟨RX2, "straights", "([I)I"⟩
abbrev cX2_slants : ByteArray := prog_2_method_42_code
def yX2_slants : MethodName := ⟨RX2, "slants", "([I)I"⟩
abbrev cX2_heard : ByteArray := prog_2_method_8_code
def yX2_heard : MethodName := ⟨RX2, "heard", "(I)I"⟩
abbrev cX2_waysByLayers : ByteArray := prog_2_method_11_code
def yX2_waysByLayers : MethodName := ⟨RX2, "waysByLayers", "(II)I"⟩
abbrev cX2_waysBack : ByteArray := prog_2_method_12_code
def yX2_waysBack : MethodName := ⟨RX2, "waysBack", "(II)I"⟩
abbrev cX2_arrowsOn : ByteArray := prog_2_method_13_code
def yX2_arrowsOn : MethodName := ⟨RX2, "arrowsOn", "(IIZ)I"⟩
abbrev cX2_back : ByteArray := prog_2_method_17_code
def yX2_back : MethodName := ⟨RX2, "back", "(I)I"⟩
abbrev cX2_crossingsBy : ByteArray := prog_2_method_27_code
def yX2_crossingsBy : MethodName := ⟨RX2, "crossingsBy", "(I)I"⟩
theorem q90 : (Jvm.Cond.initialized "GossipStairs$Diagram") ∈ lw_all := lw_g (lw_at lw_m1 2 rfl) rfl
theorem q127 : (Jvm.Cond.instantiable "GossipStairs$Diagram" (16 : Nat)) ∈ lw_all := lw_g (lw_at lw_m1 39 rfl) rfl
theorem q129 : (Jvm.Cond.instanceMethod ({ cls := "GossipStairs$Diagram", name := "<init>", desc := "()V" } : Jvm.MethodName)) ∈ lw_all := lw_g (lw_at lw_m1 41 rfl) rfl
theorem q130 : (Jvm.Cond.code ({ cls := "GossipStairs$Diagram", name := "<init>", desc := "()V" } : Jvm.MethodName) prog_2_method_1_code (1 : Nat) (Option.none : Option Jvm.ClassFile.FieldType)) ∈ lw_all := lw_g (lw_at lw_m1 42 rfl) rfl
theorem q131 : (Jvm.Cond.methodLink "GossipStairs$Diagram" (3 : Nat) ({ cls := "java/lang/Object", name := "<init>", desc := "()V" } : Jvm.MethodName)) ∈ lw_all := lw_g (lw_at lw_m1 43 rfl) rfl
theorem q132 : (Jvm.Cond.fieldLink "GossipStairs$Diagram" (27 : Nat) "GossipStairs$Diagram" "froms" "[I") ∈ lw_all := lw_g (lw_at lw_m1 44 rfl) rfl
theorem q134 : (Jvm.Cond.fieldLink "GossipStairs$Diagram" (30 : Nat) "GossipStairs$Diagram" "tos" "[I") ∈ lw_all := lw_g (lw_at lw_m1 46 rfl) rfl
theorem q136 : (Jvm.Cond.fieldLink "GossipStairs$Diagram" (33 : Nat) "GossipStairs$Diagram" "least" "[I") ∈ lw_all := lw_g (lw_at lw_m1 48 rfl) rfl
theorem q138 : (Jvm.Cond.fieldLink "GossipStairs$Diagram" (36 : Nat) "GossipStairs$Diagram" "layers" "[I") ∈ lw_all := lw_g (lw_at lw_m1 50 rfl) rfl
theorem q140 : (Jvm.Cond.fieldLink "GossipStairs$Diagram" (39 : Nat) "GossipStairs$Diagram" "rows" "[I") ∈ lw_all := lw_g (lw_at lw_m1 52 rfl) rfl
theorem q141 : (Jvm.Cond.fieldLink "GossipStairs$Diagram" (42 : Nat) "GossipStairs$Diagram" "lengths" "[I") ∈ lw_all := lw_g (lw_at lw_m1 53 rfl) rfl
theorem q143 : (Jvm.Cond.fieldLink "GossipStairs$Diagram" (9 : Nat) "GossipStairs$Diagram" "uppers" "[I") ∈ lw_all := lw_g (lw_at lw_m1 55 rfl) rfl
theorem q144 : (Jvm.Cond.fieldLink "GossipStairs$Diagram" (15 : Nat) "GossipStairs$Diagram" "lowers" "[I") ∈ lw_all := lw_g (lw_at lw_m1 56 rfl) rfl
theorem q145 : (Jvm.Cond.fieldLink "GossipStairs$Diagram" (18 : Nat) "GossipStairs$Diagram" "near" "[I") ∈ lw_all := lw_g (lw_at lw_m1 57 rfl) rfl
theorem q146 : (Jvm.Cond.fieldLink "GossipStairs$Diagram" (21 : Nat) "GossipStairs$Diagram" "medians" "[I") ∈ lw_all := lw_g (lw_at lw_m1 58 rfl) rfl
theorem q147 : (Jvm.Cond.fieldLink "GossipStairs$Diagram" (24 : Nat) "GossipStairs$Diagram" "points" "[I") ∈ lw_all := lw_g (lw_at lw_m1 59 rfl) rfl
theorem q148 : (Jvm.Cond.fieldLink "GossipStairs$Diagram" (50 : Nat) "GossipStairs$Diagram" "boxes" "I") ∈ lw_all := lw_g (lw_at lw_m1 60 rfl) rfl
theorem q150 : (Jvm.Cond.fieldLink "GossipStairs$Diagram" (54 : Nat) "GossipStairs$Diagram" "arrows" "I") ∈ lw_all := lw_g (lw_at lw_m1 62 rfl) rfl
theorem q152 : (Jvm.Cond.fieldLink "GossipStairs$Diagram" (57 : Nat) "GossipStairs$Diagram" "depth" "I") ∈ lw_all := lw_g (lw_at lw_m1 64 rfl) rfl
theorem q154 : (Jvm.Cond.fieldLink "GossipStairs$Diagram" (60 : Nat) "GossipStairs$Diagram" "made" "I") ∈ lw_all := lw_g (lw_at lw_m1 66 rfl) rfl
theorem q156 : (Jvm.Cond.fieldLink "GossipStairs$Diagram" (63 : Nat) "GossipStairs$Diagram" "come" "I") ∈ lw_all := lw_g (lw_at lw_m1 68 rfl) rfl
theorem q158 : (Jvm.Cond.laysFinal "GossipStairs$Diagram" "GossipStairs$Diagram" "froms" "[I") ∈ lw_all := lw_g (lw_at lw_m1 70 rfl) rfl
theorem q159 : (Jvm.Cond.soleField "GossipStairs$Diagram" "froms") ∈ lw_all := lw_g (lw_at lw_m1 71 rfl) rfl
theorem q160 : (Jvm.Cond.laysFinal "GossipStairs$Diagram" "GossipStairs$Diagram" "tos" "[I") ∈ lw_all := lw_g (lw_at lw_m1 72 rfl) rfl
theorem q161 : (Jvm.Cond.soleField "GossipStairs$Diagram" "tos") ∈ lw_all := lw_g (lw_at lw_m1 73 rfl) rfl
theorem q162 : (Jvm.Cond.laysFinal "GossipStairs$Diagram" "GossipStairs$Diagram" "least" "[I") ∈ lw_all := lw_g (lw_at lw_m1 74 rfl) rfl
theorem q163 : (Jvm.Cond.soleField "GossipStairs$Diagram" "least") ∈ lw_all := lw_g (lw_at lw_m1 75 rfl) rfl
theorem q164 : (Jvm.Cond.laysFinal "GossipStairs$Diagram" "GossipStairs$Diagram" "layers" "[I") ∈ lw_all := lw_g (lw_at lw_m1 76 rfl) rfl
theorem q165 : (Jvm.Cond.soleField "GossipStairs$Diagram" "layers") ∈ lw_all := lw_g (lw_at lw_m1 77 rfl) rfl
theorem q166 : (Jvm.Cond.laysFinal "GossipStairs$Diagram" "GossipStairs$Diagram" "rows" "[I") ∈ lw_all := lw_g (lw_at lw_m1 78 rfl) rfl
theorem q167 : (Jvm.Cond.soleField "GossipStairs$Diagram" "rows") ∈ lw_all := lw_g (lw_at lw_m1 79 rfl) rfl
theorem q168 : (Jvm.Cond.laysFinal "GossipStairs$Diagram" "GossipStairs$Diagram" "lengths" "[I") ∈ lw_all := lw_g (lw_at lw_m1 80 rfl) rfl
theorem q169 : (Jvm.Cond.soleField "GossipStairs$Diagram" "lengths") ∈ lw_all := lw_g (lw_at lw_m1 81 rfl) rfl
theorem q170 : (Jvm.Cond.laysFinal "GossipStairs$Diagram" "GossipStairs$Diagram" "uppers" "[I") ∈ lw_all := lw_g (lw_at lw_m1 82 rfl) rfl
theorem q171 : (Jvm.Cond.soleField "GossipStairs$Diagram" "uppers") ∈ lw_all := lw_g (lw_at lw_m1 83 rfl) rfl
theorem q172 : (Jvm.Cond.laysFinal "GossipStairs$Diagram" "GossipStairs$Diagram" "lowers" "[I") ∈ lw_all := lw_g (lw_at lw_m1 84 rfl) rfl
theorem q173 : (Jvm.Cond.soleField "GossipStairs$Diagram" "lowers") ∈ lw_all := lw_g (lw_at lw_m1 85 rfl) rfl
theorem q174 : (Jvm.Cond.laysFinal "GossipStairs$Diagram" "GossipStairs$Diagram" "near" "[I") ∈ lw_all := lw_g (lw_at lw_m1 86 rfl) rfl
theorem q175 : (Jvm.Cond.soleField "GossipStairs$Diagram" "near") ∈ lw_all := lw_g (lw_at lw_m1 87 rfl) rfl
theorem q176 : (Jvm.Cond.laysFinal "GossipStairs$Diagram" "GossipStairs$Diagram" "medians" "[I") ∈ lw_all := lw_g (lw_at lw_m1 88 rfl) rfl
theorem q177 : (Jvm.Cond.soleField "GossipStairs$Diagram" "medians") ∈ lw_all := lw_g (lw_at lw_m1 89 rfl) rfl
theorem q178 : (Jvm.Cond.laysFinal "GossipStairs$Diagram" "GossipStairs$Diagram" "points" "[I") ∈ lw_all := lw_g (lw_at lw_m1 90 rfl) rfl
theorem q179 : (Jvm.Cond.soleField "GossipStairs$Diagram" "points") ∈ lw_all := lw_g (lw_at lw_m1 91 rfl) rfl
theorem q180 : (Jvm.Cond.lays "GossipStairs$Diagram" "GossipStairs$Diagram" "boxes" "I") ∈ lw_all := lw_g (lw_at lw_m1 92 rfl) rfl
theorem q181 : (Jvm.Cond.soleField "GossipStairs$Diagram" "boxes") ∈ lw_all := lw_g (lw_at lw_m1 93 rfl) rfl
theorem q182 : (Jvm.Cond.lays "GossipStairs$Diagram" "GossipStairs$Diagram" "arrows" "I") ∈ lw_all := lw_g (lw_at lw_m1 94 rfl) rfl
theorem q183 : (Jvm.Cond.soleField "GossipStairs$Diagram" "arrows") ∈ lw_all := lw_g (lw_at lw_m1 95 rfl) rfl
theorem q184 : (Jvm.Cond.lays "GossipStairs$Diagram" "GossipStairs$Diagram" "depth" "I") ∈ lw_all := lw_g (lw_at lw_m1 96 rfl) rfl
theorem q185 : (Jvm.Cond.soleField "GossipStairs$Diagram" "depth") ∈ lw_all := lw_g (lw_at lw_m1 97 rfl) rfl
theorem q186 : (Jvm.Cond.lays "GossipStairs$Diagram" "GossipStairs$Diagram" "made" "I") ∈ lw_all := lw_g (lw_at lw_m1 98 rfl) rfl
theorem q187 : (Jvm.Cond.soleField "GossipStairs$Diagram" "made") ∈ lw_all := lw_g (lw_at lw_m1 99 rfl) rfl
theorem q188 : (Jvm.Cond.lays "GossipStairs$Diagram" "GossipStairs$Diagram" "come" "I") ∈ lw_all := lw_g (lw_at lw_m1 100 rfl) rfl
theorem q189 : (Jvm.Cond.soleField "GossipStairs$Diagram" "come") ∈ lw_all := lw_g (lw_at lw_m1 101 rfl) rfl
theorem q190 : (Jvm.Cond.superclass "GossipStairs$Diagram" "java/lang/Object") ∈ lw_all := lw_g (lw_at lw_m1 102 rfl) rfl
theorem q271 : (Jvm.Cond.instanceMethod ({ cls := "GossipStairs$Diagram", name := "<init>", desc := "(LGossipStairs$Diagram;)V" } : Jvm.MethodName)) ∈ lw_all := lw_g (lw_at lw_m1 183 rfl) rfl
theorem q272 : (Jvm.Cond.code ({ cls := "GossipStairs$Diagram", name := "<init>", desc := "(LGossipStairs$Diagram;)V" } : Jvm.MethodName) prog_2_method_2_code (2 : Nat) (Option.none : Option Jvm.ClassFile.FieldType)) ∈ lw_all := lw_g (lw_at lw_m1 184 rfl) rfl
theorem q273 : (Jvm.Cond.methodLink "GossipStairs$Diagram" (45 : Nat) ({ cls := "[I", name := "clone", desc := "()Ljava/lang/Object;" } : Jvm.MethodName)) ∈ lw_all := lw_g (lw_at lw_m1 185 rfl) rfl
theorem q279 : (Jvm.Cond.classLink "GossipStairs$Diagram" (46 : Nat) "[I") ∈ lw_all := lw_g (lw_at lw_m1 191 rfl) rfl
theorem q284 : (Jvm.Cond.instanceMethod ({ cls := "GossipStairs$Diagram", name := "getsBox", desc := "()I" } : Jvm.MethodName)) ∈ lw_all := lw_g (lw_at lw_m1 196 rfl) rfl
theorem q285 : (Jvm.Cond.selects "GossipStairs$Diagram" ({ cls := "GossipStairs$Diagram", name := "getsBox", desc := "()I" } : Jvm.MethodName) ({ cls := "GossipStairs$Diagram", name := "getsBox", desc := "()I" } : Jvm.MethodName)) ∈ lw_all := lw_g (lw_at lw_m1 197 rfl) rfl
theorem q286 : (Jvm.Cond.code ({ cls := "GossipStairs$Diagram", name := "getsBox", desc := "()I" } : Jvm.MethodName) prog_2_method_43_code (1 : Nat) (Option.some Jvm.ClassFile.FieldType.int)) ∈ lw_all := lw_g (lw_at lw_m1 198 rfl) rfl
theorem q287 : (Jvm.Cond.methodLinkNest "GossipStairs$Diagram" (173 : Nat) ({ cls := "GossipStairs", name := "need", desc := "(ZI)V" } : Jvm.MethodName) "GossipStairs") ∈ lw_tbl := lw_at lw_m1 199 rfl
theorem q344 : (Jvm.Cond.fieldLinkNest "GossipStairs$Diagram" (198 : Nat) "GossipStairs$Refused" "kind" "I" "GossipStairs") ∈ lw_tbl := lw_at lw_m2 16 rfl
theorem q360 : (Jvm.Cond.methodLink "GossipStairs$Diagram" (177 : Nat) ({ cls := "GossipStairs$Diagram", name := "lays", desc := "()V" } : Jvm.MethodName)) ∈ lw_all := lw_g (lw_at lw_m2 32 rfl) rfl
theorem q361 : (Jvm.Cond.privateMethod ({ cls := "GossipStairs$Diagram", name := "lays", desc := "()V" } : Jvm.MethodName)) ∈ lw_tbl := lw_at lw_m2 33 rfl
theorem q362 : (Jvm.Cond.instanceMethod ({ cls := "GossipStairs$Diagram", name := "lays", desc := "()V" } : Jvm.MethodName)) ∈ lw_all := lw_g (lw_at lw_m2 34 rfl) rfl
theorem q363 : (Jvm.Cond.code ({ cls := "GossipStairs$Diagram", name := "lays", desc := "()V" } : Jvm.MethodName) prog_2_method_15_code (4 : Nat) (Option.none : Option Jvm.ClassFile.FieldType)) ∈ lw_all := lw_g (lw_at lw_m2 35 rfl) rfl
theorem q364 : (Jvm.Cond.methodLink "GossipStairs$Diagram" (102 : Nat) ({ cls := "java/lang/Math", name := "max", desc := "(II)I" } : Jvm.MethodName)) ∈ lw_all := lw_g (lw_at lw_m2 36 rfl) rfl
theorem q367 : (Jvm.Cond.methodLink "GossipStairs$Diagram" (107 : Nat) ({ cls := "GossipStairs$Diagram", name := "puts", desc := "(II)V" } : Jvm.MethodName)) ∈ lw_all := lw_g (lw_at lw_m2 39 rfl) rfl
theorem q368 : (Jvm.Cond.privateMethod ({ cls := "GossipStairs$Diagram", name := "puts", desc := "(II)V" } : Jvm.MethodName)) ∈ lw_tbl := lw_at lw_m2 40 rfl
theorem q369 : (Jvm.Cond.instanceMethod ({ cls := "GossipStairs$Diagram", name := "puts", desc := "(II)V" } : Jvm.MethodName)) ∈ lw_all := lw_g (lw_at lw_m2 41 rfl) rfl
theorem q370 : (Jvm.Cond.code ({ cls := "GossipStairs$Diagram", name := "puts", desc := "(II)V" } : Jvm.MethodName) prog_2_method_16_code (3 : Nat) (Option.none : Option Jvm.ClassFile.FieldType)) ∈ lw_all := lw_g (lw_at lw_m2 42 rfl) rfl
theorem q372 : (Jvm.Cond.instanceMethod ({ cls := "GossipStairs$Diagram", name := "getsArrow", desc := "(II)I" } : Jvm.MethodName)) ∈ lw_all := lw_g (lw_at lw_m2 44 rfl) rfl
theorem q373 : (Jvm.Cond.selects "GossipStairs$Diagram" ({ cls := "GossipStairs$Diagram", name := "getsArrow", desc := "(II)I" } : Jvm.MethodName) ({ cls := "GossipStairs$Diagram", name := "getsArrow", desc := "(II)I" } : Jvm.MethodName)) ∈ lw_all := lw_g (lw_at lw_m2 45 rfl) rfl
theorem q374 : (Jvm.Cond.code ({ cls := "GossipStairs$Diagram", name := "getsArrow", desc := "(II)I" } : Jvm.MethodName) prog_2_method_45_code (3 : Nat) (Option.some Jvm.ClassFile.FieldType.int)) ∈ lw_all := lw_g (lw_at lw_m2 46 rfl) rfl
theorem q375 : (Jvm.Cond.methodLink "GossipStairs$Diagram" (184 : Nat) ({ cls := "GossipStairs$Diagram", name := "needBox", desc := "(I)V" } : Jvm.MethodName)) ∈ lw_all := lw_g (lw_at lw_m2 47 rfl) rfl
theorem q376 : (Jvm.Cond.privateMethod ({ cls := "GossipStairs$Diagram", name := "needBox", desc := "(I)V" } : Jvm.MethodName)) ∈ lw_tbl := lw_at lw_m2 48 rfl
theorem q377 : (Jvm.Cond.instanceMethod ({ cls := "GossipStairs$Diagram", name := "needBox", desc := "(I)V" } : Jvm.MethodName)) ∈ lw_all := lw_g (lw_at lw_m2 49 rfl) rfl
theorem q378 : (Jvm.Cond.code ({ cls := "GossipStairs$Diagram", name := "needBox", desc := "(I)V" } : Jvm.MethodName) prog_2_method_44_code (2 : Nat) (Option.none : Option Jvm.ClassFile.FieldType)) ∈ lw_all := lw_g (lw_at lw_m2 50 rfl) rfl
theorem q379 : (Jvm.Cond.methodLink "GossipStairs$Diagram" (180 : Nat) ({ cls := "GossipStairs$Diagram", name := "isBox", desc := "(I)Z" } : Jvm.MethodName)) ∈ lw_all := lw_g (lw_at lw_m2 51 rfl) rfl
theorem q380 : (Jvm.Cond.instanceMethod ({ cls := "GossipStairs$Diagram", name := "isBox", desc := "(I)Z" } : Jvm.MethodName)) ∈ lw_all := lw_g (lw_at lw_m2 52 rfl) rfl
theorem q381 : (Jvm.Cond.selects "GossipStairs$Diagram" ({ cls := "GossipStairs$Diagram", name := "isBox", desc := "(I)Z" } : Jvm.MethodName) ({ cls := "GossipStairs$Diagram", name := "isBox", desc := "(I)Z" } : Jvm.MethodName)) ∈ lw_all := lw_g (lw_at lw_m2 53 rfl) rfl
theorem q382 : (Jvm.Cond.code ({ cls := "GossipStairs$Diagram", name := "isBox", desc := "(I)Z" } : Jvm.MethodName) prog_2_method_3_code (2 : Nat) (Option.some Jvm.ClassFile.FieldType.boolean)) ∈ lw_all := lw_g (lw_at lw_m2 54 rfl) rfl
theorem q383 : (Jvm.Cond.methodLinkNest "GossipStairs$Diagram" (66 : Nat) ({ cls := "GossipStairs", name := "isBetween", desc := "(JJJ)Z" } : Jvm.MethodName) "GossipStairs") ∈ lw_tbl := lw_at lw_m2 55 rfl
theorem q386 : (Jvm.Cond.methodLinkNest "GossipStairs$Diagram" (187 : Nat) ({ cls := "GossipStairs", name := "needReason", desc := "(ZI)V" } : Jvm.MethodName) "GossipStairs") ∈ lw_tbl := lw_at lw_m2 58 rfl
theorem q418 : (Jvm.Cond.methodLink "GossipStairs$Diagram" (190 : Nat) ({ cls := "GossipStairs$Diagram", name := "isThere", desc := "(II)Z" } : Jvm.MethodName)) ∈ lw_all := lw_g (lw_at lw_m2 90 rfl) rfl
theorem q419 : (Jvm.Cond.privateMethod ({ cls := "GossipStairs$Diagram", name := "isThere", desc := "(II)Z" } : Jvm.MethodName)) ∈ lw_tbl := lw_at lw_m2 91 rfl
theorem q420 : (Jvm.Cond.instanceMethod ({ cls := "GossipStairs$Diagram", name := "isThere", desc := "(II)Z" } : Jvm.MethodName)) ∈ lw_all := lw_g (lw_at lw_m2 92 rfl) rfl
theorem q421 : (Jvm.Cond.code ({ cls := "GossipStairs$Diagram", name := "isThere", desc := "(II)Z" } : Jvm.MethodName) prog_2_method_9_code (5 : Nat) (Option.some Jvm.ClassFile.FieldType.boolean)) ∈ lw_all := lw_g (lw_at lw_m2 93 rfl) rfl
theorem q422 : (Jvm.Cond.methodLink "GossipStairs$Diagram" (94 : Nat) ({ cls := "GossipStairs$Diagram", name := "listens", desc := "(III)Z" } : Jvm.MethodName)) ∈ lw_all := lw_g (lw_at lw_m2 94 rfl) rfl
theorem q423 : (Jvm.Cond.instanceMethod ({ cls := "GossipStairs$Diagram", name := "listens", desc := "(III)Z" } : Jvm.MethodName)) ∈ lw_all := lw_g (lw_at lw_m2 95 rfl) rfl
theorem q424 : (Jvm.Cond.selects "GossipStairs$Diagram" ({ cls := "GossipStairs$Diagram", name := "listens", desc := "(III)Z" } : Jvm.MethodName) ({ cls := "GossipStairs$Diagram", name := "listens", desc := "(III)Z" } : Jvm.MethodName)) ∈ lw_all := lw_g (lw_at lw_m2 96 rfl) rfl
theorem q425 : (Jvm.Cond.code ({ cls := "GossipStairs$Diagram", name := "listens", desc := "(III)Z" } : Jvm.MethodName) prog_2_method_7_code (9 : Nat) (Option.some Jvm.ClassFile.FieldType.boolean)) ∈ lw_all := lw_g (lw_at lw_m2 97 rfl) rfl
theorem q426 : (Jvm.Cond.classLink "GossipStairs$Diagram" (70 : Nat) "java/util/ArrayDeque") ∈ lw_all := lw_g (lw_at lw_m2 98 rfl) rfl
theorem q427 : (Jvm.Cond.methodLink "GossipStairs$Diagram" (72 : Nat) ({ cls := "java/util/ArrayDeque", name := "<init>", desc := "()V" } : Jvm.MethodName)) ∈ lw_all := lw_g (lw_at lw_m2 99 rfl) rfl
theorem q428 : (Jvm.Cond.methodLink "GossipStairs$Diagram" (73 : Nat) ({ cls := "java/lang/Integer", name := "valueOf", desc := "(I)Ljava/lang/Integer;" } : Jvm.MethodName)) ∈ lw_all := lw_g (lw_at lw_m2 100 rfl) rfl
theorem q449 : (Jvm.Cond.methodLink "GossipStairs$Diagram" (79 : Nat) ({ cls := "java/util/ArrayDeque", name := "addLast", desc := "(Ljava/lang/Object;)V" } : Jvm.MethodName)) ∈ lw_all := lw_g (lw_at lw_m2 121 rfl) rfl
theorem q494 : (Jvm.Cond.selects "GossipStairs$Diagram" ({ cls := "java/lang/Object", name := "getClass", desc := "()Ljava/lang/Class;" } : Jvm.MethodName) ({ cls := "java/lang/Object", name := "getClass", desc := "()Ljava/lang/Class;" } : Jvm.MethodName)) ∈ lw_all := lw_g (lw_at lw_m2 166 rfl) rfl
theorem q520 : (Jvm.Cond.methodLink "GossipStairs$Diagram" (83 : Nat) ({ cls := "java/util/ArrayDeque", name := "isEmpty", desc := "()Z" } : Jvm.MethodName)) ∈ lw_all := lw_g (lw_at lw_m2 192 rfl) rfl
theorem q524 : (Jvm.Cond.methodLink "GossipStairs$Diagram" (87 : Nat) ({ cls := "java/util/ArrayDeque", name := "removeFirst", desc := "()Ljava/lang/Object;" } : Jvm.MethodName)) ∈ lw_all := lw_g (lw_at lw_m2 196 rfl) rfl
theorem q556 : (Jvm.Cond.classLink "GossipStairs$Diagram" (74 : Nat) "java/lang/Integer") ∈ lw_all := lw_g (lw_at lw_m2 228 rfl) rfl
theorem q557 : (Jvm.Cond.methodLink "GossipStairs$Diagram" (90 : Nat) ({ cls := "java/lang/Integer", name := "intValue", desc := "()I" } : Jvm.MethodName)) ∈ lw_all := lw_g (lw_at lw_m2 229 rfl) rfl
theorem q562 : (Jvm.Cond.instanceMethod ({ cls := "GossipStairs$Diagram", name := "getsChain", desc := "(III)I" } : Jvm.MethodName)) ∈ lw_all := lw_g (lw_at lw_m2 234 rfl) rfl
theorem q563 : (Jvm.Cond.selects "GossipStairs$Diagram" ({ cls := "GossipStairs$Diagram", name := "getsChain", desc := "(III)I" } : Jvm.MethodName) ({ cls := "GossipStairs$Diagram", name := "getsChain", desc := "(III)I" } : Jvm.MethodName)) ∈ lw_all := lw_g (lw_at lw_m2 235 rfl) rfl
theorem q564 : (Jvm.Cond.code ({ cls := "GossipStairs$Diagram", name := "getsChain", desc := "(III)I" } : Jvm.MethodName) prog_2_method_47_code (5 : Nat) (Option.some Jvm.ClassFile.FieldType.int)) ∈ lw_all := lw_g (lw_at lw_m2 236 rfl) rfl
theorem q565 : (Jvm.Cond.methodLink "GossipStairs$Diagram" (207 : Nat) ({ cls := "GossipStairs$Diagram", name := "step", desc := "(III)I" } : Jvm.MethodName)) ∈ lw_all := lw_g (lw_at lw_m2 237 rfl) rfl
theorem q566 : (Jvm.Cond.privateMethod ({ cls := "GossipStairs$Diagram", name := "step", desc := "(III)I" } : Jvm.MethodName)) ∈ lw_tbl := lw_at lw_m2 238 rfl
theorem q567 : (Jvm.Cond.instanceMethod ({ cls := "GossipStairs$Diagram", name := "step", desc := "(III)I" } : Jvm.MethodName)) ∈ lw_all := lw_g (lw_at lw_m2 239 rfl) rfl
theorem q568 : (Jvm.Cond.codeWith ({ cls := "GossipStairs$Diagram", name := "step", desc := "(III)I" } : Jvm.MethodName) prog_2_method_46_code (5 : Nat) (Option.some Jvm.ClassFile.FieldType.int) [((0 : Nat), (6 : Nat), (7 : Nat), (196 : Nat))]) ∈ lw_all := lw_g (lw_at lw_m3 0 rfl) rfl
theorem q569 : (Jvm.Cond.classLink "GossipStairs$Diagram" (196 : Nat) "GossipStairs$Refused") ∈ lw_all := lw_g (lw_at lw_m3 1 rfl) rfl
theorem q570 : (Jvm.Cond.methodLink "GossipStairs$Diagram" (193 : Nat) ({ cls := "GossipStairs$Diagram", name := "getsArrow", desc := "(II)I" } : Jvm.MethodName)) ∈ lw_all := lw_g (lw_at lw_m3 2 rfl) rfl
theorem q571 : (Jvm.Cond.classLink "GossipStairs$Diagram" (201 : Nat) "GossipStairs$Step") ∈ lw_all := lw_g (lw_at lw_m3 3 rfl) rfl
theorem q580 : (Jvm.Cond.methodLink "GossipStairs$Diagram" (203 : Nat) ({ cls := "GossipStairs$Step", name := "<init>", desc := "(ILjava/lang/Exception;)V" } : Jvm.MethodName)) ∈ lw_all := lw_g (lw_at lw_m3 12 rfl) rfl
theorem q591 : (Jvm.Cond.methodLink "GossipStairs$Diagram" (206 : Nat) ({ cls := "GossipStairs$Refused", name := "<init>", desc := "(ILjava/lang/Exception;)V" } : Jvm.MethodName)) ∈ lw_all := lw_g (lw_at lw_m3 23 rfl) rfl
theorem q593 : (Jvm.Cond.instanceMethod ({ cls := "GossipStairs$Diagram", name := "losesArrow", desc := "(I)I" } : Jvm.MethodName)) ∈ lw_all := lw_g (lw_at lw_m3 25 rfl) rfl
theorem q594 : (Jvm.Cond.selects "GossipStairs$Diagram" ({ cls := "GossipStairs$Diagram", name := "losesArrow", desc := "(I)I" } : Jvm.MethodName) ({ cls := "GossipStairs$Diagram", name := "losesArrow", desc := "(I)I" } : Jvm.MethodName)) ∈ lw_all := lw_g (lw_at lw_m3 26 rfl) rfl
theorem q595 : (Jvm.Cond.code ({ cls := "GossipStairs$Diagram", name := "losesArrow", desc := "(I)I" } : Jvm.MethodName) prog_2_method_48_code (3 : Nat) (Option.some Jvm.ClassFile.FieldType.int)) ∈ lw_all := lw_g (lw_at lw_m3 27 rfl) rfl
theorem q596 : (Jvm.Cond.methodLink "GossipStairs$Diagram" (211 : Nat) ({ cls := "GossipStairs$Diagram", name := "isArrow", desc := "(I)Z" } : Jvm.MethodName)) ∈ lw_all := lw_g (lw_at lw_m3 28 rfl) rfl
theorem q597 : (Jvm.Cond.instanceMethod ({ cls := "GossipStairs$Diagram", name := "isArrow", desc := "(I)Z" } : Jvm.MethodName)) ∈ lw_all := lw_g (lw_at lw_m3 29 rfl) rfl
theorem q598 : (Jvm.Cond.selects "GossipStairs$Diagram" ({ cls := "GossipStairs$Diagram", name := "isArrow", desc := "(I)Z" } : Jvm.MethodName) ({ cls := "GossipStairs$Diagram", name := "isArrow", desc := "(I)Z" } : Jvm.MethodName)) ∈ lw_all := lw_g (lw_at lw_m3 30 rfl) rfl
theorem q599 : (Jvm.Cond.code ({ cls := "GossipStairs$Diagram", name := "isArrow", desc := "(I)Z" } : Jvm.MethodName) prog_2_method_4_code (2 : Nat) (Option.some Jvm.ClassFile.FieldType.boolean)) ∈ lw_all := lw_g (lw_at lw_m3 31 rfl) rfl
theorem q601 : (Jvm.Cond.instanceMethod ({ cls := "GossipStairs$Diagram", name := "holds", desc := "(II)I" } : Jvm.MethodName)) ∈ lw_all := lw_g (lw_at lw_m3 33 rfl) rfl
theorem q602 : (Jvm.Cond.selects "GossipStairs$Diagram" ({ cls := "GossipStairs$Diagram", name := "holds", desc := "(II)I" } : Jvm.MethodName) ({ cls := "GossipStairs$Diagram", name := "holds", desc := "(II)I" } : Jvm.MethodName)) ∈ lw_all := lw_g (lw_at lw_m3 34 rfl) rfl
theorem q603 : (Jvm.Cond.code ({ cls := "GossipStairs$Diagram", name := "holds", desc := "(II)I" } : Jvm.MethodName) prog_2_method_51_code (4 : Nat) (Option.some Jvm.ClassFile.FieldType.int)) ∈ lw_all := lw_g (lw_at lw_m3 35 rfl) rfl
theorem q604 : (Jvm.Cond.constantLong "GossipStairs$Diagram" (217 : Nat) (9 : Int64)) ∈ lw_all := lw_g (lw_at lw_m3 36 rfl) rfl
theorem q606 : (Jvm.Cond.instanceMethod ({ cls := "GossipStairs$Diagram", name := "prunes", desc := "()I" } : Jvm.MethodName)) ∈ lw_all := lw_g (lw_at lw_m3 38 rfl) rfl
theorem q607 : (Jvm.Cond.selects "GossipStairs$Diagram" ({ cls := "GossipStairs$Diagram", name := "prunes", desc := "()I" } : Jvm.MethodName) ({ cls := "GossipStairs$Diagram", name := "prunes", desc := "()I" } : Jvm.MethodName)) ∈ lw_all := lw_g (lw_at lw_m3 39 rfl) rfl
theorem q608 : (Jvm.Cond.code ({ cls := "GossipStairs$Diagram", name := "prunes", desc := "()I" } : Jvm.MethodName) prog_2_method_49_code (4 : Nat) (Option.some Jvm.ClassFile.FieldType.int)) ∈ lw_all := lw_g (lw_at lw_m3 40 rfl) rfl
theorem q609 : (Jvm.Cond.methodLink "GossipStairs$Diagram" (214 : Nat) ({ cls := "GossipStairs$Diagram", name := "losesArrow", desc := "(I)I" } : Jvm.MethodName)) ∈ lw_all := lw_g (lw_at lw_m3 41 rfl) rfl
theorem q611 : (Jvm.Cond.instanceMethod ({ cls := "GossipStairs$Diagram", name := "turnsRound", desc := "()I" } : Jvm.MethodName)) ∈ lw_all := lw_g (lw_at lw_m3 43 rfl) rfl
theorem q612 : (Jvm.Cond.selects "GossipStairs$Diagram" ({ cls := "GossipStairs$Diagram", name := "turnsRound", desc := "()I" } : Jvm.MethodName) ({ cls := "GossipStairs$Diagram", name := "turnsRound", desc := "()I" } : Jvm.MethodName)) ∈ lw_all := lw_g (lw_at lw_m3 44 rfl) rfl
theorem q613 : (Jvm.Cond.code ({ cls := "GossipStairs$Diagram", name := "turnsRound", desc := "()I" } : Jvm.MethodName) prog_2_method_50_code (3 : Nat) (Option.some Jvm.ClassFile.FieldType.int)) ∈ lw_all := lw_g (lw_at lw_m3 45 rfl) rfl
theorem q615 : (Jvm.Cond.instanceMethod ({ cls := "GossipStairs$Diagram", name := "goes", desc := "(Z)I" } : Jvm.MethodName)) ∈ lw_all := lw_g (lw_at lw_m3 47 rfl) rfl
theorem q616 : (Jvm.Cond.selects "GossipStairs$Diagram" ({ cls := "GossipStairs$Diagram", name := "goes", desc := "(Z)I" } : Jvm.MethodName) ({ cls := "GossipStairs$Diagram", name := "goes", desc := "(Z)I" } : Jvm.MethodName)) ∈ lw_all := lw_g (lw_at lw_m3 48 rfl) rfl
theorem q617 : (Jvm.Cond.code ({ cls := "GossipStairs$Diagram", name := "goes", desc := "(Z)I" } : Jvm.MethodName) prog_2_method_52_code (2 : Nat) (Option.some Jvm.ClassFile.FieldType.int)) ∈ lw_all := lw_g (lw_at lw_m3 49 rfl) rfl
theorem q618 : (Jvm.Cond.methodLink "GossipStairs$Diagram" (219 : Nat) ({ cls := "GossipStairs$Diagram", name := "brushes", desc := "(Z)V" } : Jvm.MethodName)) ∈ lw_all := lw_g (lw_at lw_m3 50 rfl) rfl
theorem q619 : (Jvm.Cond.instanceMethod ({ cls := "GossipStairs$Diagram", name := "brushes", desc := "(Z)V" } : Jvm.MethodName)) ∈ lw_all := lw_g (lw_at lw_m3 51 rfl) rfl
theorem q620 : (Jvm.Cond.selects "GossipStairs$Diagram" ({ cls := "GossipStairs$Diagram", name := "brushes", desc := "(Z)V" } : Jvm.MethodName) ({ cls := "GossipStairs$Diagram", name := "brushes", desc := "(Z)V" } : Jvm.MethodName)) ∈ lw_all := lw_g (lw_at lw_m3 52 rfl) rfl
theorem q621 : (Jvm.Cond.code ({ cls := "GossipStairs$Diagram", name := "brushes", desc := "(Z)V" } : Jvm.MethodName) prog_2_method_34_code (3 : Nat) (Option.none : Option Jvm.ClassFile.FieldType)) ∈ lw_all := lw_g (lw_at lw_m3 53 rfl) rfl
theorem q622 : (Jvm.Cond.methodLink "GossipStairs$Diagram" (155 : Nat) ({ cls := "GossipStairs$Diagram", name := "orders", desc := "(IZ)V" } : Jvm.MethodName)) ∈ lw_all := lw_g (lw_at lw_m3 54 rfl) rfl
theorem q623 : (Jvm.Cond.privateMethod ({ cls := "GossipStairs$Diagram", name := "orders", desc := "(IZ)V" } : Jvm.MethodName)) ∈ lw_tbl := lw_at lw_m3 55 rfl
theorem q624 : (Jvm.Cond.instanceMethod ({ cls := "GossipStairs$Diagram", name := "orders", desc := "(IZ)V" } : Jvm.MethodName)) ∈ lw_all := lw_g (lw_at lw_m3 56 rfl) rfl
theorem q625 : (Jvm.Cond.code ({ cls := "GossipStairs$Diagram", name := "orders", desc := "(IZ)V" } : Jvm.MethodName) prog_2_method_33_code (6 : Nat) (Option.none : Option Jvm.ClassFile.FieldType)) ∈ lw_all := lw_g (lw_at lw_m3 57 rfl) rfl
theorem q626 : (Jvm.Cond.methodLink "GossipStairs$Diagram" (151 : Nat) ({ cls := "GossipStairs$Diagram", name := "median", desc := "(IIZ)I" } : Jvm.MethodName)) ∈ lw_all := lw_g (lw_at lw_m3 58 rfl) rfl
theorem q627 : (Jvm.Cond.instanceMethod ({ cls := "GossipStairs$Diagram", name := "median", desc := "(IIZ)I" } : Jvm.MethodName)) ∈ lw_all := lw_g (lw_at lw_m3 59 rfl) rfl
theorem q628 : (Jvm.Cond.selects "GossipStairs$Diagram" ({ cls := "GossipStairs$Diagram", name := "median", desc := "(IIZ)I" } : Jvm.MethodName) ({ cls := "GossipStairs$Diagram", name := "median", desc := "(IIZ)I" } : Jvm.MethodName)) ∈ lw_all := lw_g (lw_at lw_m3 60 rfl) rfl
theorem q629 : (Jvm.Cond.code ({ cls := "GossipStairs$Diagram", name := "median", desc := "(IIZ)I" } : Jvm.MethodName) prog_2_method_32_code (4 : Nat) (Option.some Jvm.ClassFile.FieldType.int)) ∈ lw_all := lw_g (lw_at lw_m3 61 rfl) rfl
theorem q630 : (Jvm.Cond.methodLink "GossipStairs$Diagram" (144 : Nat) ({ cls := "GossipStairs$Diagram", name := "neighbours", desc := "(IIZ[I)I" } : Jvm.MethodName)) ∈ lw_all := lw_g (lw_at lw_m3 62 rfl) rfl
theorem q631 : (Jvm.Cond.privateMethod ({ cls := "GossipStairs$Diagram", name := "neighbours", desc := "(IIZ[I)I" } : Jvm.MethodName)) ∈ lw_tbl := lw_at lw_m3 63 rfl
theorem q632 : (Jvm.Cond.instanceMethod ({ cls := "GossipStairs$Diagram", name := "neighbours", desc := "(IIZ[I)I" } : Jvm.MethodName)) ∈ lw_all := lw_g (lw_at lw_m3 64 rfl) rfl
theorem q633 : (Jvm.Cond.code ({ cls := "GossipStairs$Diagram", name := "neighbours", desc := "(IIZ[I)I" } : Jvm.MethodName) prog_2_method_30_code (12 : Nat) (Option.some Jvm.ClassFile.FieldType.int)) ∈ lw_all := lw_g (lw_at lw_m3 65 rfl) rfl
theorem q634 : (Jvm.Cond.methodLink "GossipStairs$Diagram" (124 : Nat) ({ cls := "GossipStairs$Diagram", name := "hasLine", desc := "(II)Z" } : Jvm.MethodName)) ∈ lw_all := lw_g (lw_at lw_m3 66 rfl) rfl
theorem q635 : (Jvm.Cond.privateMethod ({ cls := "GossipStairs$Diagram", name := "hasLine", desc := "(II)Z" } : Jvm.MethodName)) ∈ lw_tbl := lw_at lw_m3 67 rfl
theorem q636 : (Jvm.Cond.instanceMethod ({ cls := "GossipStairs$Diagram", name := "hasLine", desc := "(II)Z" } : Jvm.MethodName)) ∈ lw_all := lw_g (lw_at lw_m3 68 rfl) rfl
theorem q637 : (Jvm.Cond.code ({ cls := "GossipStairs$Diagram", name := "hasLine", desc := "(II)Z" } : Jvm.MethodName) prog_2_method_20_code (3 : Nat) (Option.some Jvm.ClassFile.FieldType.boolean)) ∈ lw_all := lw_g (lw_at lw_m3 69 rfl) rfl
theorem q638 : (Jvm.Cond.methodLink "GossipStairs$Diagram" (128 : Nat) ({ cls := "GossipStairs$Diagram", name := "endOf", desc := "(II)I" } : Jvm.MethodName)) ∈ lw_all := lw_g (lw_at lw_m3 70 rfl) rfl
theorem q639 : (Jvm.Cond.privateMethod ({ cls := "GossipStairs$Diagram", name := "endOf", desc := "(II)I" } : Jvm.MethodName)) ∈ lw_tbl := lw_at lw_m3 71 rfl
theorem q640 : (Jvm.Cond.instanceMethod ({ cls := "GossipStairs$Diagram", name := "endOf", desc := "(II)I" } : Jvm.MethodName)) ∈ lw_all := lw_g (lw_at lw_m3 72 rfl) rfl
theorem q641 : (Jvm.Cond.code ({ cls := "GossipStairs$Diagram", name := "endOf", desc := "(II)I" } : Jvm.MethodName) prog_2_method_22_code (3 : Nat) (Option.some Jvm.ClassFile.FieldType.int)) ∈ lw_all := lw_g (lw_at lw_m3 73 rfl) rfl
theorem q642 : (Jvm.Cond.methodLink "GossipStairs$Diagram" (118 : Nat) ({ cls := "GossipStairs$Diagram", name := "pointOf", desc := "(II)I" } : Jvm.MethodName)) ∈ lw_all := lw_g (lw_at lw_m3 74 rfl) rfl
theorem q643 : (Jvm.Cond.privateMethod ({ cls := "GossipStairs$Diagram", name := "pointOf", desc := "(II)I" } : Jvm.MethodName)) ∈ lw_tbl := lw_at lw_m3 75 rfl
theorem q644 : (Jvm.Cond.instanceMethod ({ cls := "GossipStairs$Diagram", name := "pointOf", desc := "(II)I" } : Jvm.MethodName)) ∈ lw_all := lw_g (lw_at lw_m3 76 rfl) rfl
theorem q645 : (Jvm.Cond.code ({ cls := "GossipStairs$Diagram", name := "pointOf", desc := "(II)I" } : Jvm.MethodName) prog_2_method_21_code (3 : Nat) (Option.some Jvm.ClassFile.FieldType.int)) ∈ lw_all := lw_g (lw_at lw_m3 77 rfl) rfl
theorem q646 : (Jvm.Cond.methodLink "GossipStairs$Diagram" (121 : Nat) ({ cls := "GossipStairs$Diagram", name := "place", desc := "(II)I" } : Jvm.MethodName)) ∈ lw_all := lw_g (lw_at lw_m3 78 rfl) rfl
theorem q647 : (Jvm.Cond.instanceMethod ({ cls := "GossipStairs$Diagram", name := "place", desc := "(II)I" } : Jvm.MethodName)) ∈ lw_all := lw_g (lw_at lw_m3 79 rfl) rfl
theorem q648 : (Jvm.Cond.selects "GossipStairs$Diagram" ({ cls := "GossipStairs$Diagram", name := "place", desc := "(II)I" } : Jvm.MethodName) ({ cls := "GossipStairs$Diagram", name := "place", desc := "(II)I" } : Jvm.MethodName)) ∈ lw_all := lw_g (lw_at lw_m3 80 rfl) rfl
theorem q649 : (Jvm.Cond.code ({ cls := "GossipStairs$Diagram", name := "place", desc := "(II)I" } : Jvm.MethodName) prog_2_method_19_code (4 : Nat) (Option.some Jvm.ClassFile.FieldType.int)) ∈ lw_all := lw_g (lw_at lw_m3 81 rfl) rfl
theorem q650 : (Jvm.Cond.methodLink "GossipStairs$Diagram" (115 : Nat) ({ cls := "GossipStairs$Diagram", name := "point", desc := "(II)I" } : Jvm.MethodName)) ∈ lw_all := lw_g (lw_at lw_m3 82 rfl) rfl
theorem q651 : (Jvm.Cond.instanceMethod ({ cls := "GossipStairs$Diagram", name := "point", desc := "(II)I" } : Jvm.MethodName)) ∈ lw_all := lw_g (lw_at lw_m3 83 rfl) rfl
theorem q652 : (Jvm.Cond.selects "GossipStairs$Diagram" ({ cls := "GossipStairs$Diagram", name := "point", desc := "(II)I" } : Jvm.MethodName) ({ cls := "GossipStairs$Diagram", name := "point", desc := "(II)I" } : Jvm.MethodName)) ∈ lw_all := lw_g (lw_at lw_m3 84 rfl) rfl
theorem q653 : (Jvm.Cond.code ({ cls := "GossipStairs$Diagram", name := "point", desc := "(II)I" } : Jvm.MethodName) prog_2_method_6_code (3 : Nat) (Option.some Jvm.ClassFile.FieldType.int)) ∈ lw_all := lw_g (lw_at lw_m3 85 rfl) rfl
theorem q654 : (Jvm.Cond.methodLink "GossipStairs$Diagram" (148 : Nat) ({ cls := "GossipStairs$Diagram", name := "middle", desc := "(II)I" } : Jvm.MethodName)) ∈ lw_all := lw_g (lw_at lw_m3 86 rfl) rfl
theorem q655 : (Jvm.Cond.privateMethod ({ cls := "GossipStairs$Diagram", name := "middle", desc := "(II)I" } : Jvm.MethodName)) ∈ lw_tbl := lw_at lw_m3 87 rfl
theorem q656 : (Jvm.Cond.instanceMethod ({ cls := "GossipStairs$Diagram", name := "middle", desc := "(II)I" } : Jvm.MethodName)) ∈ lw_all := lw_g (lw_at lw_m3 88 rfl) rfl
theorem q657 : (Jvm.Cond.code ({ cls := "GossipStairs$Diagram", name := "middle", desc := "(II)I" } : Jvm.MethodName) prog_2_method_31_code (4 : Nat) (Option.some Jvm.ClassFile.FieldType.int)) ∈ lw_all := lw_g (lw_at lw_m3 89 rfl) rfl
theorem q658 : (Jvm.Cond.methodLink "GossipStairs$Diagram" (223 : Nat) ({ cls := "GossipStairs$Diagram", name := "allCrossings", desc := "()I" } : Jvm.MethodName)) ∈ lw_all := lw_g (lw_at lw_m3 90 rfl) rfl
theorem q659 : (Jvm.Cond.instanceMethod ({ cls := "GossipStairs$Diagram", name := "allCrossings", desc := "()I" } : Jvm.MethodName)) ∈ lw_all := lw_g (lw_at lw_m3 91 rfl) rfl
theorem q660 : (Jvm.Cond.selects "GossipStairs$Diagram" ({ cls := "GossipStairs$Diagram", name := "allCrossings", desc := "()I" } : Jvm.MethodName) ({ cls := "GossipStairs$Diagram", name := "allCrossings", desc := "()I" } : Jvm.MethodName)) ∈ lw_all := lw_g (lw_at lw_m3 92 rfl) rfl
theorem q661 : (Jvm.Cond.code ({ cls := "GossipStairs$Diagram", name := "allCrossings", desc := "()I" } : Jvm.MethodName) prog_2_method_26_code (3 : Nat) (Option.some Jvm.ClassFile.FieldType.int)) ∈ lw_all := lw_g (lw_at lw_m3 93 rfl) rfl
theorem q662 : (Jvm.Cond.methodLink "GossipStairs$Diagram" (138 : Nat) ({ cls := "GossipStairs$Diagram", name := "crossingsAt", desc := "(I)I" } : Jvm.MethodName)) ∈ lw_all := lw_g (lw_at lw_m3 94 rfl) rfl
theorem q663 : (Jvm.Cond.instanceMethod ({ cls := "GossipStairs$Diagram", name := "crossingsAt", desc := "(I)I" } : Jvm.MethodName)) ∈ lw_all := lw_g (lw_at lw_m3 95 rfl) rfl
theorem q664 : (Jvm.Cond.selects "GossipStairs$Diagram" ({ cls := "GossipStairs$Diagram", name := "crossingsAt", desc := "(I)I" } : Jvm.MethodName) ({ cls := "GossipStairs$Diagram", name := "crossingsAt", desc := "(I)I" } : Jvm.MethodName)) ∈ lw_all := lw_g (lw_at lw_m3 96 rfl) rfl
theorem q665 : (Jvm.Cond.code ({ cls := "GossipStairs$Diagram", name := "crossingsAt", desc := "(I)I" } : Jvm.MethodName) prog_2_method_25_code (5 : Nat) (Option.some Jvm.ClassFile.FieldType.int)) ∈ lw_all := lw_g (lw_at lw_m3 97 rfl) rfl
theorem q666 : (Jvm.Cond.methodLink "GossipStairs$Diagram" (131 : Nat) ({ cls := "GossipStairs$Diagram", name := "ends", desc := "(I)V" } : Jvm.MethodName)) ∈ lw_all := lw_g (lw_at lw_m3 98 rfl) rfl
theorem q667 : (Jvm.Cond.privateMethod ({ cls := "GossipStairs$Diagram", name := "ends", desc := "(I)V" } : Jvm.MethodName)) ∈ lw_tbl := lw_at lw_m3 99 rfl
theorem q668 : (Jvm.Cond.instanceMethod ({ cls := "GossipStairs$Diagram", name := "ends", desc := "(I)V" } : Jvm.MethodName)) ∈ lw_all := lw_g (lw_at lw_m3 100 rfl) rfl
theorem q669 : (Jvm.Cond.code ({ cls := "GossipStairs$Diagram", name := "ends", desc := "(I)V" } : Jvm.MethodName) prog_2_method_23_code (4 : Nat) (Option.none : Option Jvm.ClassFile.FieldType)) ∈ lw_all := lw_g (lw_at lw_m3 101 rfl) rfl
theorem q670 : (Jvm.Cond.methodLink "GossipStairs$Diagram" (135 : Nat) ({ cls := "GossipStairs$Diagram", name := "doCross", desc := "(II)Z" } : Jvm.MethodName)) ∈ lw_all := lw_g (lw_at lw_m3 102 rfl) rfl
theorem q671 : (Jvm.Cond.privateMethod ({ cls := "GossipStairs$Diagram", name := "doCross", desc := "(II)Z" } : Jvm.MethodName)) ∈ lw_tbl := lw_at lw_m3 103 rfl
theorem q672 : (Jvm.Cond.instanceMethod ({ cls := "GossipStairs$Diagram", name := "doCross", desc := "(II)Z" } : Jvm.MethodName)) ∈ lw_all := lw_g (lw_at lw_m3 104 rfl) rfl
theorem q673 : (Jvm.Cond.code ({ cls := "GossipStairs$Diagram", name := "doCross", desc := "(II)Z" } : Jvm.MethodName) prog_2_method_24_code (4 : Nat) (Option.some Jvm.ClassFile.FieldType.boolean)) ∈ lw_all := lw_g (lw_at lw_m3 105 rfl) rfl
theorem q675 : (Jvm.Cond.instanceMethod ({ cls := "GossipStairs$Diagram", name := "untangles", desc := "()I" } : Jvm.MethodName)) ∈ lw_all := lw_g (lw_at lw_m3 107 rfl) rfl
theorem q676 : (Jvm.Cond.selects "GossipStairs$Diagram" ({ cls := "GossipStairs$Diagram", name := "untangles", desc := "()I" } : Jvm.MethodName) ({ cls := "GossipStairs$Diagram", name := "untangles", desc := "()I" } : Jvm.MethodName)) ∈ lw_all := lw_g (lw_at lw_m3 108 rfl) rfl
theorem q677 : (Jvm.Cond.code ({ cls := "GossipStairs$Diagram", name := "untangles", desc := "()I" } : Jvm.MethodName) prog_2_method_37_code (6 : Nat) (Option.some Jvm.ClassFile.FieldType.int)) ∈ lw_all := lw_g (lw_at lw_m3 109 rfl) rfl
theorem q678 : (Jvm.Cond.methodLink "GossipStairs$Diagram" (159 : Nat) ({ cls := "GossipStairs$Diagram", name := "around", desc := "(I)I" } : Jvm.MethodName)) ∈ lw_all := lw_g (lw_at lw_m3 110 rfl) rfl
theorem q679 : (Jvm.Cond.privateMethod ({ cls := "GossipStairs$Diagram", name := "around", desc := "(I)I" } : Jvm.MethodName)) ∈ lw_tbl := lw_at lw_m3 111 rfl
theorem q680 : (Jvm.Cond.instanceMethod ({ cls := "GossipStairs$Diagram", name := "around", desc := "(I)I" } : Jvm.MethodName)) ∈ lw_all := lw_g (lw_at lw_m3 112 rfl) rfl
theorem q681 : (Jvm.Cond.code ({ cls := "GossipStairs$Diagram", name := "around", desc := "(I)I" } : Jvm.MethodName) prog_2_method_36_code (2 : Nat) (Option.some Jvm.ClassFile.FieldType.int)) ∈ lw_all := lw_g (lw_at lw_m3 113 rfl) rfl
theorem q682 : (Jvm.Cond.methodLink "GossipStairs$Diagram" (162 : Nat) ({ cls := "GossipStairs$Diagram", name := "swaps", desc := "(III)V" } : Jvm.MethodName)) ∈ lw_all := lw_g (lw_at lw_m3 114 rfl) rfl
theorem q683 : (Jvm.Cond.privateMethod ({ cls := "GossipStairs$Diagram", name := "swaps", desc := "(III)V" } : Jvm.MethodName)) ∈ lw_tbl := lw_at lw_m3 115 rfl
theorem q684 : (Jvm.Cond.instanceMethod ({ cls := "GossipStairs$Diagram", name := "swaps", desc := "(III)V" } : Jvm.MethodName)) ∈ lw_all := lw_g (lw_at lw_m3 116 rfl) rfl
theorem q685 : (Jvm.Cond.code ({ cls := "GossipStairs$Diagram", name := "swaps", desc := "(III)V" } : Jvm.MethodName) prog_2_method_35_code (5 : Nat) (Option.none : Option Jvm.ClassFile.FieldType)) ∈ lw_all := lw_g (lw_at lw_m3 117 rfl) rfl
theorem q687 : (Jvm.Cond.instanceMethod ({ cls := "GossipStairs$Diagram", name := "swapsAt", desc := "(III)I" } : Jvm.MethodName)) ∈ lw_all := lw_g (lw_at lw_m3 119 rfl) rfl
theorem q688 : (Jvm.Cond.selects "GossipStairs$Diagram" ({ cls := "GossipStairs$Diagram", name := "swapsAt", desc := "(III)I" } : Jvm.MethodName) ({ cls := "GossipStairs$Diagram", name := "swapsAt", desc := "(III)I" } : Jvm.MethodName)) ∈ lw_all := lw_g (lw_at lw_m3 120 rfl) rfl
theorem q689 : (Jvm.Cond.code ({ cls := "GossipStairs$Diagram", name := "swapsAt", desc := "(III)I" } : Jvm.MethodName) prog_2_method_53_code (4 : Nat) (Option.some Jvm.ClassFile.FieldType.int)) ∈ lw_all := lw_g (lw_at lw_m3 121 rfl) rfl
theorem q690 : (Jvm.Cond.methodLink "GossipStairs$Diagram" (226 : Nat) ({ cls := "GossipStairs$Diagram", name := "isLayer", desc := "(I)Z" } : Jvm.MethodName)) ∈ lw_all := lw_g (lw_at lw_m3 122 rfl) rfl
theorem q691 : (Jvm.Cond.instanceMethod ({ cls := "GossipStairs$Diagram", name := "isLayer", desc := "(I)Z" } : Jvm.MethodName)) ∈ lw_all := lw_g (lw_at lw_m3 123 rfl) rfl
theorem q692 : (Jvm.Cond.selects "GossipStairs$Diagram" ({ cls := "GossipStairs$Diagram", name := "isLayer", desc := "(I)Z" } : Jvm.MethodName) ({ cls := "GossipStairs$Diagram", name := "isLayer", desc := "(I)Z" } : Jvm.MethodName)) ∈ lw_all := lw_g (lw_at lw_m3 124 rfl) rfl
theorem q693 : (Jvm.Cond.code ({ cls := "GossipStairs$Diagram", name := "isLayer", desc := "(I)Z" } : Jvm.MethodName) prog_2_method_5_code (2 : Nat) (Option.some Jvm.ClassFile.FieldType.boolean)) ∈ lw_all := lw_g (lw_at lw_m3 125 rfl) rfl
theorem q695 : (Jvm.Cond.instanceMethod ({ cls := "GossipStairs$Diagram", name := "settles", desc := "()I" } : Jvm.MethodName)) ∈ lw_all := lw_g (lw_at lw_m3 127 rfl) rfl
theorem q696 : (Jvm.Cond.selects "GossipStairs$Diagram" ({ cls := "GossipStairs$Diagram", name := "settles", desc := "()I" } : Jvm.MethodName) ({ cls := "GossipStairs$Diagram", name := "settles", desc := "()I" } : Jvm.MethodName)) ∈ lw_all := lw_g (lw_at lw_m3 128 rfl) rfl
theorem q697 : (Jvm.Cond.code ({ cls := "GossipStairs$Diagram", name := "settles", desc := "()I" } : Jvm.MethodName) prog_2_method_54_code (6 : Nat) (Option.some Jvm.ClassFile.FieldType.int)) ∈ lw_all := lw_g (lw_at lw_m3 129 rfl) rfl
theorem q698 : (Jvm.Cond.classLink "GossipStairs$Diagram" (10 : Nat) "GossipStairs$Diagram") ∈ lw_all := lw_g (lw_at lw_m3 130 rfl) rfl
theorem q699 : (Jvm.Cond.methodLink "GossipStairs$Diagram" (229 : Nat) ({ cls := "GossipStairs$Diagram", name := "<init>", desc := "(LGossipStairs$Diagram;)V" } : Jvm.MethodName)) ∈ lw_all := lw_g (lw_at lw_m3 131 rfl) rfl
theorem q700 : (Jvm.Cond.methodLink "GossipStairs$Diagram" (232 : Nat) ({ cls := "GossipStairs$Diagram", name := "untangles", desc := "()I" } : Jvm.MethodName)) ∈ lw_all := lw_g (lw_at lw_m3 132 rfl) rfl
theorem q701 : (Jvm.Cond.methodLink "GossipStairs$Diagram" (235 : Nat) ({ cls := "java/lang/Math", name := "min", desc := "(II)I" } : Jvm.MethodName)) ∈ lw_all := lw_g (lw_at lw_m3 133 rfl) rfl
theorem q773 : (Jvm.Cond.instanceMethod ({ cls := "GossipStairs$Diagram", name := "needlessOnes", desc := "()I" } : Jvm.MethodName)) ∈ lw_all := lw_g (lw_at lw_m3 205 rfl) rfl
theorem q774 : (Jvm.Cond.selects "GossipStairs$Diagram" ({ cls := "GossipStairs$Diagram", name := "needlessOnes", desc := "()I" } : Jvm.MethodName) ({ cls := "GossipStairs$Diagram", name := "needlessOnes", desc := "()I" } : Jvm.MethodName)) ∈ lw_all := lw_g (lw_at lw_m3 206 rfl) rfl
theorem q775 : (Jvm.Cond.code ({ cls := "GossipStairs$Diagram", name := "needlessOnes", desc := "()I" } : Jvm.MethodName) prog_2_method_10_code (3 : Nat) (Option.some Jvm.ClassFile.FieldType.int)) ∈ lw_all := lw_g (lw_at lw_m3 207 rfl) rfl
theorem q781 : (Jvm.Cond.instanceMethod ({ cls := "GossipStairs$Diagram", name := "endBoxes", desc := "(Z)I" } : Jvm.MethodName)) ∈ lw_all := lw_g (lw_at lw_m3 213 rfl) rfl
theorem q782 : (Jvm.Cond.selects "GossipStairs$Diagram" ({ cls := "GossipStairs$Diagram", name := "endBoxes", desc := "(Z)I" } : Jvm.MethodName) ({ cls := "GossipStairs$Diagram", name := "endBoxes", desc := "(Z)I" } : Jvm.MethodName)) ∈ lw_all := lw_g (lw_at lw_m3 214 rfl) rfl
theorem q783 : (Jvm.Cond.code ({ cls := "GossipStairs$Diagram", name := "endBoxes", desc := "(Z)I" } : Jvm.MethodName) prog_2_method_14_code (4 : Nat) (Option.some Jvm.ClassFile.FieldType.int)) ∈ lw_all := lw_g (lw_at lw_m3 215 rfl) rfl
theorem q797 : (Jvm.Cond.instanceMethod ({ cls := "GossipStairs$Diagram", name := "pointCount", desc := "()I" } : Jvm.MethodName)) ∈ lw_all := lw_g (lw_at lw_m3 229 rfl) rfl
theorem q798 : (Jvm.Cond.selects "GossipStairs$Diagram" ({ cls := "GossipStairs$Diagram", name := "pointCount", desc := "()I" } : Jvm.MethodName) ({ cls := "GossipStairs$Diagram", name := "pointCount", desc := "()I" } : Jvm.MethodName)) ∈ lw_all := lw_g (lw_at lw_m3 230 rfl) rfl
theorem q799 : (Jvm.Cond.code ({ cls := "GossipStairs$Diagram", name := "pointCount", desc := "()I" } : Jvm.MethodName) prog_2_method_18_code (3 : Nat) (Option.some Jvm.ClassFile.FieldType.int)) ∈ lw_all := lw_g (lw_at lw_m3 231 rfl) rfl
theorem q810 : (Jvm.Cond.instanceMethod ({ cls := "GossipStairs$Diagram", name := "putIn", desc := "(I)I" } : Jvm.MethodName)) ∈ lw_all := lw_g (lw_at lw_m4 2 rfl) rfl
theorem q811 : (Jvm.Cond.selects "GossipStairs$Diagram" ({ cls := "GossipStairs$Diagram", name := "putIn", desc := "(I)I" } : Jvm.MethodName) ({ cls := "GossipStairs$Diagram", name := "putIn", desc := "(I)I" } : Jvm.MethodName)) ∈ lw_all := lw_g (lw_at lw_m4 3 rfl) rfl
theorem q812 : (Jvm.Cond.code ({ cls := "GossipStairs$Diagram", name := "putIn", desc := "(I)I" } : Jvm.MethodName) prog_2_method_28_code (8 : Nat) (Option.some Jvm.ClassFile.FieldType.int)) ∈ lw_all := lw_g (lw_at lw_m4 4 rfl) rfl
theorem q813 : (Jvm.Cond.methodLink "GossipStairs$Diagram" (141 : Nat) ({ cls := "GossipStairs$Diagram", name := "lines", desc := "(II)I" } : Jvm.MethodName)) ∈ lw_all := lw_g (lw_at lw_m4 5 rfl) rfl
theorem q814 : (Jvm.Cond.privateMethod ({ cls := "GossipStairs$Diagram", name := "lines", desc := "(II)I" } : Jvm.MethodName)) ∈ lw_tbl := lw_at lw_m4 6 rfl
theorem q815 : (Jvm.Cond.instanceMethod ({ cls := "GossipStairs$Diagram", name := "lines", desc := "(II)I" } : Jvm.MethodName)) ∈ lw_all := lw_g (lw_at lw_m4 7 rfl) rfl
theorem q816 : (Jvm.Cond.code ({ cls := "GossipStairs$Diagram", name := "lines", desc := "(II)I" } : Jvm.MethodName) prog_2_method_29_code (5 : Nat) (Option.some Jvm.ClassFile.FieldType.int)) ∈ lw_all := lw_g (lw_at lw_m4 8 rfl) rfl
theorem q830 : (Jvm.Cond.instanceMethod ({ cls := "GossipStairs$Diagram", name := "columns", desc := "()[I" } : Jvm.MethodName)) ∈ lw_all := lw_g (lw_at lw_m4 22 rfl) rfl
theorem q831 : (Jvm.Cond.selects "GossipStairs$Diagram" ({ cls := "GossipStairs$Diagram", name := "columns", desc := "()[I" } : Jvm.MethodName) ({ cls := "GossipStairs$Diagram", name := "columns", desc := "()[I" } : Jvm.MethodName)) ∈ lw_all := lw_g (lw_at lw_m4 23 rfl) rfl
theorem q832 : (Jvm.Cond.code ({ cls := "GossipStairs$Diagram", name := "columns", desc := "()[I" } : Jvm.MethodName) prog_2_method_38_code (6 : Nat) (Option.some (Jvm.ClassFile.FieldType.array Jvm.ClassFile.FieldType.int))) ∈ lw_all := lw_g (lw_at lw_m4 24 rfl) rfl
theorem q834 : (Jvm.Cond.instanceMethod ({ cls := "GossipStairs$Diagram", name := "bendsBy", desc := "(I[I)I" } : Jvm.MethodName)) ∈ lw_all := lw_g (lw_at lw_m4 26 rfl) rfl
theorem q835 : (Jvm.Cond.selects "GossipStairs$Diagram" ({ cls := "GossipStairs$Diagram", name := "bendsBy", desc := "(I[I)I" } : Jvm.MethodName) ({ cls := "GossipStairs$Diagram", name := "bendsBy", desc := "(I[I)I" } : Jvm.MethodName)) ∈ lw_all := lw_g (lw_at lw_m4 27 rfl) rfl
theorem q836 : (Jvm.Cond.code ({ cls := "GossipStairs$Diagram", name := "bendsBy", desc := "(I[I)I" } : Jvm.MethodName) prog_2_method_40_code (5 : Nat) (Option.some Jvm.ClassFile.FieldType.int)) ∈ lw_all := lw_g (lw_at lw_m4 28 rfl) rfl
theorem q837 : (Jvm.Cond.methodLink "GossipStairs$Diagram" (166 : Nat) ({ cls := "GossipStairs$Diagram", name := "growth", desc := "(II[I)I" } : Jvm.MethodName)) ∈ lw_all := lw_g (lw_at lw_m4 29 rfl) rfl
theorem q838 : (Jvm.Cond.privateMethod ({ cls := "GossipStairs$Diagram", name := "growth", desc := "(II[I)I" } : Jvm.MethodName)) ∈ lw_tbl := lw_at lw_m4 30 rfl
theorem q839 : (Jvm.Cond.instanceMethod ({ cls := "GossipStairs$Diagram", name := "growth", desc := "(II[I)I" } : Jvm.MethodName)) ∈ lw_all := lw_g (lw_at lw_m4 31 rfl) rfl
theorem q840 : (Jvm.Cond.code ({ cls := "GossipStairs$Diagram", name := "growth", desc := "(II[I)I" } : Jvm.MethodName) prog_2_method_39_code (4 : Nat) (Option.some Jvm.ClassFile.FieldType.int)) ∈ lw_all := lw_g (lw_at lw_m4 32 rfl) rfl
theorem q851 : (Jvm.Cond.instanceMethod ({ cls := "GossipStairs$Diagram", name := "straights", desc := "([I)I" } : Jvm.MethodName)) ∈ lw_all := lw_g (lw_at lw_m4 43 rfl) rfl
theorem q852 : (Jvm.Cond.selects "GossipStairs$Diagram" ({ cls := "GossipStairs$Diagram", name := "straights", desc := "([I)I" } : Jvm.MethodName) ({ cls := "GossipStairs$Diagram", name := "straights", desc := "([I)I" } : Jvm.MethodName)) ∈ lw_all := lw_g (lw_at lw_m4 44 rfl) rfl
theorem q853 : (Jvm.Cond.code ({ cls := "GossipStairs$Diagram", name := "straights", desc := "([I)I" } : Jvm.MethodName) prog_2_method_41_code (5 : Nat) (Option.some Jvm.ClassFile.FieldType.int)) ∈ lw_all := lw_g (lw_at lw_m4 45 rfl) rfl
theorem q859 : (Jvm.Cond.instanceMethod ({ cls := "GossipStairs$Diagram", name := "slants", desc := "([I)I" } : Jvm.MethodName)) ∈ lw_all := lw_g (lw_at lw_m4 51 rfl) rfl
theorem q860 : (Jvm.Cond.selects "GossipStairs$Diagram" ({ cls := "GossipStairs$Diagram", name := "slants", desc := "([I)I" } : Jvm.MethodName) ({ cls := "GossipStairs$Diagram", name := "slants", desc := "([I)I" } : Jvm.MethodName)) ∈ lw_all := lw_g (lw_at lw_m4 52 rfl) rfl
theorem q861 : (Jvm.Cond.code ({ cls := "GossipStairs$Diagram", name := "slants", desc := "([I)I" } : Jvm.MethodName) prog_2_method_42_code (5 : Nat) (Option.some Jvm.ClassFile.FieldType.int)) ∈ lw_all := lw_g (lw_at lw_m4 53 rfl) rfl
theorem q862 : (Jvm.Cond.methodLink "GossipStairs$Diagram" (170 : Nat) ({ cls := "java/lang/Math", name := "abs", desc := "(I)I" } : Jvm.MethodName)) ∈ lw_all := lw_g (lw_at lw_m4 54 rfl) rfl
theorem q1231 : (Jvm.Cond.instanceMethod ({ cls := "GossipStairs$Diagram", name := "heard", desc := "(I)I" } : Jvm.MethodName)) ∈ lw_all := lw_g (lw_at lw_m5 183 rfl) rfl
theorem q1232 : (Jvm.Cond.selects "GossipStairs$Diagram" ({ cls := "GossipStairs$Diagram", name := "heard", desc := "(I)I" } : Jvm.MethodName) ({ cls := "GossipStairs$Diagram", name := "heard", desc := "(I)I" } : Jvm.MethodName)) ∈ lw_all := lw_g (lw_at lw_m5 184 rfl) rfl
theorem q1233 : (Jvm.Cond.code ({ cls := "GossipStairs$Diagram", name := "heard", desc := "(I)I" } : Jvm.MethodName) prog_2_method_8_code (6 : Nat) (Option.some Jvm.ClassFile.FieldType.int)) ∈ lw_all := lw_g (lw_at lw_m5 185 rfl) rfl
theorem q1253 : (Jvm.Cond.instanceMethod ({ cls := "GossipStairs$Diagram", name := "waysByLayers", desc := "(II)I" } : Jvm.MethodName)) ∈ lw_all := lw_g (lw_at lw_m5 205 rfl) rfl
theorem q1254 : (Jvm.Cond.selects "GossipStairs$Diagram" ({ cls := "GossipStairs$Diagram", name := "waysByLayers", desc := "(II)I" } : Jvm.MethodName) ({ cls := "GossipStairs$Diagram", name := "waysByLayers", desc := "(II)I" } : Jvm.MethodName)) ∈ lw_all := lw_g (lw_at lw_m5 206 rfl) rfl
theorem q1255 : (Jvm.Cond.code ({ cls := "GossipStairs$Diagram", name := "waysByLayers", desc := "(II)I" } : Jvm.MethodName) prog_2_method_11_code (6 : Nat) (Option.some Jvm.ClassFile.FieldType.int)) ∈ lw_all := lw_g (lw_at lw_m5 207 rfl) rfl
theorem q1264 : (Jvm.Cond.instanceMethod ({ cls := "GossipStairs$Diagram", name := "waysBack", desc := "(II)I" } : Jvm.MethodName)) ∈ lw_all := lw_g (lw_at lw_m5 216 rfl) rfl
theorem q1265 : (Jvm.Cond.selects "GossipStairs$Diagram" ({ cls := "GossipStairs$Diagram", name := "waysBack", desc := "(II)I" } : Jvm.MethodName) ({ cls := "GossipStairs$Diagram", name := "waysBack", desc := "(II)I" } : Jvm.MethodName)) ∈ lw_all := lw_g (lw_at lw_m5 217 rfl) rfl
theorem q1266 : (Jvm.Cond.code ({ cls := "GossipStairs$Diagram", name := "waysBack", desc := "(II)I" } : Jvm.MethodName) prog_2_method_12_code (5 : Nat) (Option.some Jvm.ClassFile.FieldType.int)) ∈ lw_all := lw_g (lw_at lw_m5 218 rfl) rfl
theorem q1267 : (Jvm.Cond.methodLink "GossipStairs$Diagram" (98 : Nat) ({ cls := "GossipStairs$Diagram", name := "waysBack", desc := "(II)I" } : Jvm.MethodName)) ∈ lw_all := lw_g (lw_at lw_m5 219 rfl) rfl
theorem q1277 : (Jvm.Cond.instanceMethod ({ cls := "GossipStairs$Diagram", name := "arrowsOn", desc := "(IIZ)I" } : Jvm.MethodName)) ∈ lw_all := lw_g (lw_at lw_m5 229 rfl) rfl
theorem q1278 : (Jvm.Cond.selects "GossipStairs$Diagram" ({ cls := "GossipStairs$Diagram", name := "arrowsOn", desc := "(IIZ)I" } : Jvm.MethodName) ({ cls := "GossipStairs$Diagram", name := "arrowsOn", desc := "(IIZ)I" } : Jvm.MethodName)) ∈ lw_all := lw_g (lw_at lw_m5 230 rfl) rfl
theorem q1279 : (Jvm.Cond.code ({ cls := "GossipStairs$Diagram", name := "arrowsOn", desc := "(IIZ)I" } : Jvm.MethodName) prog_2_method_13_code (10 : Nat) (Option.some Jvm.ClassFile.FieldType.int)) ∈ lw_all := lw_g (lw_at lw_m5 231 rfl) rfl
theorem q1314 : (Jvm.Cond.instanceMethod ({ cls := "GossipStairs$Diagram", name := "back", desc := "(I)I" } : Jvm.MethodName)) ∈ lw_all := lw_g (lw_at lw_m6 26 rfl) rfl
theorem q1315 : (Jvm.Cond.selects "GossipStairs$Diagram" ({ cls := "GossipStairs$Diagram", name := "back", desc := "(I)I" } : Jvm.MethodName) ({ cls := "GossipStairs$Diagram", name := "back", desc := "(I)I" } : Jvm.MethodName)) ∈ lw_all := lw_g (lw_at lw_m6 27 rfl) rfl
theorem q1316 : (Jvm.Cond.code ({ cls := "GossipStairs$Diagram", name := "back", desc := "(I)I" } : Jvm.MethodName) prog_2_method_17_code (4 : Nat) (Option.some Jvm.ClassFile.FieldType.int)) ∈ lw_all := lw_g (lw_at lw_m6 28 rfl) rfl
theorem q1317 : (Jvm.Cond.methodLink "GossipStairs$Diagram" (111 : Nat) ({ cls := "GossipStairs$Diagram", name := "back", desc := "(I)I" } : Jvm.MethodName)) ∈ lw_all := lw_g (lw_at lw_m6 29 rfl) rfl
theorem q1402 : (Jvm.Cond.instanceMethod ({ cls := "GossipStairs$Diagram", name := "crossingsBy", desc := "(I)I" } : Jvm.MethodName)) ∈ lw_all := lw_g (lw_at lw_m6 114 rfl) rfl
theorem q1403 : (Jvm.Cond.selects "GossipStairs$Diagram" ({ cls := "GossipStairs$Diagram", name := "crossingsBy", desc := "(I)I" } : Jvm.MethodName) ({ cls := "GossipStairs$Diagram", name := "crossingsBy", desc := "(I)I" } : Jvm.MethodName)) ∈ lw_all := lw_g (lw_at lw_m6 115 rfl) rfl
theorem q1404 : (Jvm.Cond.code ({ cls := "GossipStairs$Diagram", name := "crossingsBy", desc := "(I)I" } : Jvm.MethodName) prog_2_method_27_code (5 : Nat) (Option.some Jvm.ClassFile.FieldType.int)) ∈ lw_all := lw_g (lw_at lw_m6 116 rfl) rfl
theorem q2261 : (Jvm.Cond.castable "GossipStairs$Diagram" "java/lang/Object") ∈ lw_tbl := lw_at lw_m10 13 rfl
theorem in_X2 : ∀ w ∈ wsX20, w ∈ lw_all := lw_in wsX20 [158, 160, 162, 164, 166, 168, 170, 172, 174, 176, 178, 180, 182, 184, 186, 188] (by decide +kernel) (by decide +kernel)
/-! GossipStairsModel -/
def RX3 : String := "GossipStairsModel"
def TX3 : u_T := fun k => match k with
  | 0 => ("GossipStairsModel", "s", "[I", true)
  | 1 => ("GossipStairsModel", "past", "[I", true)
  | 2 => ("GossipStairsModel", "kept", "[I", true)
  | 3 => ("GossipStairsModel", "aside", "[I", true)
  | 4 => ("GossipStairsModel", "lay", "[I", true)
  | 5 => ("GossipStairsModel", "start", "[I", true)
  | 6 => ("GossipStairsModel", "count", "[I", true)
  | 7 => ("GossipStairsModel", "deep", "I", false)
  | 8 => ("GossipStairsModel", "near", "[I", true)
  | 9 => ("GossipStairsModel", "medians", "[I", true)
  | 10 => ("GossipStairsModel", "points", "[I", true)
  | 11 => ("GossipStairsModel", "columns", "[I", true)
  | 12 => ("GossipStairsModel", "upper", "[I", true)
  | 13 => ("GossipStairsModel", "lower", "[I", true)
  | 14 => ("GossipStairsModel", "heard", "[I", true)
  | 15 => ("GossipStairsModel", "walks", "[I", true)
  | 16 => ("GossipStairsModel", "spare", "[I", true)
  | 17 => ("GossipStairsModel", "best", "[I", true)
  | 18 => ("GossipStairsModel", "isKept", "Z", false)
  | 19 => ("GossipStairsModel", "pasts", "I", false)
  | 20 => ("GossipStairsModel", "runs", "Z", false)
  | 21 => ("GossipStairsModel", "last", "I", false)
  | 22 => ("GossipStairsModel", "text", "[I", true)
  | 23 => ("GossipStairsModel", "typed", "I", false)
  | 24 => ("GossipStairsModel", "spot", "I", false)
  | 25 => ("GossipStairsModel", "from", "I", false)
  | 26 => ("GossipStairsModel", "reason", "I", false)
  | 27 => ("GossipStairsModel", "cause", "I", false)
  | 28 => ("GossipStairsModel", "orders", "I", false)
  | 29 => ("GossipStairsModel", "letter", "I", false)
  | _ => ("GossipStairsModel", "numbers", "[I", true)
def tyX3 : Nat → FieldType := fun k => match k with
  | 0 => .array .int
  | 1 => .array .int
  | 2 => .array .int
  | 3 => .array .int
  | 4 => .array .int
  | 5 => .array .int
  | 6 => .array .int
  | 7 => .int
  | 8 => .array .int
  | 9 => .array .int
  | 10 => .array .int
  | 11 => .array .int
  | 12 => .array .int
  | 13 => .array .int
  | 14 => .array .int
  | 15 => .array .int
  | 16 => .array .int
  | 17 => .array .int
  | 18 => .boolean
  | 19 => .int
  | 20 => .boolean
  | 21 => .int
  | 22 => .array .int
  | 23 => .int
  | 24 => .int
  | 25 => .int
  | 26 => .int
  | 27 => .int
  | 28 => .int
  | 29 => .int
  | _ => .array .int
abbrev wsX30 : List Cond := u_ws RX3 TX3 31
theorem nmX3 : ∀ a, a < 31 → ∀ b, b < 31 → a ≠ b → (TX3 a).2.1 ≠ (TX3 b).2.1 := by decide +kernel
theorem tyX3_ok : ∀ k, k < 31 → parseFieldDescriptor (TX3 k).2.2.1 = some (tyX3 k) := by decide +kernel
abbrev cX3_init : ByteArray := prog_8_method_1_code
def yX3_init : MethodName := ⟨RX3, "<init>", "()V"⟩
abbrev cX3_looks : ByteArray := prog_8_method_9_code
def yX3_looks : MethodName := ⟨RX3, "looks", "()V"⟩
abbrev cX3_thrown : ByteArray := prog_8_method_2_code
def yX3_thrown : MethodName := ⟨RX3, "thrown", "()I"⟩
abbrev cX3_addBox : ByteArray := prog_8_method_34_code
def yX3_addBox : MethodName := ⟨RX3, "addBox", "()I"⟩
abbrev cX3_changes : ByteArray := prog_8_method_6_code
def yX3_changes : MethodName := ⟨RX3, "changes", "()V"⟩
abbrev cX3_orders : ByteArray := prog_8_method_12_code
def yX3_orders : MethodName := ⟨RX3, "orders", "()V"⟩
abbrev cX3_addArrow : ByteArray := prog_8_method_35_code
def yX3_addArrow : MethodName := ⟨RX3, "addArrow", "(II)I"⟩
abbrev cX3_isBox : ByteArray := prog_8_method_7_code
def yX3_isBox : MethodName := ⟨RX3, "isBox", "(I)Z"⟩
abbrev cX3_in : ByteArray := prog_8_method_3_code
def yX3_in : MethodName := ⟨RX3, "in", "(III)Z"⟩
abbrev cX3_refuses : ByteArray := prog_8_method_29_code
def yX3_refuses : MethodName := ⟨RX3, "refuses", "(II)I"⟩
abbrev cX3_hearsOf : ByteArray := prog_8_method_28_code
def yX3_hearsOf : MethodName := ⟨RX3, "hearsOf", "(II)Z"⟩
abbrev cX3_hears1 : ByteArray := prog_8_method_27_code
def yX3_hears1 : MethodName := ⟨RX3, "hears1", "(I)V"⟩
abbrev cX3_puts : ByteArray := prog_8_method_31_code
def yX3_puts : MethodName := ⟨RX3, "puts", "(II)V"⟩
abbrev cX3_addChain : ByteArray := prog_8_method_36_code
def yX3_addChain : MethodName := ⟨RX3, "addChain", "(III)I"⟩
abbrev cX3_noChain : ByteArray := prog_8_method_33_code
def yX3_noChain : MethodName := ⟨RX3, "noChain", "(III)I"⟩
abbrev cX3_takesAway : ByteArray := prog_8_method_32_code
def yX3_takesAway : MethodName := ⟨RX3, "takesAway", "(I)V"⟩
abbrev cX3_removeArrow : ByteArray := prog_8_method_37_code
def yX3_removeArrow : MethodName := ⟨RX3, "removeArrow", "(I)I"⟩
abbrev cX3_isArrow : ByteArray := prog_8_method_8_code
def yX3_isArrow : MethodName := ⟨RX3, "isArrow", "(I)Z"⟩
abbrev cX3_holdDown : ByteArray := prog_8_method_38_code
def yX3_holdDown : MethodName := ⟨RX3, "holdDown", "(II)I"⟩
abbrev cX3_sweepDown : ByteArray := prog_8_method_40_code
def yX3_sweepDown : MethodName := ⟨RX3, "sweepDown", "()I"⟩
abbrev cX3_swept : ByteArray := prog_8_method_39_code
def yX3_swept : MethodName := ⟨RX3, "swept", "(I)I"⟩
abbrev cX3_sweeps1 : ByteArray := prog_8_method_21_code
def yX3_sweeps1 : MethodName := ⟨RX3, "sweeps1", "(I)V"⟩
abbrev cX3_sorts : ByteArray := prog_8_method_20_code
def yX3_sorts : MethodName := ⟨RX3, "sorts", "(II)V"⟩
abbrev cX3_median : ByteArray := prog_8_method_19_code
def yX3_median : MethodName := ⟨RX3, "median", "(III)I"⟩
abbrev cX3_nears : ByteArray := prog_8_method_17_code
def yX3_nears : MethodName := ⟨RX3, "nears", "(IIIZ)I"⟩
abbrev cX3_point : ByteArray := prog_8_method_13_code
def yX3_point : MethodName := ⟨RX3, "point", "(II)I"⟩
abbrev cX3_pointOf1 : ByteArray := prog_8_method_10_code
def yX3_pointOf1 : MethodName := ⟨RX3, "pointOf1", "(II)I"⟩
abbrev cX3_place : ByteArray := prog_8_method_14_code
def yX3_place : MethodName := ⟨RX3, "place", "(II)I"⟩
abbrev cX3_middle : ByteArray := prog_8_method_18_code
def yX3_middle : MethodName := ⟨RX3, "middle", "(I)I"⟩
abbrev cX3_cross : ByteArray := prog_8_method_16_code
def yX3_cross : MethodName := ⟨RX3, "cross", "()I"⟩
abbrev cX3_crossBelow : ByteArray := prog_8_method_15_code
def yX3_crossBelow : MethodName := ⟨RX3, "crossBelow", "(I)I"⟩
abbrev cX3_passes : ByteArray := prog_8_method_11_code
def yX3_passes : MethodName := ⟨RX3, "passes", "(II)Z"⟩
abbrev cX3_sweepUp : ByteArray := prog_8_method_41_code
def yX3_sweepUp : MethodName := ⟨RX3, "sweepUp", "()I"⟩
abbrev cX3_untangle : ByteArray := prog_8_method_42_code
def yX3_untangle : MethodName := ⟨RX3, "untangle", "()I"⟩
abbrev cX3_untangles : ByteArray := prog_8_method_24_code
def yX3_untangles : MethodName := ⟨RX3, "untangles", "()V"⟩
abbrev cX3_crossAround : ByteArray := prog_8_method_23_code
def yX3_crossAround : MethodName := ⟨RX3, "crossAround", "(I)I"⟩
abbrev cX3_turnsTwo : ByteArray := prog_8_method_22_code
def yX3_turnsTwo : MethodName := ⟨RX3, "turnsTwo", "(III)V"⟩
abbrev cX3_exchange : ByteArray := prog_8_method_45_code
def yX3_exchange : MethodName := ⟨RX3, "exchange", "(III)I"⟩
abbrev cX3_isPlace : ByteArray := prog_8_method_44_code
def yX3_isPlace : MethodName := ⟨RX3, "isPlace", "(II)Z"⟩
abbrev cX3_isLayer : ByteArray := prog_8_method_43_code
def yX3_isLayer : MethodName := ⟨RX3, "isLayer", "(I)Z"⟩
abbrev cX3_settle : ByteArray := prog_8_method_46_code
def yX3_settle : MethodName := ⟨RX3, "settle", "()I"⟩
abbrev cX3_keepsOrder : ByteArray := prog_8_method_25_code
def yX3_keepsOrder : MethodName := ⟨RX3, "keepsOrder", "([I)V"⟩
abbrev cX3_takesOrder : ByteArray := prog_8_method_26_code
def yX3_takesOrder : MethodName := ⟨RX3, "takesOrder", "([I)V"⟩
abbrev cX3_prune : ByteArray := prog_8_method_47_code
def yX3_prune : MethodName := ⟨RX3, "prune", "()I"⟩
abbrev cX3_isNew : ByteArray := prog_8_method_30_code
def yX3_isNew : MethodName := ⟨RX3, "isNew", "(I)Z"⟩
abbrev cX3_turnRound : ByteArray := prog_8_method_48_code
def yX3_turnRound : MethodName := ⟨RX3, "turnRound", "()I"⟩
abbrev cX3_boxes : ByteArray := prog_8_method_52_code
def yX3_boxes : MethodName := ⟨RX3, "boxes", "()I"⟩
abbrev cX3_told : ByteArray := prog_8_method_49_code
def yX3_told : MethodName := ⟨RX3, "told", "(I)I"⟩
abbrev cX3_arrows : ByteArray := prog_8_method_53_code
def yX3_arrows : MethodName := ⟨RX3, "arrows", "()I"⟩
abbrev cX3_fromOf : ByteArray := prog_8_method_54_code
def yX3_fromOf : MethodName := ⟨RX3, "fromOf", "(I)I"⟩
abbrev cX3_ofArrow : ByteArray := prog_8_method_50_code
def yX3_ofArrow : MethodName := ⟨RX3, "ofArrow", "(II)I"⟩
abbrev cX3_toOf : ByteArray := prog_8_method_55_code
def yX3_toOf : MethodName := ⟨RX3, "toOf", "(I)I"⟩
abbrev cX3_whyRefused : ByteArray := prog_8_method_56_code
def yX3_whyRefused : MethodName := ⟨RX3, "whyRefused", "(II)I"⟩
abbrev cX3_areBoxes : ByteArray := prog_8_method_51_code
def yX3_areBoxes : MethodName := ⟨RX3, "areBoxes", "(II)Z"⟩
abbrev cX3_whyNoChain : ByteArray := prog_8_method_57_code
def yX3_whyNoChain : MethodName := ⟨RX3, "whyNoChain", "(III)I"⟩
abbrev cX3_doesHear : ByteArray := prog_8_method_58_code
def yX3_doesHear : MethodName := ⟨RX3, "doesHear", "(II)Z"⟩
abbrev cX3_hears : ByteArray := prog_8_method_59_code
def yX3_hears : MethodName := ⟨RX3, "hears", "(I)I"⟩
abbrev cX3_isNeedless : ByteArray := prog_8_method_60_code
def yX3_isNeedless : MethodName := ⟨RX3, "isNeedless", "(I)Z"⟩
abbrev cX3_needless : ByteArray := prog_8_method_61_code
def yX3_needless : MethodName := ⟨RX3, "needless", "()I"⟩
abbrev cX3_ways : ByteArray := prog_8_method_64_code
def yX3_ways : MethodName := ⟨RX3, "ways", "(II)I"⟩
abbrev cX3_countWays : ByteArray := prog_8_method_63_code
def yX3_countWays : MethodName := ⟨RX3, "countWays", "(II)I"⟩
abbrev cX3_walksTo : ByteArray := prog_8_method_62_code
def yX3_walksTo : MethodName := ⟨RX3, "walksTo", "(III)I"⟩
abbrev cX3_waysByGoingBack : ByteArray := prog_8_method_65_code
def yX3_waysByGoingBack : MethodName := ⟨RX3, "waysByGoingBack", "(II)I"⟩
abbrev cX3_fewestArrows : ByteArray := prog_8_method_67_code
def yX3_fewestArrows : MethodName := ⟨RX3, "fewestArrows", "(II)I"⟩
abbrev cX3_arrowsOn : ByteArray := prog_8_method_66_code
def yX3_arrowsOn : MethodName := ⟨RX3, "arrowsOn", "(III)I"⟩
abbrev cX3_fails : ByteArray := prog_8_method_4_code
def yX3_fails : MethodName := ⟨RX3, "fails", "(I)I"⟩
abbrev cX3_mostArrows : ByteArray := prog_8_method_68_code
def yX3_mostArrows : MethodName := ⟨RX3, "mostArrows", "(II)I"⟩
abbrev cX3_firstTellers : ByteArray := prog_8_method_70_code
def yX3_firstTellers : MethodName := ⟨RX3, "firstTellers", "()I"⟩
abbrev cX3_without : ByteArray := prog_8_method_69_code
def yX3_without : MethodName := ⟨RX3, "without", "(I)I"⟩
abbrev cX3_lastHearers : ByteArray := prog_8_method_71_code
def yX3_lastHearers : MethodName := ⟨RX3, "lastHearers", "()I"⟩
abbrev cX3_layerOf : ByteArray := prog_8_method_73_code
def yX3_layerOf : MethodName := ⟨RX3, "layerOf", "(I)I"⟩
abbrev cX3_layerNow : ByteArray := prog_8_method_72_code
def yX3_layerNow : MethodName := ⟨RX3, "layerNow", "(I)I"⟩
abbrev cX3_layerByGoingBack : ByteArray := prog_8_method_74_code
def yX3_layerByGoingBack : MethodName := ⟨RX3, "layerByGoingBack", "(I)I"⟩
abbrev cX3_leastOf : ByteArray := prog_8_method_75_code
def yX3_leastOf : MethodName := ⟨RX3, "leastOf", "(I)I"⟩
abbrev cX3_layers : ByteArray := prog_8_method_76_code
def yX3_layers : MethodName := ⟨RX3, "layers", "()I"⟩
abbrev cX3_spanOf : ByteArray := prog_8_method_77_code
def yX3_spanOf : MethodName := ⟨RX3, "spanOf", "(I)I"⟩
abbrev cX3_pointsOf : ByteArray := prog_8_method_78_code
def yX3_pointsOf : MethodName := ⟨RX3, "pointsOf", "(I)I"⟩
abbrev cX3_arrowPoints : ByteArray := prog_8_method_80_code
def yX3_arrowPoints : MethodName := ⟨RX3, "arrowPoints", "()I"⟩
abbrev cX3_all : ByteArray := prog_8_method_79_code
def yX3_all : MethodName := ⟨RX3, "all", "()I"⟩
abbrev cX3_pointAt : ByteArray := prog_8_method_82_code
def yX3_pointAt : MethodName := ⟨RX3, "pointAt", "(II)I"⟩
abbrev cX3_isPoint : ByteArray := prog_8_method_81_code
def yX3_isPoint : MethodName := ⟨RX3, "isPoint", "(II)Z"⟩
abbrev cX3_placeOf : ByteArray := prog_8_method_83_code
def yX3_placeOf : MethodName := ⟨RX3, "placeOf", "(I)I"⟩
abbrev cX3_medianAbove : ByteArray := prog_8_method_84_code
def yX3_medianAbove : MethodName := ⟨RX3, "medianAbove", "(II)I"⟩
abbrev cX3_medianBelow : ByteArray := prog_8_method_85_code
def yX3_medianBelow : MethodName := ⟨RX3, "medianBelow", "(II)I"⟩
abbrev cX3_crowdedLayer : ByteArray := prog_8_method_86_code
def yX3_crowdedLayer : MethodName := ⟨RX3, "crowdedLayer", "()I"⟩
abbrev cX3_crossings : ByteArray := prog_8_method_88_code
def yX3_crossings : MethodName := ⟨RX3, "crossings", "()I"⟩
abbrev cX3_crossed : ByteArray := prog_8_method_87_code
def yX3_crossed : MethodName := ⟨RX3, "crossed", "()I"⟩
abbrev cX3_crossingsByPuttingIn : ByteArray := prog_8_method_89_code
def yX3_crossingsByPuttingIn : MethodName := ⟨RX3, "crossingsByPuttingIn", "()I"⟩
abbrev cX3_crossingsBelow : ByteArray := prog_8_method_90_code
def yX3_crossingsBelow : MethodName := ⟨RX3, "crossingsBelow", "(I)I"⟩
abbrev cX3_crossingsOf : ByteArray := prog_8_method_91_code
def yX3_crossingsOf : MethodName := ⟨RX3, "crossingsOf", "(I)I"⟩
abbrev cX3_ifSweptDown : ByteArray := prog_8_method_93_code
def yX3_ifSweptDown : MethodName := ⟨RX3, "ifSweptDown", "()I"⟩
abbrev cX3_ifSwept : ByteArray := prog_8_method_92_code
def yX3_ifSwept : MethodName := ⟨RX3, "ifSwept", "(I)I"⟩
abbrev cX3_ifSweptUp : ByteArray := prog_8_method_94_code
def yX3_ifSweptUp : MethodName := ⟨RX3, "ifSweptUp", "()I"⟩
abbrev cX3_columnAt : ByteArray := prog_8_method_96_code
def yX3_columnAt : MethodName := ⟨RX3, "columnAt", "(II)I"⟩
abbrev cX3_shifts : ByteArray := prog_8_method_95_code
def yX3_shifts : MethodName := ⟨RX3, "shifts", "()V"⟩
abbrev cX3_bendsOf : ByteArray := prog_8_method_99_code
def yX3_bendsOf : MethodName := ⟨RX3, "bendsOf", "(I)I"⟩
abbrev cX3_bent : ByteArray := prog_8_method_98_code
def yX3_bent : MethodName := ⟨RX3, "bent", "(I)I"⟩
abbrev cX3_columnOf1 : ByteArray := prog_8_method_97_code
def yX3_columnOf1 : MethodName := ⟨RX3, "columnOf1", "(II)I"⟩
abbrev cX3_bends : ByteArray := prog_8_method_100_code
def yX3_bends : MethodName := ⟨RX3, "bends", "()I"⟩
abbrev cX3_widest : ByteArray := prog_8_method_101_code
def yX3_widest : MethodName := ⟨RX3, "widest", "()I"⟩
abbrev cX3_slant : ByteArray := prog_8_method_103_code
def yX3_slant : MethodName := ⟨RX3, "slant", "()I"⟩
abbrev cX3_lines : ByteArray := prog_8_method_102_code
def yX3_lines : MethodName := ⟨RX3, "lines", "(Z)I"⟩
abbrev cX3_straightLines : ByteArray := prog_8_method_104_code
def yX3_straightLines : MethodName := ⟨RX3, "straightLines", "()I"⟩
abbrev cX3_sweeps : ByteArray := prog_8_method_105_code
def yX3_sweeps : MethodName := ⟨RX3, "sweeps", "()I"⟩
abbrev cX3_came : ByteArray := prog_8_method_106_code
def yX3_came : MethodName := ⟨RX3, "came", "()I"⟩
abbrev cX3_meanPoints : ByteArray := prog_8_method_107_code
def yX3_meanPoints : MethodName := ⟨RX3, "meanPoints", "()F"⟩
abbrev cX3_keep : ByteArray := prog_8_method_108_code
def yX3_keep : MethodName := ⟨RX3, "keep", "()I"⟩
abbrev cX3_copies : ByteArray := prog_8_method_5_code
def yX3_copies : MethodName := ⟨RX3, "copies", "([I[I)V"⟩
abbrev cX3_goBack : ByteArray := prog_8_method_109_code
def yX3_goBack : MethodName := ⟨RX3, "goBack", "()I"⟩
abbrev cX3_states : ByteArray := prog_8_method_110_code
def yX3_states : MethodName := ⟨RX3, "states", "()I"⟩
abbrev cX3_undo : ByteArray := prog_8_method_111_code
def yX3_undo : MethodName := ⟨RX3, "undo", "()I"⟩
abbrev cX3_type : ByteArray := prog_8_method_112_code
def yX3_type : MethodName := ⟨RX3, "type", "(I)I"⟩
abbrev cX3_clearText : ByteArray := prog_8_method_113_code
def yX3_clearText : MethodName := ⟨RX3, "clearText", "()I"⟩
abbrev cX3_faultPosition : ByteArray := prog_8_method_121_code
def yX3_faultPosition : MethodName := ⟨RX3, "faultPosition", "()I"⟩
abbrev cX3_fault : ByteArray := prog_8_method_120_code
def yX3_fault : MethodName := ⟨RX3, "fault", "(I)I"⟩
abbrev cX3_plays : ByteArray := prog_8_method_119_code
def yX3_plays : MethodName := ⟨RX3, "plays", "()Z"⟩
abbrev cX3_parses : ByteArray := prog_8_method_117_code
def yX3_parses : MethodName := ⟨RX3, "parses", "()Z"⟩
abbrev cX3_isAt : ByteArray := prog_8_method_114_code
def yX3_isAt : MethodName := ⟨RX3, "isAt", "(II)Z"⟩
abbrev cX3_sign : ByteArray := prog_8_method_115_code
def yX3_sign : MethodName := ⟨RX3, "sign", "(I)Z"⟩
abbrev cX3_numbered : ByteArray := prog_8_method_116_code
def yX3_numbered : MethodName := ⟨RX3, "numbered", "(I)Z"⟩
abbrev cX3_does : ByteArray := prog_8_method_118_code
def yX3_does : MethodName := ⟨RX3, "does", "()I"⟩
abbrev cX3_faultReason : ByteArray := prog_8_method_122_code
def yX3_faultReason : MethodName := ⟨RX3, "faultReason", "()I"⟩
abbrev cX3_faultCause : ByteArray := prog_8_method_123_code
def yX3_faultCause : MethodName := ⟨RX3, "faultCause", "()I"⟩
abbrev cX3_play : ByteArray := prog_8_method_124_code
def yX3_play : MethodName := ⟨RX3, "play", "()I"⟩
theorem q97 : (Jvm.Cond.initialized "GossipStairsModel") ∈ lw_all := lw_g (lw_at lw_m1 9 rfl) rfl
theorem q499 : (Jvm.Cond.selects "GossipStairsModel" ({ cls := "java/lang/Object", name := "getClass", desc := "()Ljava/lang/Class;" } : Jvm.MethodName) ({ cls := "java/lang/Object", name := "getClass", desc := "()Ljava/lang/Class;" } : Jvm.MethodName)) ∈ lw_all := lw_g (lw_at lw_m2 171 rfl) rfl
theorem q1647 : (Jvm.Cond.instantiable "GossipStairsModel" (31 : Nat)) ∈ lw_all := lw_g (lw_at lw_m7 119 rfl) rfl
theorem q1649 : (Jvm.Cond.instanceMethod ({ cls := "GossipStairsModel", name := "<init>", desc := "()V" } : Jvm.MethodName)) ∈ lw_all := lw_g (lw_at lw_m7 121 rfl) rfl
theorem q1650 : (Jvm.Cond.code ({ cls := "GossipStairsModel", name := "<init>", desc := "()V" } : Jvm.MethodName) prog_8_method_1_code (1 : Nat) (Option.none : Option Jvm.ClassFile.FieldType)) ∈ lw_all := lw_g (lw_at lw_m7 122 rfl) rfl
theorem q1651 : (Jvm.Cond.methodLink "GossipStairsModel" (1 : Nat) ({ cls := "java/lang/Object", name := "<init>", desc := "()V" } : Jvm.MethodName)) ∈ lw_all := lw_g (lw_at lw_m7 123 rfl) rfl
theorem q1652 : (Jvm.Cond.methodLink "GossipStairsModel" (67 : Nat) ({ cls := "GossipStairsModel", name := "looks", desc := "()V" } : Jvm.MethodName)) ∈ lw_all := lw_g (lw_at lw_m7 124 rfl) rfl
theorem q1653 : (Jvm.Cond.privateMethod ({ cls := "GossipStairsModel", name := "looks", desc := "()V" } : Jvm.MethodName)) ∈ lw_tbl := lw_at lw_m7 125 rfl
theorem q1654 : (Jvm.Cond.instanceMethod ({ cls := "GossipStairsModel", name := "looks", desc := "()V" } : Jvm.MethodName)) ∈ lw_all := lw_g (lw_at lw_m7 126 rfl) rfl
theorem q1655 : (Jvm.Cond.code ({ cls := "GossipStairsModel", name := "looks", desc := "()V" } : Jvm.MethodName) prog_8_method_9_code (4 : Nat) (Option.none : Option Jvm.ClassFile.FieldType)) ∈ lw_all := lw_g (lw_at lw_m7 127 rfl) rfl
theorem q1656 : (Jvm.Cond.fieldLink "GossipStairsModel" (7 : Nat) "GossipStairsModel" "s" "[I") ∈ lw_all := lw_g (lw_at lw_m7 128 rfl) rfl
theorem q1657 : (Jvm.Cond.fieldLink "GossipStairsModel" (13 : Nat) "GossipStairsModel" "past" "[I") ∈ lw_all := lw_g (lw_at lw_m7 129 rfl) rfl
theorem q1658 : (Jvm.Cond.fieldLink "GossipStairsModel" (16 : Nat) "GossipStairsModel" "kept" "[I") ∈ lw_all := lw_g (lw_at lw_m7 130 rfl) rfl
theorem q1659 : (Jvm.Cond.fieldLink "GossipStairsModel" (19 : Nat) "GossipStairsModel" "aside" "[I") ∈ lw_all := lw_g (lw_at lw_m7 131 rfl) rfl
theorem q1660 : (Jvm.Cond.fieldLink "GossipStairsModel" (22 : Nat) "GossipStairsModel" "lay" "[I") ∈ lw_all := lw_g (lw_at lw_m7 132 rfl) rfl
theorem q1661 : (Jvm.Cond.fieldLink "GossipStairsModel" (25 : Nat) "GossipStairsModel" "start" "[I") ∈ lw_all := lw_g (lw_at lw_m7 133 rfl) rfl
theorem q1662 : (Jvm.Cond.fieldLink "GossipStairsModel" (28 : Nat) "GossipStairsModel" "count" "[I") ∈ lw_all := lw_g (lw_at lw_m7 134 rfl) rfl
theorem q1663 : (Jvm.Cond.fieldLink "GossipStairsModel" (85 : Nat) "GossipStairsModel" "deep" "I") ∈ lw_all := lw_g (lw_at lw_m7 135 rfl) rfl
theorem q1664 : (Jvm.Cond.fieldLink "GossipStairsModel" (31 : Nat) "GossipStairsModel" "near" "[I") ∈ lw_all := lw_g (lw_at lw_m7 136 rfl) rfl
theorem q1665 : (Jvm.Cond.fieldLink "GossipStairsModel" (34 : Nat) "GossipStairsModel" "medians" "[I") ∈ lw_all := lw_g (lw_at lw_m7 137 rfl) rfl
theorem q1666 : (Jvm.Cond.fieldLink "GossipStairsModel" (37 : Nat) "GossipStairsModel" "points" "[I") ∈ lw_all := lw_g (lw_at lw_m7 138 rfl) rfl
theorem q1667 : (Jvm.Cond.fieldLink "GossipStairsModel" (40 : Nat) "GossipStairsModel" "columns" "[I") ∈ lw_all := lw_g (lw_at lw_m7 139 rfl) rfl
theorem q1668 : (Jvm.Cond.fieldLink "GossipStairsModel" (43 : Nat) "GossipStairsModel" "upper" "[I") ∈ lw_all := lw_g (lw_at lw_m7 140 rfl) rfl
theorem q1669 : (Jvm.Cond.fieldLink "GossipStairsModel" (46 : Nat) "GossipStairsModel" "lower" "[I") ∈ lw_all := lw_g (lw_at lw_m7 141 rfl) rfl
theorem q1670 : (Jvm.Cond.fieldLink "GossipStairsModel" (49 : Nat) "GossipStairsModel" "heard" "[I") ∈ lw_all := lw_g (lw_at lw_m7 142 rfl) rfl
theorem q1671 : (Jvm.Cond.fieldLink "GossipStairsModel" (52 : Nat) "GossipStairsModel" "walks" "[I") ∈ lw_all := lw_g (lw_at lw_m7 143 rfl) rfl
theorem q1672 : (Jvm.Cond.fieldLink "GossipStairsModel" (55 : Nat) "GossipStairsModel" "spare" "[I") ∈ lw_all := lw_g (lw_at lw_m7 144 rfl) rfl
theorem q1673 : (Jvm.Cond.fieldLink "GossipStairsModel" (58 : Nat) "GossipStairsModel" "best" "[I") ∈ lw_all := lw_g (lw_at lw_m7 145 rfl) rfl
theorem q1674 : (Jvm.Cond.fieldLink "GossipStairsModel" (241 : Nat) "GossipStairsModel" "isKept" "Z") ∈ lw_all := lw_g (lw_at lw_m7 146 rfl) rfl
theorem q1675 : (Jvm.Cond.fieldLink "GossipStairsModel" (78 : Nat) "GossipStairsModel" "pasts" "I") ∈ lw_all := lw_g (lw_at lw_m7 147 rfl) rfl
theorem q1676 : (Jvm.Cond.fieldLink "GossipStairsModel" (74 : Nat) "GossipStairsModel" "runs" "Z") ∈ lw_all := lw_g (lw_at lw_m7 148 rfl) rfl
theorem q1677 : (Jvm.Cond.fieldLink "GossipStairsModel" (70 : Nat) "GossipStairsModel" "last" "I") ∈ lw_all := lw_g (lw_at lw_m7 149 rfl) rfl
theorem q1678 : (Jvm.Cond.fieldLink "GossipStairsModel" (61 : Nat) "GossipStairsModel" "text" "[I") ∈ lw_all := lw_g (lw_at lw_m7 150 rfl) rfl
theorem q1679 : (Jvm.Cond.fieldLink "GossipStairsModel" (248 : Nat) "GossipStairsModel" "typed" "I") ∈ lw_all := lw_g (lw_at lw_m7 151 rfl) rfl
theorem q1680 : (Jvm.Cond.fieldLink "GossipStairsModel" (251 : Nat) "GossipStairsModel" "spot" "I") ∈ lw_all := lw_g (lw_at lw_m7 152 rfl) rfl
theorem q1681 : (Jvm.Cond.fieldLink "GossipStairsModel" (287 : Nat) "GossipStairsModel" "from" "I") ∈ lw_all := lw_g (lw_at lw_m7 153 rfl) rfl
theorem q1682 : (Jvm.Cond.fieldLink "GossipStairsModel" (299 : Nat) "GossipStairsModel" "reason" "I") ∈ lw_all := lw_g (lw_at lw_m7 154 rfl) rfl
theorem q1683 : (Jvm.Cond.fieldLink "GossipStairsModel" (302 : Nat) "GossipStairsModel" "cause" "I") ∈ lw_all := lw_g (lw_at lw_m7 155 rfl) rfl
theorem q1684 : (Jvm.Cond.fieldLink "GossipStairsModel" (290 : Nat) "GossipStairsModel" "orders" "I") ∈ lw_all := lw_g (lw_at lw_m7 156 rfl) rfl
theorem q1685 : (Jvm.Cond.fieldLink "GossipStairsModel" (257 : Nat) "GossipStairsModel" "letter" "I") ∈ lw_all := lw_g (lw_at lw_m7 157 rfl) rfl
theorem q1686 : (Jvm.Cond.fieldLink "GossipStairsModel" (64 : Nat) "GossipStairsModel" "numbers" "[I") ∈ lw_all := lw_g (lw_at lw_m7 158 rfl) rfl
theorem q1687 : (Jvm.Cond.laysFinal "GossipStairsModel" "GossipStairsModel" "s" "[I") ∈ lw_all := lw_g (lw_at lw_m7 159 rfl) rfl
theorem q1688 : (Jvm.Cond.soleField "GossipStairsModel" "s") ∈ lw_all := lw_g (lw_at lw_m7 160 rfl) rfl
theorem q1689 : (Jvm.Cond.laysFinal "GossipStairsModel" "GossipStairsModel" "past" "[I") ∈ lw_all := lw_g (lw_at lw_m7 161 rfl) rfl
theorem q1690 : (Jvm.Cond.soleField "GossipStairsModel" "past") ∈ lw_all := lw_g (lw_at lw_m7 162 rfl) rfl
theorem q1691 : (Jvm.Cond.laysFinal "GossipStairsModel" "GossipStairsModel" "kept" "[I") ∈ lw_all := lw_g (lw_at lw_m7 163 rfl) rfl
theorem q1692 : (Jvm.Cond.soleField "GossipStairsModel" "kept") ∈ lw_all := lw_g (lw_at lw_m7 164 rfl) rfl
theorem q1693 : (Jvm.Cond.laysFinal "GossipStairsModel" "GossipStairsModel" "aside" "[I") ∈ lw_all := lw_g (lw_at lw_m7 165 rfl) rfl
theorem q1694 : (Jvm.Cond.soleField "GossipStairsModel" "aside") ∈ lw_all := lw_g (lw_at lw_m7 166 rfl) rfl
theorem q1695 : (Jvm.Cond.laysFinal "GossipStairsModel" "GossipStairsModel" "lay" "[I") ∈ lw_all := lw_g (lw_at lw_m7 167 rfl) rfl
theorem q1696 : (Jvm.Cond.soleField "GossipStairsModel" "lay") ∈ lw_all := lw_g (lw_at lw_m7 168 rfl) rfl
theorem q1697 : (Jvm.Cond.laysFinal "GossipStairsModel" "GossipStairsModel" "start" "[I") ∈ lw_all := lw_g (lw_at lw_m7 169 rfl) rfl
theorem q1698 : (Jvm.Cond.soleField "GossipStairsModel" "start") ∈ lw_all := lw_g (lw_at lw_m7 170 rfl) rfl
theorem q1699 : (Jvm.Cond.laysFinal "GossipStairsModel" "GossipStairsModel" "count" "[I") ∈ lw_all := lw_g (lw_at lw_m7 171 rfl) rfl
theorem q1700 : (Jvm.Cond.soleField "GossipStairsModel" "count") ∈ lw_all := lw_g (lw_at lw_m7 172 rfl) rfl
theorem q1701 : (Jvm.Cond.lays "GossipStairsModel" "GossipStairsModel" "deep" "I") ∈ lw_all := lw_g (lw_at lw_m7 173 rfl) rfl
theorem q1702 : (Jvm.Cond.soleField "GossipStairsModel" "deep") ∈ lw_all := lw_g (lw_at lw_m7 174 rfl) rfl
theorem q1703 : (Jvm.Cond.laysFinal "GossipStairsModel" "GossipStairsModel" "near" "[I") ∈ lw_all := lw_g (lw_at lw_m7 175 rfl) rfl
theorem q1704 : (Jvm.Cond.soleField "GossipStairsModel" "near") ∈ lw_all := lw_g (lw_at lw_m7 176 rfl) rfl
theorem q1705 : (Jvm.Cond.laysFinal "GossipStairsModel" "GossipStairsModel" "medians" "[I") ∈ lw_all := lw_g (lw_at lw_m7 177 rfl) rfl
theorem q1706 : (Jvm.Cond.soleField "GossipStairsModel" "medians") ∈ lw_all := lw_g (lw_at lw_m7 178 rfl) rfl
theorem q1707 : (Jvm.Cond.laysFinal "GossipStairsModel" "GossipStairsModel" "points" "[I") ∈ lw_all := lw_g (lw_at lw_m7 179 rfl) rfl
theorem q1708 : (Jvm.Cond.soleField "GossipStairsModel" "points") ∈ lw_all := lw_g (lw_at lw_m7 180 rfl) rfl
theorem q1709 : (Jvm.Cond.laysFinal "GossipStairsModel" "GossipStairsModel" "columns" "[I") ∈ lw_all := lw_g (lw_at lw_m7 181 rfl) rfl
theorem q1710 : (Jvm.Cond.soleField "GossipStairsModel" "columns") ∈ lw_all := lw_g (lw_at lw_m7 182 rfl) rfl
theorem q1711 : (Jvm.Cond.laysFinal "GossipStairsModel" "GossipStairsModel" "upper" "[I") ∈ lw_all := lw_g (lw_at lw_m7 183 rfl) rfl
theorem q1712 : (Jvm.Cond.soleField "GossipStairsModel" "upper") ∈ lw_all := lw_g (lw_at lw_m7 184 rfl) rfl
theorem q1713 : (Jvm.Cond.laysFinal "GossipStairsModel" "GossipStairsModel" "lower" "[I") ∈ lw_all := lw_g (lw_at lw_m7 185 rfl) rfl
theorem q1714 : (Jvm.Cond.soleField "GossipStairsModel" "lower") ∈ lw_all := lw_g (lw_at lw_m7 186 rfl) rfl
theorem q1715 : (Jvm.Cond.laysFinal "GossipStairsModel" "GossipStairsModel" "heard" "[I") ∈ lw_all := lw_g (lw_at lw_m7 187 rfl) rfl
theorem q1716 : (Jvm.Cond.soleField "GossipStairsModel" "heard") ∈ lw_all := lw_g (lw_at lw_m7 188 rfl) rfl
theorem q1717 : (Jvm.Cond.laysFinal "GossipStairsModel" "GossipStairsModel" "walks" "[I") ∈ lw_all := lw_g (lw_at lw_m7 189 rfl) rfl
theorem q1718 : (Jvm.Cond.soleField "GossipStairsModel" "walks") ∈ lw_all := lw_g (lw_at lw_m7 190 rfl) rfl
theorem q1719 : (Jvm.Cond.laysFinal "GossipStairsModel" "GossipStairsModel" "spare" "[I") ∈ lw_all := lw_g (lw_at lw_m7 191 rfl) rfl
theorem q1720 : (Jvm.Cond.soleField "GossipStairsModel" "spare") ∈ lw_all := lw_g (lw_at lw_m7 192 rfl) rfl
theorem q1721 : (Jvm.Cond.laysFinal "GossipStairsModel" "GossipStairsModel" "best" "[I") ∈ lw_all := lw_g (lw_at lw_m7 193 rfl) rfl
theorem q1722 : (Jvm.Cond.soleField "GossipStairsModel" "best") ∈ lw_all := lw_g (lw_at lw_m7 194 rfl) rfl
theorem q1723 : (Jvm.Cond.lays "GossipStairsModel" "GossipStairsModel" "isKept" "Z") ∈ lw_all := lw_g (lw_at lw_m7 195 rfl) rfl
theorem q1724 : (Jvm.Cond.soleField "GossipStairsModel" "isKept") ∈ lw_all := lw_g (lw_at lw_m7 196 rfl) rfl
theorem q1725 : (Jvm.Cond.lays "GossipStairsModel" "GossipStairsModel" "pasts" "I") ∈ lw_all := lw_g (lw_at lw_m7 197 rfl) rfl
theorem q1726 : (Jvm.Cond.soleField "GossipStairsModel" "pasts") ∈ lw_all := lw_g (lw_at lw_m7 198 rfl) rfl
theorem q1727 : (Jvm.Cond.lays "GossipStairsModel" "GossipStairsModel" "runs" "Z") ∈ lw_all := lw_g (lw_at lw_m7 199 rfl) rfl
theorem q1728 : (Jvm.Cond.soleField "GossipStairsModel" "runs") ∈ lw_all := lw_g (lw_at lw_m7 200 rfl) rfl
theorem q1729 : (Jvm.Cond.lays "GossipStairsModel" "GossipStairsModel" "last" "I") ∈ lw_all := lw_g (lw_at lw_m7 201 rfl) rfl
theorem q1730 : (Jvm.Cond.soleField "GossipStairsModel" "last") ∈ lw_all := lw_g (lw_at lw_m7 202 rfl) rfl
theorem q1731 : (Jvm.Cond.laysFinal "GossipStairsModel" "GossipStairsModel" "text" "[I") ∈ lw_all := lw_g (lw_at lw_m7 203 rfl) rfl
theorem q1732 : (Jvm.Cond.soleField "GossipStairsModel" "text") ∈ lw_all := lw_g (lw_at lw_m7 204 rfl) rfl
theorem q1733 : (Jvm.Cond.lays "GossipStairsModel" "GossipStairsModel" "typed" "I") ∈ lw_all := lw_g (lw_at lw_m7 205 rfl) rfl
theorem q1734 : (Jvm.Cond.soleField "GossipStairsModel" "typed") ∈ lw_all := lw_g (lw_at lw_m7 206 rfl) rfl
theorem q1735 : (Jvm.Cond.lays "GossipStairsModel" "GossipStairsModel" "spot" "I") ∈ lw_all := lw_g (lw_at lw_m7 207 rfl) rfl
theorem q1736 : (Jvm.Cond.soleField "GossipStairsModel" "spot") ∈ lw_all := lw_g (lw_at lw_m7 208 rfl) rfl
theorem q1737 : (Jvm.Cond.lays "GossipStairsModel" "GossipStairsModel" "from" "I") ∈ lw_all := lw_g (lw_at lw_m7 209 rfl) rfl
theorem q1738 : (Jvm.Cond.soleField "GossipStairsModel" "from") ∈ lw_all := lw_g (lw_at lw_m7 210 rfl) rfl
theorem q1739 : (Jvm.Cond.lays "GossipStairsModel" "GossipStairsModel" "reason" "I") ∈ lw_all := lw_g (lw_at lw_m7 211 rfl) rfl
theorem q1740 : (Jvm.Cond.soleField "GossipStairsModel" "reason") ∈ lw_all := lw_g (lw_at lw_m7 212 rfl) rfl
theorem q1741 : (Jvm.Cond.lays "GossipStairsModel" "GossipStairsModel" "cause" "I") ∈ lw_all := lw_g (lw_at lw_m7 213 rfl) rfl
theorem q1742 : (Jvm.Cond.soleField "GossipStairsModel" "cause") ∈ lw_all := lw_g (lw_at lw_m7 214 rfl) rfl
theorem q1743 : (Jvm.Cond.lays "GossipStairsModel" "GossipStairsModel" "orders" "I") ∈ lw_all := lw_g (lw_at lw_m7 215 rfl) rfl
theorem q1744 : (Jvm.Cond.soleField "GossipStairsModel" "orders") ∈ lw_all := lw_g (lw_at lw_m7 216 rfl) rfl
theorem q1745 : (Jvm.Cond.lays "GossipStairsModel" "GossipStairsModel" "letter" "I") ∈ lw_all := lw_g (lw_at lw_m7 217 rfl) rfl
theorem q1746 : (Jvm.Cond.soleField "GossipStairsModel" "letter") ∈ lw_all := lw_g (lw_at lw_m7 218 rfl) rfl
theorem q1747 : (Jvm.Cond.laysFinal "GossipStairsModel" "GossipStairsModel" "numbers" "[I") ∈ lw_all := lw_g (lw_at lw_m7 219 rfl) rfl
theorem q1748 : (Jvm.Cond.soleField "GossipStairsModel" "numbers") ∈ lw_all := lw_g (lw_at lw_m7 220 rfl) rfl
theorem q1749 : (Jvm.Cond.superclass "GossipStairsModel" "java/lang/Object") ∈ lw_all := lw_g (lw_at lw_m7 221 rfl) rfl
theorem q1751 : (Jvm.Cond.instanceMethod ({ cls := "GossipStairsModel", name := "thrown", desc := "()I" } : Jvm.MethodName)) ∈ lw_all := lw_g (lw_at lw_m7 223 rfl) rfl
theorem q1752 : (Jvm.Cond.selects "GossipStairsModel" ({ cls := "GossipStairsModel", name := "thrown", desc := "()I" } : Jvm.MethodName) ({ cls := "GossipStairsModel", name := "thrown", desc := "()I" } : Jvm.MethodName)) ∈ lw_all := lw_g (lw_at lw_m7 224 rfl) rfl
theorem q1753 : (Jvm.Cond.code ({ cls := "GossipStairsModel", name := "thrown", desc := "()I" } : Jvm.MethodName) prog_8_method_2_code (1 : Nat) (Option.some Jvm.ClassFile.FieldType.int)) ∈ lw_all := lw_g (lw_at lw_m7 225 rfl) rfl
theorem q1755 : (Jvm.Cond.instanceMethod ({ cls := "GossipStairsModel", name := "addBox", desc := "()I" } : Jvm.MethodName)) ∈ lw_all := lw_g (lw_at lw_m7 227 rfl) rfl
theorem q1756 : (Jvm.Cond.selects "GossipStairsModel" ({ cls := "GossipStairsModel", name := "addBox", desc := "()I" } : Jvm.MethodName) ({ cls := "GossipStairsModel", name := "addBox", desc := "()I" } : Jvm.MethodName)) ∈ lw_all := lw_g (lw_at lw_m7 228 rfl) rfl
theorem q1757 : (Jvm.Cond.code ({ cls := "GossipStairsModel", name := "addBox", desc := "()I" } : Jvm.MethodName) prog_8_method_34_code (1 : Nat) (Option.some Jvm.ClassFile.FieldType.int)) ∈ lw_all := lw_g (lw_at lw_m7 229 rfl) rfl
theorem q1758 : (Jvm.Cond.methodLink "GossipStairsModel" (144 : Nat) ({ cls := "GossipStairsModel", name := "changes", desc := "()V" } : Jvm.MethodName)) ∈ lw_all := lw_g (lw_at lw_m7 230 rfl) rfl
theorem q1759 : (Jvm.Cond.privateMethod ({ cls := "GossipStairsModel", name := "changes", desc := "()V" } : Jvm.MethodName)) ∈ lw_tbl := lw_at lw_m7 231 rfl
theorem q1760 : (Jvm.Cond.instanceMethod ({ cls := "GossipStairsModel", name := "changes", desc := "()V" } : Jvm.MethodName)) ∈ lw_all := lw_g (lw_at lw_m7 232 rfl) rfl
theorem q1761 : (Jvm.Cond.code ({ cls := "GossipStairsModel", name := "changes", desc := "()V" } : Jvm.MethodName) prog_8_method_6_code (2 : Nat) (Option.none : Option Jvm.ClassFile.FieldType)) ∈ lw_all := lw_g (lw_at lw_m7 233 rfl) rfl
theorem q1762 : (Jvm.Cond.methodLink "GossipStairsModel" (147 : Nat) ({ cls := "GossipStairsModel", name := "orders", desc := "()V" } : Jvm.MethodName)) ∈ lw_all := lw_g (lw_at lw_m7 234 rfl) rfl
theorem q1763 : (Jvm.Cond.privateMethod ({ cls := "GossipStairsModel", name := "orders", desc := "()V" } : Jvm.MethodName)) ∈ lw_tbl := lw_at lw_m7 235 rfl
theorem q1764 : (Jvm.Cond.instanceMethod ({ cls := "GossipStairsModel", name := "orders", desc := "()V" } : Jvm.MethodName)) ∈ lw_all := lw_g (lw_at lw_m7 236 rfl) rfl
theorem q1765 : (Jvm.Cond.code ({ cls := "GossipStairsModel", name := "orders", desc := "()V" } : Jvm.MethodName) prog_8_method_12_code (4 : Nat) (Option.none : Option Jvm.ClassFile.FieldType)) ∈ lw_all := lw_g (lw_at lw_m7 237 rfl) rfl
theorem q1767 : (Jvm.Cond.instanceMethod ({ cls := "GossipStairsModel", name := "addArrow", desc := "(II)I" } : Jvm.MethodName)) ∈ lw_all := lw_g (lw_at lw_m7 239 rfl) rfl
theorem q1768 : (Jvm.Cond.selects "GossipStairsModel" ({ cls := "GossipStairsModel", name := "addArrow", desc := "(II)I" } : Jvm.MethodName) ({ cls := "GossipStairsModel", name := "addArrow", desc := "(II)I" } : Jvm.MethodName)) ∈ lw_all := lw_g (lw_at lw_m8 0 rfl) rfl
theorem q1769 : (Jvm.Cond.code ({ cls := "GossipStairsModel", name := "addArrow", desc := "(II)I" } : Jvm.MethodName) prog_8_method_35_code (3 : Nat) (Option.some Jvm.ClassFile.FieldType.int)) ∈ lw_all := lw_g (lw_at lw_m8 1 rfl) rfl
theorem q1770 : (Jvm.Cond.methodLink "GossipStairsModel" (150 : Nat) ({ cls := "GossipStairsModel", name := "isBox", desc := "(I)Z" } : Jvm.MethodName)) ∈ lw_all := lw_g (lw_at lw_m8 2 rfl) rfl
theorem q1771 : (Jvm.Cond.privateMethod ({ cls := "GossipStairsModel", name := "isBox", desc := "(I)Z" } : Jvm.MethodName)) ∈ lw_tbl := lw_at lw_m8 3 rfl
theorem q1772 : (Jvm.Cond.instanceMethod ({ cls := "GossipStairsModel", name := "isBox", desc := "(I)Z" } : Jvm.MethodName)) ∈ lw_all := lw_g (lw_at lw_m8 4 rfl) rfl
theorem q1773 : (Jvm.Cond.code ({ cls := "GossipStairsModel", name := "isBox", desc := "(I)Z" } : Jvm.MethodName) prog_8_method_7_code (2 : Nat) (Option.some Jvm.ClassFile.FieldType.boolean)) ∈ lw_all := lw_g (lw_at lw_m8 5 rfl) rfl
theorem q1774 : (Jvm.Cond.methodLink "GossipStairsModel" (81 : Nat) ({ cls := "GossipStairsModel", name := "in", desc := "(III)Z" } : Jvm.MethodName)) ∈ lw_all := lw_g (lw_at lw_m8 6 rfl) rfl
theorem q1775 : (Jvm.Cond.static ({ cls := "GossipStairsModel", name := "in", desc := "(III)Z" } : Jvm.MethodName)) ∈ lw_all := lw_g (lw_at lw_m8 7 rfl) rfl
theorem q1776 : (Jvm.Cond.code ({ cls := "GossipStairsModel", name := "in", desc := "(III)Z" } : Jvm.MethodName) prog_8_method_3_code (3 : Nat) (Option.some Jvm.ClassFile.FieldType.boolean)) ∈ lw_all := lw_g (lw_at lw_m8 8 rfl) rfl
theorem q1777 : (Jvm.Cond.methodLink "GossipStairsModel" (135 : Nat) ({ cls := "GossipStairsModel", name := "refuses", desc := "(II)I" } : Jvm.MethodName)) ∈ lw_all := lw_g (lw_at lw_m8 9 rfl) rfl
theorem q1778 : (Jvm.Cond.privateMethod ({ cls := "GossipStairsModel", name := "refuses", desc := "(II)I" } : Jvm.MethodName)) ∈ lw_tbl := lw_at lw_m8 10 rfl
theorem q1779 : (Jvm.Cond.instanceMethod ({ cls := "GossipStairsModel", name := "refuses", desc := "(II)I" } : Jvm.MethodName)) ∈ lw_all := lw_g (lw_at lw_m8 11 rfl) rfl
theorem q1780 : (Jvm.Cond.code ({ cls := "GossipStairsModel", name := "refuses", desc := "(II)I" } : Jvm.MethodName) prog_8_method_29_code (4 : Nat) (Option.some Jvm.ClassFile.FieldType.int)) ∈ lw_all := lw_g (lw_at lw_m8 12 rfl) rfl
theorem q1781 : (Jvm.Cond.methodLink "GossipStairsModel" (132 : Nat) ({ cls := "GossipStairsModel", name := "hearsOf", desc := "(II)Z" } : Jvm.MethodName)) ∈ lw_all := lw_g (lw_at lw_m8 13 rfl) rfl
theorem q1782 : (Jvm.Cond.privateMethod ({ cls := "GossipStairsModel", name := "hearsOf", desc := "(II)Z" } : Jvm.MethodName)) ∈ lw_tbl := lw_at lw_m8 14 rfl
theorem q1783 : (Jvm.Cond.instanceMethod ({ cls := "GossipStairsModel", name := "hearsOf", desc := "(II)Z" } : Jvm.MethodName)) ∈ lw_all := lw_g (lw_at lw_m8 15 rfl) rfl
theorem q1784 : (Jvm.Cond.code ({ cls := "GossipStairsModel", name := "hearsOf", desc := "(II)Z" } : Jvm.MethodName) prog_8_method_28_code (3 : Nat) (Option.some Jvm.ClassFile.FieldType.boolean)) ∈ lw_all := lw_g (lw_at lw_m8 16 rfl) rfl
theorem q1785 : (Jvm.Cond.methodLink "GossipStairsModel" (128 : Nat) ({ cls := "GossipStairsModel", name := "hears1", desc := "(I)V" } : Jvm.MethodName)) ∈ lw_all := lw_g (lw_at lw_m8 17 rfl) rfl
theorem q1786 : (Jvm.Cond.privateMethod ({ cls := "GossipStairsModel", name := "hears1", desc := "(I)V" } : Jvm.MethodName)) ∈ lw_tbl := lw_at lw_m8 18 rfl
theorem q1787 : (Jvm.Cond.instanceMethod ({ cls := "GossipStairsModel", name := "hears1", desc := "(I)V" } : Jvm.MethodName)) ∈ lw_all := lw_g (lw_at lw_m8 19 rfl) rfl
theorem q1788 : (Jvm.Cond.code ({ cls := "GossipStairsModel", name := "hears1", desc := "(I)V" } : Jvm.MethodName) prog_8_method_27_code (5 : Nat) (Option.none : Option Jvm.ClassFile.FieldType)) ∈ lw_all := lw_g (lw_at lw_m8 20 rfl) rfl
theorem q1789 : (Jvm.Cond.methodLink "GossipStairsModel" (138 : Nat) ({ cls := "GossipStairsModel", name := "puts", desc := "(II)V" } : Jvm.MethodName)) ∈ lw_all := lw_g (lw_at lw_m8 21 rfl) rfl
theorem q1790 : (Jvm.Cond.privateMethod ({ cls := "GossipStairsModel", name := "puts", desc := "(II)V" } : Jvm.MethodName)) ∈ lw_tbl := lw_at lw_m8 22 rfl
theorem q1791 : (Jvm.Cond.instanceMethod ({ cls := "GossipStairsModel", name := "puts", desc := "(II)V" } : Jvm.MethodName)) ∈ lw_all := lw_g (lw_at lw_m8 23 rfl) rfl
theorem q1792 : (Jvm.Cond.code ({ cls := "GossipStairsModel", name := "puts", desc := "(II)V" } : Jvm.MethodName) prog_8_method_31_code (3 : Nat) (Option.none : Option Jvm.ClassFile.FieldType)) ∈ lw_all := lw_g (lw_at lw_m8 24 rfl) rfl
theorem q1794 : (Jvm.Cond.instanceMethod ({ cls := "GossipStairsModel", name := "addChain", desc := "(III)I" } : Jvm.MethodName)) ∈ lw_all := lw_g (lw_at lw_m8 26 rfl) rfl
theorem q1795 : (Jvm.Cond.selects "GossipStairsModel" ({ cls := "GossipStairsModel", name := "addChain", desc := "(III)I" } : Jvm.MethodName) ({ cls := "GossipStairsModel", name := "addChain", desc := "(III)I" } : Jvm.MethodName)) ∈ lw_all := lw_g (lw_at lw_m8 27 rfl) rfl
theorem q1796 : (Jvm.Cond.code ({ cls := "GossipStairsModel", name := "addChain", desc := "(III)I" } : Jvm.MethodName) prog_8_method_36_code (4 : Nat) (Option.some Jvm.ClassFile.FieldType.int)) ∈ lw_all := lw_g (lw_at lw_m8 28 rfl) rfl
theorem q1797 : (Jvm.Cond.methodLink "GossipStairsModel" (154 : Nat) ({ cls := "GossipStairsModel", name := "noChain", desc := "(III)I" } : Jvm.MethodName)) ∈ lw_all := lw_g (lw_at lw_m8 29 rfl) rfl
theorem q1798 : (Jvm.Cond.privateMethod ({ cls := "GossipStairsModel", name := "noChain", desc := "(III)I" } : Jvm.MethodName)) ∈ lw_tbl := lw_at lw_m8 30 rfl
theorem q1799 : (Jvm.Cond.instanceMethod ({ cls := "GossipStairsModel", name := "noChain", desc := "(III)I" } : Jvm.MethodName)) ∈ lw_all := lw_g (lw_at lw_m8 31 rfl) rfl
theorem q1800 : (Jvm.Cond.code ({ cls := "GossipStairsModel", name := "noChain", desc := "(III)I" } : Jvm.MethodName) prog_8_method_33_code (6 : Nat) (Option.some Jvm.ClassFile.FieldType.int)) ∈ lw_all := lw_g (lw_at lw_m8 32 rfl) rfl
theorem q1801 : (Jvm.Cond.methodLink "GossipStairsModel" (141 : Nat) ({ cls := "GossipStairsModel", name := "takesAway", desc := "(I)V" } : Jvm.MethodName)) ∈ lw_all := lw_g (lw_at lw_m8 33 rfl) rfl
theorem q1802 : (Jvm.Cond.privateMethod ({ cls := "GossipStairsModel", name := "takesAway", desc := "(I)V" } : Jvm.MethodName)) ∈ lw_tbl := lw_at lw_m8 34 rfl
theorem q1803 : (Jvm.Cond.instanceMethod ({ cls := "GossipStairsModel", name := "takesAway", desc := "(I)V" } : Jvm.MethodName)) ∈ lw_all := lw_g (lw_at lw_m8 35 rfl) rfl
theorem q1804 : (Jvm.Cond.code ({ cls := "GossipStairsModel", name := "takesAway", desc := "(I)V" } : Jvm.MethodName) prog_8_method_32_code (3 : Nat) (Option.none : Option Jvm.ClassFile.FieldType)) ∈ lw_all := lw_g (lw_at lw_m8 36 rfl) rfl
theorem q1806 : (Jvm.Cond.instanceMethod ({ cls := "GossipStairsModel", name := "removeArrow", desc := "(I)I" } : Jvm.MethodName)) ∈ lw_all := lw_g (lw_at lw_m8 38 rfl) rfl
theorem q1807 : (Jvm.Cond.selects "GossipStairsModel" ({ cls := "GossipStairsModel", name := "removeArrow", desc := "(I)I" } : Jvm.MethodName) ({ cls := "GossipStairsModel", name := "removeArrow", desc := "(I)I" } : Jvm.MethodName)) ∈ lw_all := lw_g (lw_at lw_m8 39 rfl) rfl
theorem q1808 : (Jvm.Cond.code ({ cls := "GossipStairsModel", name := "removeArrow", desc := "(I)I" } : Jvm.MethodName) prog_8_method_37_code (2 : Nat) (Option.some Jvm.ClassFile.FieldType.int)) ∈ lw_all := lw_g (lw_at lw_m8 40 rfl) rfl
theorem q1809 : (Jvm.Cond.methodLink "GossipStairsModel" (157 : Nat) ({ cls := "GossipStairsModel", name := "isArrow", desc := "(I)Z" } : Jvm.MethodName)) ∈ lw_all := lw_g (lw_at lw_m8 41 rfl) rfl
theorem q1810 : (Jvm.Cond.privateMethod ({ cls := "GossipStairsModel", name := "isArrow", desc := "(I)Z" } : Jvm.MethodName)) ∈ lw_tbl := lw_at lw_m8 42 rfl
theorem q1811 : (Jvm.Cond.instanceMethod ({ cls := "GossipStairsModel", name := "isArrow", desc := "(I)Z" } : Jvm.MethodName)) ∈ lw_all := lw_g (lw_at lw_m8 43 rfl) rfl
theorem q1812 : (Jvm.Cond.code ({ cls := "GossipStairsModel", name := "isArrow", desc := "(I)Z" } : Jvm.MethodName) prog_8_method_8_code (2 : Nat) (Option.some Jvm.ClassFile.FieldType.boolean)) ∈ lw_all := lw_g (lw_at lw_m8 44 rfl) rfl
theorem q1814 : (Jvm.Cond.instanceMethod ({ cls := "GossipStairsModel", name := "holdDown", desc := "(II)I" } : Jvm.MethodName)) ∈ lw_all := lw_g (lw_at lw_m8 46 rfl) rfl
theorem q1815 : (Jvm.Cond.selects "GossipStairsModel" ({ cls := "GossipStairsModel", name := "holdDown", desc := "(II)I" } : Jvm.MethodName) ({ cls := "GossipStairsModel", name := "holdDown", desc := "(II)I" } : Jvm.MethodName)) ∈ lw_all := lw_g (lw_at lw_m8 47 rfl) rfl
theorem q1816 : (Jvm.Cond.code ({ cls := "GossipStairsModel", name := "holdDown", desc := "(II)I" } : Jvm.MethodName) prog_8_method_38_code (4 : Nat) (Option.some Jvm.ClassFile.FieldType.int)) ∈ lw_all := lw_g (lw_at lw_m8 48 rfl) rfl
theorem q1818 : (Jvm.Cond.instanceMethod ({ cls := "GossipStairsModel", name := "sweepDown", desc := "()I" } : Jvm.MethodName)) ∈ lw_all := lw_g (lw_at lw_m8 50 rfl) rfl
theorem q1819 : (Jvm.Cond.selects "GossipStairsModel" ({ cls := "GossipStairsModel", name := "sweepDown", desc := "()I" } : Jvm.MethodName) ({ cls := "GossipStairsModel", name := "sweepDown", desc := "()I" } : Jvm.MethodName)) ∈ lw_all := lw_g (lw_at lw_m8 51 rfl) rfl
theorem q1820 : (Jvm.Cond.code ({ cls := "GossipStairsModel", name := "sweepDown", desc := "()I" } : Jvm.MethodName) prog_8_method_40_code (1 : Nat) (Option.some Jvm.ClassFile.FieldType.int)) ∈ lw_all := lw_g (lw_at lw_m8 52 rfl) rfl
theorem q1821 : (Jvm.Cond.methodLink "GossipStairsModel" (167 : Nat) ({ cls := "GossipStairsModel", name := "swept", desc := "(I)I" } : Jvm.MethodName)) ∈ lw_all := lw_g (lw_at lw_m8 53 rfl) rfl
theorem q1822 : (Jvm.Cond.privateMethod ({ cls := "GossipStairsModel", name := "swept", desc := "(I)I" } : Jvm.MethodName)) ∈ lw_tbl := lw_at lw_m8 54 rfl
theorem q1823 : (Jvm.Cond.instanceMethod ({ cls := "GossipStairsModel", name := "swept", desc := "(I)I" } : Jvm.MethodName)) ∈ lw_all := lw_g (lw_at lw_m8 55 rfl) rfl
theorem q1824 : (Jvm.Cond.code ({ cls := "GossipStairsModel", name := "swept", desc := "(I)I" } : Jvm.MethodName) prog_8_method_39_code (2 : Nat) (Option.some Jvm.ClassFile.FieldType.int)) ∈ lw_all := lw_g (lw_at lw_m8 56 rfl) rfl
theorem q1825 : (Jvm.Cond.methodLink "GossipStairsModel" (160 : Nat) ({ cls := "GossipStairsModel", name := "sweeps1", desc := "(I)V" } : Jvm.MethodName)) ∈ lw_all := lw_g (lw_at lw_m8 57 rfl) rfl
theorem q1826 : (Jvm.Cond.privateMethod ({ cls := "GossipStairsModel", name := "sweeps1", desc := "(I)V" } : Jvm.MethodName)) ∈ lw_tbl := lw_at lw_m8 58 rfl
theorem q1827 : (Jvm.Cond.instanceMethod ({ cls := "GossipStairsModel", name := "sweeps1", desc := "(I)V" } : Jvm.MethodName)) ∈ lw_all := lw_g (lw_at lw_m8 59 rfl) rfl
theorem q1828 : (Jvm.Cond.code ({ cls := "GossipStairsModel", name := "sweeps1", desc := "(I)V" } : Jvm.MethodName) prog_8_method_21_code (3 : Nat) (Option.none : Option Jvm.ClassFile.FieldType)) ∈ lw_all := lw_g (lw_at lw_m8 60 rfl) rfl
theorem q1829 : (Jvm.Cond.methodLink "GossipStairsModel" (117 : Nat) ({ cls := "GossipStairsModel", name := "sorts", desc := "(II)V" } : Jvm.MethodName)) ∈ lw_all := lw_g (lw_at lw_m8 61 rfl) rfl
theorem q1830 : (Jvm.Cond.privateMethod ({ cls := "GossipStairsModel", name := "sorts", desc := "(II)V" } : Jvm.MethodName)) ∈ lw_tbl := lw_at lw_m8 62 rfl
theorem q1831 : (Jvm.Cond.instanceMethod ({ cls := "GossipStairsModel", name := "sorts", desc := "(II)V" } : Jvm.MethodName)) ∈ lw_all := lw_g (lw_at lw_m8 63 rfl) rfl
theorem q1832 : (Jvm.Cond.code ({ cls := "GossipStairsModel", name := "sorts", desc := "(II)V" } : Jvm.MethodName) prog_8_method_20_code (7 : Nat) (Option.none : Option Jvm.ClassFile.FieldType)) ∈ lw_all := lw_g (lw_at lw_m8 64 rfl) rfl
theorem q1833 : (Jvm.Cond.methodLink "GossipStairsModel" (113 : Nat) ({ cls := "GossipStairsModel", name := "median", desc := "(III)I" } : Jvm.MethodName)) ∈ lw_all := lw_g (lw_at lw_m8 65 rfl) rfl
theorem q1834 : (Jvm.Cond.privateMethod ({ cls := "GossipStairsModel", name := "median", desc := "(III)I" } : Jvm.MethodName)) ∈ lw_tbl := lw_at lw_m8 66 rfl
theorem q1835 : (Jvm.Cond.instanceMethod ({ cls := "GossipStairsModel", name := "median", desc := "(III)I" } : Jvm.MethodName)) ∈ lw_all := lw_g (lw_at lw_m8 67 rfl) rfl
theorem q1836 : (Jvm.Cond.code ({ cls := "GossipStairsModel", name := "median", desc := "(III)I" } : Jvm.MethodName) prog_8_method_19_code (5 : Nat) (Option.some Jvm.ClassFile.FieldType.int)) ∈ lw_all := lw_g (lw_at lw_m8 68 rfl) rfl
theorem q1837 : (Jvm.Cond.methodLink "GossipStairsModel" (106 : Nat) ({ cls := "GossipStairsModel", name := "nears", desc := "(IIIZ)I" } : Jvm.MethodName)) ∈ lw_all := lw_g (lw_at lw_m8 69 rfl) rfl
theorem q1838 : (Jvm.Cond.privateMethod ({ cls := "GossipStairsModel", name := "nears", desc := "(IIIZ)I" } : Jvm.MethodName)) ∈ lw_tbl := lw_at lw_m8 70 rfl
theorem q1839 : (Jvm.Cond.instanceMethod ({ cls := "GossipStairsModel", name := "nears", desc := "(IIIZ)I" } : Jvm.MethodName)) ∈ lw_all := lw_g (lw_at lw_m8 71 rfl) rfl
theorem q1840 : (Jvm.Cond.code ({ cls := "GossipStairsModel", name := "nears", desc := "(IIIZ)I" } : Jvm.MethodName) prog_8_method_17_code (13 : Nat) (Option.some Jvm.ClassFile.FieldType.int)) ∈ lw_all := lw_g (lw_at lw_m8 72 rfl) rfl
theorem q1841 : (Jvm.Cond.methodLink "GossipStairsModel" (88 : Nat) ({ cls := "GossipStairsModel", name := "point", desc := "(II)I" } : Jvm.MethodName)) ∈ lw_all := lw_g (lw_at lw_m8 73 rfl) rfl
theorem q1842 : (Jvm.Cond.privateMethod ({ cls := "GossipStairsModel", name := "point", desc := "(II)I" } : Jvm.MethodName)) ∈ lw_tbl := lw_at lw_m8 74 rfl
theorem q1843 : (Jvm.Cond.instanceMethod ({ cls := "GossipStairsModel", name := "point", desc := "(II)I" } : Jvm.MethodName)) ∈ lw_all := lw_g (lw_at lw_m8 75 rfl) rfl
theorem q1844 : (Jvm.Cond.code ({ cls := "GossipStairsModel", name := "point", desc := "(II)I" } : Jvm.MethodName) prog_8_method_13_code (3 : Nat) (Option.some Jvm.ClassFile.FieldType.int)) ∈ lw_all := lw_g (lw_at lw_m8 76 rfl) rfl
theorem q1845 : (Jvm.Cond.methodLink "GossipStairsModel" (96 : Nat) ({ cls := "GossipStairsModel", name := "pointOf1", desc := "(II)I" } : Jvm.MethodName)) ∈ lw_all := lw_g (lw_at lw_m8 77 rfl) rfl
theorem q1846 : (Jvm.Cond.privateMethod ({ cls := "GossipStairsModel", name := "pointOf1", desc := "(II)I" } : Jvm.MethodName)) ∈ lw_tbl := lw_at lw_m8 78 rfl
theorem q1847 : (Jvm.Cond.instanceMethod ({ cls := "GossipStairsModel", name := "pointOf1", desc := "(II)I" } : Jvm.MethodName)) ∈ lw_all := lw_g (lw_at lw_m8 79 rfl) rfl
theorem q1848 : (Jvm.Cond.code ({ cls := "GossipStairsModel", name := "pointOf1", desc := "(II)I" } : Jvm.MethodName) prog_8_method_10_code (3 : Nat) (Option.some Jvm.ClassFile.FieldType.int)) ∈ lw_all := lw_g (lw_at lw_m8 80 rfl) rfl
theorem q1849 : (Jvm.Cond.methodLink "GossipStairsModel" (99 : Nat) ({ cls := "GossipStairsModel", name := "place", desc := "(II)I" } : Jvm.MethodName)) ∈ lw_all := lw_g (lw_at lw_m8 81 rfl) rfl
theorem q1850 : (Jvm.Cond.privateMethod ({ cls := "GossipStairsModel", name := "place", desc := "(II)I" } : Jvm.MethodName)) ∈ lw_tbl := lw_at lw_m8 82 rfl
theorem q1851 : (Jvm.Cond.instanceMethod ({ cls := "GossipStairsModel", name := "place", desc := "(II)I" } : Jvm.MethodName)) ∈ lw_all := lw_g (lw_at lw_m8 83 rfl) rfl
theorem q1852 : (Jvm.Cond.code ({ cls := "GossipStairsModel", name := "place", desc := "(II)I" } : Jvm.MethodName) prog_8_method_14_code (4 : Nat) (Option.some Jvm.ClassFile.FieldType.int)) ∈ lw_all := lw_g (lw_at lw_m8 84 rfl) rfl
theorem q1853 : (Jvm.Cond.methodLink "GossipStairsModel" (110 : Nat) ({ cls := "GossipStairsModel", name := "middle", desc := "(I)I" } : Jvm.MethodName)) ∈ lw_all := lw_g (lw_at lw_m8 85 rfl) rfl
theorem q1854 : (Jvm.Cond.privateMethod ({ cls := "GossipStairsModel", name := "middle", desc := "(I)I" } : Jvm.MethodName)) ∈ lw_tbl := lw_at lw_m8 86 rfl
theorem q1855 : (Jvm.Cond.instanceMethod ({ cls := "GossipStairsModel", name := "middle", desc := "(I)I" } : Jvm.MethodName)) ∈ lw_all := lw_g (lw_at lw_m8 87 rfl) rfl
theorem q1856 : (Jvm.Cond.code ({ cls := "GossipStairsModel", name := "middle", desc := "(I)I" } : Jvm.MethodName) prog_8_method_18_code (2 : Nat) (Option.some Jvm.ClassFile.FieldType.int)) ∈ lw_all := lw_g (lw_at lw_m8 88 rfl) rfl
theorem q1857 : (Jvm.Cond.methodLink "GossipStairsModel" (163 : Nat) ({ cls := "GossipStairsModel", name := "cross", desc := "()I" } : Jvm.MethodName)) ∈ lw_all := lw_g (lw_at lw_m8 89 rfl) rfl
theorem q1858 : (Jvm.Cond.privateMethod ({ cls := "GossipStairsModel", name := "cross", desc := "()I" } : Jvm.MethodName)) ∈ lw_tbl := lw_at lw_m8 90 rfl
theorem q1859 : (Jvm.Cond.instanceMethod ({ cls := "GossipStairsModel", name := "cross", desc := "()I" } : Jvm.MethodName)) ∈ lw_all := lw_g (lw_at lw_m8 91 rfl) rfl
theorem q1860 : (Jvm.Cond.code ({ cls := "GossipStairsModel", name := "cross", desc := "()I" } : Jvm.MethodName) prog_8_method_16_code (3 : Nat) (Option.some Jvm.ClassFile.FieldType.int)) ∈ lw_all := lw_g (lw_at lw_m8 92 rfl) rfl
theorem q1861 : (Jvm.Cond.methodLink "GossipStairsModel" (102 : Nat) ({ cls := "GossipStairsModel", name := "crossBelow", desc := "(I)I" } : Jvm.MethodName)) ∈ lw_all := lw_g (lw_at lw_m8 93 rfl) rfl
theorem q1862 : (Jvm.Cond.privateMethod ({ cls := "GossipStairsModel", name := "crossBelow", desc := "(I)I" } : Jvm.MethodName)) ∈ lw_tbl := lw_at lw_m8 94 rfl
theorem q1863 : (Jvm.Cond.instanceMethod ({ cls := "GossipStairsModel", name := "crossBelow", desc := "(I)I" } : Jvm.MethodName)) ∈ lw_all := lw_g (lw_at lw_m8 95 rfl) rfl
theorem q1864 : (Jvm.Cond.code ({ cls := "GossipStairsModel", name := "crossBelow", desc := "(I)I" } : Jvm.MethodName) prog_8_method_15_code (5 : Nat) (Option.some Jvm.ClassFile.FieldType.int)) ∈ lw_all := lw_g (lw_at lw_m8 96 rfl) rfl
theorem q1865 : (Jvm.Cond.methodLink "GossipStairsModel" (92 : Nat) ({ cls := "GossipStairsModel", name := "passes", desc := "(II)Z" } : Jvm.MethodName)) ∈ lw_all := lw_g (lw_at lw_m8 97 rfl) rfl
theorem q1866 : (Jvm.Cond.privateMethod ({ cls := "GossipStairsModel", name := "passes", desc := "(II)Z" } : Jvm.MethodName)) ∈ lw_tbl := lw_at lw_m8 98 rfl
theorem q1867 : (Jvm.Cond.instanceMethod ({ cls := "GossipStairsModel", name := "passes", desc := "(II)Z" } : Jvm.MethodName)) ∈ lw_all := lw_g (lw_at lw_m8 99 rfl) rfl
theorem q1868 : (Jvm.Cond.code ({ cls := "GossipStairsModel", name := "passes", desc := "(II)Z" } : Jvm.MethodName) prog_8_method_11_code (3 : Nat) (Option.some Jvm.ClassFile.FieldType.boolean)) ∈ lw_all := lw_g (lw_at lw_m8 100 rfl) rfl
theorem q1870 : (Jvm.Cond.instanceMethod ({ cls := "GossipStairsModel", name := "sweepUp", desc := "()I" } : Jvm.MethodName)) ∈ lw_all := lw_g (lw_at lw_m8 102 rfl) rfl
theorem q1871 : (Jvm.Cond.selects "GossipStairsModel" ({ cls := "GossipStairsModel", name := "sweepUp", desc := "()I" } : Jvm.MethodName) ({ cls := "GossipStairsModel", name := "sweepUp", desc := "()I" } : Jvm.MethodName)) ∈ lw_all := lw_g (lw_at lw_m8 103 rfl) rfl
theorem q1872 : (Jvm.Cond.code ({ cls := "GossipStairsModel", name := "sweepUp", desc := "()I" } : Jvm.MethodName) prog_8_method_41_code (1 : Nat) (Option.some Jvm.ClassFile.FieldType.int)) ∈ lw_all := lw_g (lw_at lw_m8 104 rfl) rfl
theorem q1874 : (Jvm.Cond.instanceMethod ({ cls := "GossipStairsModel", name := "untangle", desc := "()I" } : Jvm.MethodName)) ∈ lw_all := lw_g (lw_at lw_m8 106 rfl) rfl
theorem q1875 : (Jvm.Cond.selects "GossipStairsModel" ({ cls := "GossipStairsModel", name := "untangle", desc := "()I" } : Jvm.MethodName) ({ cls := "GossipStairsModel", name := "untangle", desc := "()I" } : Jvm.MethodName)) ∈ lw_all := lw_g (lw_at lw_m8 107 rfl) rfl
theorem q1876 : (Jvm.Cond.code ({ cls := "GossipStairsModel", name := "untangle", desc := "()I" } : Jvm.MethodName) prog_8_method_42_code (2 : Nat) (Option.some Jvm.ClassFile.FieldType.int)) ∈ lw_all := lw_g (lw_at lw_m8 108 rfl) rfl
theorem q1877 : (Jvm.Cond.methodLink "GossipStairsModel" (170 : Nat) ({ cls := "GossipStairsModel", name := "untangles", desc := "()V" } : Jvm.MethodName)) ∈ lw_all := lw_g (lw_at lw_m8 109 rfl) rfl
theorem q1878 : (Jvm.Cond.privateMethod ({ cls := "GossipStairsModel", name := "untangles", desc := "()V" } : Jvm.MethodName)) ∈ lw_tbl := lw_at lw_m8 110 rfl
theorem q1879 : (Jvm.Cond.instanceMethod ({ cls := "GossipStairsModel", name := "untangles", desc := "()V" } : Jvm.MethodName)) ∈ lw_all := lw_g (lw_at lw_m8 111 rfl) rfl
theorem q1880 : (Jvm.Cond.code ({ cls := "GossipStairsModel", name := "untangles", desc := "()V" } : Jvm.MethodName) prog_8_method_24_code (4 : Nat) (Option.none : Option Jvm.ClassFile.FieldType)) ∈ lw_all := lw_g (lw_at lw_m8 112 rfl) rfl
theorem q1881 : (Jvm.Cond.methodLink "GossipStairsModel" (121 : Nat) ({ cls := "GossipStairsModel", name := "crossAround", desc := "(I)I" } : Jvm.MethodName)) ∈ lw_all := lw_g (lw_at lw_m8 113 rfl) rfl
theorem q1882 : (Jvm.Cond.privateMethod ({ cls := "GossipStairsModel", name := "crossAround", desc := "(I)I" } : Jvm.MethodName)) ∈ lw_tbl := lw_at lw_m8 114 rfl
theorem q1883 : (Jvm.Cond.instanceMethod ({ cls := "GossipStairsModel", name := "crossAround", desc := "(I)I" } : Jvm.MethodName)) ∈ lw_all := lw_g (lw_at lw_m8 115 rfl) rfl
theorem q1884 : (Jvm.Cond.code ({ cls := "GossipStairsModel", name := "crossAround", desc := "(I)I" } : Jvm.MethodName) prog_8_method_23_code (2 : Nat) (Option.some Jvm.ClassFile.FieldType.int)) ∈ lw_all := lw_g (lw_at lw_m8 116 rfl) rfl
theorem q1885 : (Jvm.Cond.methodLink "GossipStairsModel" (124 : Nat) ({ cls := "GossipStairsModel", name := "turnsTwo", desc := "(III)V" } : Jvm.MethodName)) ∈ lw_all := lw_g (lw_at lw_m8 117 rfl) rfl
theorem q1886 : (Jvm.Cond.privateMethod ({ cls := "GossipStairsModel", name := "turnsTwo", desc := "(III)V" } : Jvm.MethodName)) ∈ lw_tbl := lw_at lw_m8 118 rfl
theorem q1887 : (Jvm.Cond.instanceMethod ({ cls := "GossipStairsModel", name := "turnsTwo", desc := "(III)V" } : Jvm.MethodName)) ∈ lw_all := lw_g (lw_at lw_m8 119 rfl) rfl
theorem q1888 : (Jvm.Cond.code ({ cls := "GossipStairsModel", name := "turnsTwo", desc := "(III)V" } : Jvm.MethodName) prog_8_method_22_code (5 : Nat) (Option.none : Option Jvm.ClassFile.FieldType)) ∈ lw_all := lw_g (lw_at lw_m8 120 rfl) rfl
theorem q1890 : (Jvm.Cond.instanceMethod ({ cls := "GossipStairsModel", name := "exchange", desc := "(III)I" } : Jvm.MethodName)) ∈ lw_all := lw_g (lw_at lw_m8 122 rfl) rfl
theorem q1891 : (Jvm.Cond.selects "GossipStairsModel" ({ cls := "GossipStairsModel", name := "exchange", desc := "(III)I" } : Jvm.MethodName) ({ cls := "GossipStairsModel", name := "exchange", desc := "(III)I" } : Jvm.MethodName)) ∈ lw_all := lw_g (lw_at lw_m8 123 rfl) rfl
theorem q1892 : (Jvm.Cond.code ({ cls := "GossipStairsModel", name := "exchange", desc := "(III)I" } : Jvm.MethodName) prog_8_method_45_code (4 : Nat) (Option.some Jvm.ClassFile.FieldType.int)) ∈ lw_all := lw_g (lw_at lw_m8 124 rfl) rfl
theorem q1893 : (Jvm.Cond.methodLink "GossipStairsModel" (176 : Nat) ({ cls := "GossipStairsModel", name := "isPlace", desc := "(II)Z" } : Jvm.MethodName)) ∈ lw_all := lw_g (lw_at lw_m8 125 rfl) rfl
theorem q1894 : (Jvm.Cond.privateMethod ({ cls := "GossipStairsModel", name := "isPlace", desc := "(II)Z" } : Jvm.MethodName)) ∈ lw_tbl := lw_at lw_m8 126 rfl
theorem q1895 : (Jvm.Cond.instanceMethod ({ cls := "GossipStairsModel", name := "isPlace", desc := "(II)Z" } : Jvm.MethodName)) ∈ lw_all := lw_g (lw_at lw_m8 127 rfl) rfl
theorem q1896 : (Jvm.Cond.code ({ cls := "GossipStairsModel", name := "isPlace", desc := "(II)Z" } : Jvm.MethodName) prog_8_method_44_code (3 : Nat) (Option.some Jvm.ClassFile.FieldType.boolean)) ∈ lw_all := lw_g (lw_at lw_m8 128 rfl) rfl
theorem q1897 : (Jvm.Cond.methodLink "GossipStairsModel" (173 : Nat) ({ cls := "GossipStairsModel", name := "isLayer", desc := "(I)Z" } : Jvm.MethodName)) ∈ lw_all := lw_g (lw_at lw_m8 129 rfl) rfl
theorem q1898 : (Jvm.Cond.privateMethod ({ cls := "GossipStairsModel", name := "isLayer", desc := "(I)Z" } : Jvm.MethodName)) ∈ lw_tbl := lw_at lw_m8 130 rfl
theorem q1899 : (Jvm.Cond.instanceMethod ({ cls := "GossipStairsModel", name := "isLayer", desc := "(I)Z" } : Jvm.MethodName)) ∈ lw_all := lw_g (lw_at lw_m8 131 rfl) rfl
theorem q1900 : (Jvm.Cond.code ({ cls := "GossipStairsModel", name := "isLayer", desc := "(I)Z" } : Jvm.MethodName) prog_8_method_43_code (2 : Nat) (Option.some Jvm.ClassFile.FieldType.boolean)) ∈ lw_all := lw_g (lw_at lw_m8 132 rfl) rfl
theorem q1902 : (Jvm.Cond.instanceMethod ({ cls := "GossipStairsModel", name := "settle", desc := "()I" } : Jvm.MethodName)) ∈ lw_all := lw_g (lw_at lw_m8 134 rfl) rfl
theorem q1903 : (Jvm.Cond.selects "GossipStairsModel" ({ cls := "GossipStairsModel", name := "settle", desc := "()I" } : Jvm.MethodName) ({ cls := "GossipStairsModel", name := "settle", desc := "()I" } : Jvm.MethodName)) ∈ lw_all := lw_g (lw_at lw_m8 135 rfl) rfl
theorem q1904 : (Jvm.Cond.code ({ cls := "GossipStairsModel", name := "settle", desc := "()I" } : Jvm.MethodName) prog_8_method_46_code (4 : Nat) (Option.some Jvm.ClassFile.FieldType.int)) ∈ lw_all := lw_g (lw_at lw_m8 136 rfl) rfl
theorem q1905 : (Jvm.Cond.methodLink "GossipStairsModel" (179 : Nat) ({ cls := "GossipStairsModel", name := "keepsOrder", desc := "([I)V" } : Jvm.MethodName)) ∈ lw_all := lw_g (lw_at lw_m8 137 rfl) rfl
theorem q1906 : (Jvm.Cond.privateMethod ({ cls := "GossipStairsModel", name := "keepsOrder", desc := "([I)V" } : Jvm.MethodName)) ∈ lw_tbl := lw_at lw_m8 138 rfl
theorem q1907 : (Jvm.Cond.instanceMethod ({ cls := "GossipStairsModel", name := "keepsOrder", desc := "([I)V" } : Jvm.MethodName)) ∈ lw_all := lw_g (lw_at lw_m8 139 rfl) rfl
theorem q1908 : (Jvm.Cond.code ({ cls := "GossipStairsModel", name := "keepsOrder", desc := "([I)V" } : Jvm.MethodName) prog_8_method_25_code (3 : Nat) (Option.none : Option Jvm.ClassFile.FieldType)) ∈ lw_all := lw_g (lw_at lw_m8 140 rfl) rfl
theorem q1909 : (Jvm.Cond.methodLink "GossipStairsModel" (183 : Nat) ({ cls := "GossipStairsModel", name := "takesOrder", desc := "([I)V" } : Jvm.MethodName)) ∈ lw_all := lw_g (lw_at lw_m8 141 rfl) rfl
theorem q1910 : (Jvm.Cond.privateMethod ({ cls := "GossipStairsModel", name := "takesOrder", desc := "([I)V" } : Jvm.MethodName)) ∈ lw_tbl := lw_at lw_m8 142 rfl
theorem q1911 : (Jvm.Cond.instanceMethod ({ cls := "GossipStairsModel", name := "takesOrder", desc := "([I)V" } : Jvm.MethodName)) ∈ lw_all := lw_g (lw_at lw_m8 143 rfl) rfl
theorem q1912 : (Jvm.Cond.code ({ cls := "GossipStairsModel", name := "takesOrder", desc := "([I)V" } : Jvm.MethodName) prog_8_method_26_code (3 : Nat) (Option.none : Option Jvm.ClassFile.FieldType)) ∈ lw_all := lw_g (lw_at lw_m8 144 rfl) rfl
theorem q1914 : (Jvm.Cond.instanceMethod ({ cls := "GossipStairsModel", name := "prune", desc := "()I" } : Jvm.MethodName)) ∈ lw_all := lw_g (lw_at lw_m8 146 rfl) rfl
theorem q1915 : (Jvm.Cond.selects "GossipStairsModel" ({ cls := "GossipStairsModel", name := "prune", desc := "()I" } : Jvm.MethodName) ({ cls := "GossipStairsModel", name := "prune", desc := "()I" } : Jvm.MethodName)) ∈ lw_all := lw_g (lw_at lw_m8 147 rfl) rfl
theorem q1916 : (Jvm.Cond.code ({ cls := "GossipStairsModel", name := "prune", desc := "()I" } : Jvm.MethodName) prog_8_method_47_code (3 : Nat) (Option.some Jvm.ClassFile.FieldType.int)) ∈ lw_all := lw_g (lw_at lw_m8 148 rfl) rfl
theorem q1917 : (Jvm.Cond.methodLink "GossipStairsModel" (186 : Nat) ({ cls := "GossipStairsModel", name := "isNew", desc := "(I)Z" } : Jvm.MethodName)) ∈ lw_all := lw_g (lw_at lw_m8 149 rfl) rfl
theorem q1918 : (Jvm.Cond.privateMethod ({ cls := "GossipStairsModel", name := "isNew", desc := "(I)Z" } : Jvm.MethodName)) ∈ lw_tbl := lw_at lw_m8 150 rfl
theorem q1919 : (Jvm.Cond.instanceMethod ({ cls := "GossipStairsModel", name := "isNew", desc := "(I)Z" } : Jvm.MethodName)) ∈ lw_all := lw_g (lw_at lw_m8 151 rfl) rfl
theorem q1920 : (Jvm.Cond.code ({ cls := "GossipStairsModel", name := "isNew", desc := "(I)Z" } : Jvm.MethodName) prog_8_method_30_code (2 : Nat) (Option.some Jvm.ClassFile.FieldType.boolean)) ∈ lw_all := lw_g (lw_at lw_m8 152 rfl) rfl
theorem q1922 : (Jvm.Cond.instanceMethod ({ cls := "GossipStairsModel", name := "turnRound", desc := "()I" } : Jvm.MethodName)) ∈ lw_all := lw_g (lw_at lw_m8 154 rfl) rfl
theorem q1923 : (Jvm.Cond.selects "GossipStairsModel" ({ cls := "GossipStairsModel", name := "turnRound", desc := "()I" } : Jvm.MethodName) ({ cls := "GossipStairsModel", name := "turnRound", desc := "()I" } : Jvm.MethodName)) ∈ lw_all := lw_g (lw_at lw_m8 155 rfl) rfl
theorem q1924 : (Jvm.Cond.code ({ cls := "GossipStairsModel", name := "turnRound", desc := "()I" } : Jvm.MethodName) prog_8_method_48_code (3 : Nat) (Option.some Jvm.ClassFile.FieldType.int)) ∈ lw_all := lw_g (lw_at lw_m8 156 rfl) rfl
theorem q1926 : (Jvm.Cond.instanceMethod ({ cls := "GossipStairsModel", name := "boxes", desc := "()I" } : Jvm.MethodName)) ∈ lw_all := lw_g (lw_at lw_m8 158 rfl) rfl
theorem q1927 : (Jvm.Cond.selects "GossipStairsModel" ({ cls := "GossipStairsModel", name := "boxes", desc := "()I" } : Jvm.MethodName) ({ cls := "GossipStairsModel", name := "boxes", desc := "()I" } : Jvm.MethodName)) ∈ lw_all := lw_g (lw_at lw_m8 159 rfl) rfl
theorem q1928 : (Jvm.Cond.code ({ cls := "GossipStairsModel", name := "boxes", desc := "()I" } : Jvm.MethodName) prog_8_method_52_code (1 : Nat) (Option.some Jvm.ClassFile.FieldType.int)) ∈ lw_all := lw_g (lw_at lw_m8 160 rfl) rfl
theorem q1929 : (Jvm.Cond.methodLink "GossipStairsModel" (189 : Nat) ({ cls := "GossipStairsModel", name := "told", desc := "(I)I" } : Jvm.MethodName)) ∈ lw_all := lw_g (lw_at lw_m8 161 rfl) rfl
theorem q1930 : (Jvm.Cond.privateMethod ({ cls := "GossipStairsModel", name := "told", desc := "(I)I" } : Jvm.MethodName)) ∈ lw_tbl := lw_at lw_m8 162 rfl
theorem q1931 : (Jvm.Cond.instanceMethod ({ cls := "GossipStairsModel", name := "told", desc := "(I)I" } : Jvm.MethodName)) ∈ lw_all := lw_g (lw_at lw_m8 163 rfl) rfl
theorem q1932 : (Jvm.Cond.code ({ cls := "GossipStairsModel", name := "told", desc := "(I)I" } : Jvm.MethodName) prog_8_method_49_code (2 : Nat) (Option.some Jvm.ClassFile.FieldType.int)) ∈ lw_all := lw_g (lw_at lw_m8 164 rfl) rfl
theorem q1934 : (Jvm.Cond.instanceMethod ({ cls := "GossipStairsModel", name := "arrows", desc := "()I" } : Jvm.MethodName)) ∈ lw_all := lw_g (lw_at lw_m8 166 rfl) rfl
theorem q1935 : (Jvm.Cond.selects "GossipStairsModel" ({ cls := "GossipStairsModel", name := "arrows", desc := "()I" } : Jvm.MethodName) ({ cls := "GossipStairsModel", name := "arrows", desc := "()I" } : Jvm.MethodName)) ∈ lw_all := lw_g (lw_at lw_m8 167 rfl) rfl
theorem q1936 : (Jvm.Cond.code ({ cls := "GossipStairsModel", name := "arrows", desc := "()I" } : Jvm.MethodName) prog_8_method_53_code (1 : Nat) (Option.some Jvm.ClassFile.FieldType.int)) ∈ lw_all := lw_g (lw_at lw_m8 168 rfl) rfl
theorem q1938 : (Jvm.Cond.instanceMethod ({ cls := "GossipStairsModel", name := "fromOf", desc := "(I)I" } : Jvm.MethodName)) ∈ lw_all := lw_g (lw_at lw_m8 170 rfl) rfl
theorem q1939 : (Jvm.Cond.selects "GossipStairsModel" ({ cls := "GossipStairsModel", name := "fromOf", desc := "(I)I" } : Jvm.MethodName) ({ cls := "GossipStairsModel", name := "fromOf", desc := "(I)I" } : Jvm.MethodName)) ∈ lw_all := lw_g (lw_at lw_m8 171 rfl) rfl
theorem q1940 : (Jvm.Cond.code ({ cls := "GossipStairsModel", name := "fromOf", desc := "(I)I" } : Jvm.MethodName) prog_8_method_54_code (2 : Nat) (Option.some Jvm.ClassFile.FieldType.int)) ∈ lw_all := lw_g (lw_at lw_m8 172 rfl) rfl
theorem q1941 : (Jvm.Cond.methodLink "GossipStairsModel" (192 : Nat) ({ cls := "GossipStairsModel", name := "ofArrow", desc := "(II)I" } : Jvm.MethodName)) ∈ lw_all := lw_g (lw_at lw_m8 173 rfl) rfl
theorem q1942 : (Jvm.Cond.privateMethod ({ cls := "GossipStairsModel", name := "ofArrow", desc := "(II)I" } : Jvm.MethodName)) ∈ lw_tbl := lw_at lw_m8 174 rfl
theorem q1943 : (Jvm.Cond.instanceMethod ({ cls := "GossipStairsModel", name := "ofArrow", desc := "(II)I" } : Jvm.MethodName)) ∈ lw_all := lw_g (lw_at lw_m8 175 rfl) rfl
theorem q1944 : (Jvm.Cond.code ({ cls := "GossipStairsModel", name := "ofArrow", desc := "(II)I" } : Jvm.MethodName) prog_8_method_50_code (3 : Nat) (Option.some Jvm.ClassFile.FieldType.int)) ∈ lw_all := lw_g (lw_at lw_m8 176 rfl) rfl
theorem q1946 : (Jvm.Cond.instanceMethod ({ cls := "GossipStairsModel", name := "toOf", desc := "(I)I" } : Jvm.MethodName)) ∈ lw_all := lw_g (lw_at lw_m8 178 rfl) rfl
theorem q1947 : (Jvm.Cond.selects "GossipStairsModel" ({ cls := "GossipStairsModel", name := "toOf", desc := "(I)I" } : Jvm.MethodName) ({ cls := "GossipStairsModel", name := "toOf", desc := "(I)I" } : Jvm.MethodName)) ∈ lw_all := lw_g (lw_at lw_m8 179 rfl) rfl
theorem q1948 : (Jvm.Cond.code ({ cls := "GossipStairsModel", name := "toOf", desc := "(I)I" } : Jvm.MethodName) prog_8_method_55_code (2 : Nat) (Option.some Jvm.ClassFile.FieldType.int)) ∈ lw_all := lw_g (lw_at lw_m8 180 rfl) rfl
theorem q1950 : (Jvm.Cond.instanceMethod ({ cls := "GossipStairsModel", name := "whyRefused", desc := "(II)I" } : Jvm.MethodName)) ∈ lw_all := lw_g (lw_at lw_m8 182 rfl) rfl
theorem q1951 : (Jvm.Cond.selects "GossipStairsModel" ({ cls := "GossipStairsModel", name := "whyRefused", desc := "(II)I" } : Jvm.MethodName) ({ cls := "GossipStairsModel", name := "whyRefused", desc := "(II)I" } : Jvm.MethodName)) ∈ lw_all := lw_g (lw_at lw_m8 183 rfl) rfl
theorem q1952 : (Jvm.Cond.code ({ cls := "GossipStairsModel", name := "whyRefused", desc := "(II)I" } : Jvm.MethodName) prog_8_method_56_code (3 : Nat) (Option.some Jvm.ClassFile.FieldType.int)) ∈ lw_all := lw_g (lw_at lw_m8 184 rfl) rfl
theorem q1953 : (Jvm.Cond.methodLink "GossipStairsModel" (195 : Nat) ({ cls := "GossipStairsModel", name := "areBoxes", desc := "(II)Z" } : Jvm.MethodName)) ∈ lw_all := lw_g (lw_at lw_m8 185 rfl) rfl
theorem q1954 : (Jvm.Cond.privateMethod ({ cls := "GossipStairsModel", name := "areBoxes", desc := "(II)Z" } : Jvm.MethodName)) ∈ lw_tbl := lw_at lw_m8 186 rfl
theorem q1955 : (Jvm.Cond.instanceMethod ({ cls := "GossipStairsModel", name := "areBoxes", desc := "(II)Z" } : Jvm.MethodName)) ∈ lw_all := lw_g (lw_at lw_m8 187 rfl) rfl
theorem q1956 : (Jvm.Cond.code ({ cls := "GossipStairsModel", name := "areBoxes", desc := "(II)Z" } : Jvm.MethodName) prog_8_method_51_code (3 : Nat) (Option.some Jvm.ClassFile.FieldType.boolean)) ∈ lw_all := lw_g (lw_at lw_m8 188 rfl) rfl
theorem q1958 : (Jvm.Cond.instanceMethod ({ cls := "GossipStairsModel", name := "whyNoChain", desc := "(III)I" } : Jvm.MethodName)) ∈ lw_all := lw_g (lw_at lw_m8 190 rfl) rfl
theorem q1959 : (Jvm.Cond.selects "GossipStairsModel" ({ cls := "GossipStairsModel", name := "whyNoChain", desc := "(III)I" } : Jvm.MethodName) ({ cls := "GossipStairsModel", name := "whyNoChain", desc := "(III)I" } : Jvm.MethodName)) ∈ lw_all := lw_g (lw_at lw_m8 191 rfl) rfl
theorem q1960 : (Jvm.Cond.code ({ cls := "GossipStairsModel", name := "whyNoChain", desc := "(III)I" } : Jvm.MethodName) prog_8_method_57_code (4 : Nat) (Option.some Jvm.ClassFile.FieldType.int)) ∈ lw_all := lw_g (lw_at lw_m8 192 rfl) rfl
theorem q1962 : (Jvm.Cond.instanceMethod ({ cls := "GossipStairsModel", name := "doesHear", desc := "(II)Z" } : Jvm.MethodName)) ∈ lw_all := lw_g (lw_at lw_m8 194 rfl) rfl
theorem q1963 : (Jvm.Cond.selects "GossipStairsModel" ({ cls := "GossipStairsModel", name := "doesHear", desc := "(II)Z" } : Jvm.MethodName) ({ cls := "GossipStairsModel", name := "doesHear", desc := "(II)Z" } : Jvm.MethodName)) ∈ lw_all := lw_g (lw_at lw_m8 195 rfl) rfl
theorem q1964 : (Jvm.Cond.code ({ cls := "GossipStairsModel", name := "doesHear", desc := "(II)Z" } : Jvm.MethodName) prog_8_method_58_code (3 : Nat) (Option.some Jvm.ClassFile.FieldType.boolean)) ∈ lw_all := lw_g (lw_at lw_m8 196 rfl) rfl
theorem q1966 : (Jvm.Cond.instanceMethod ({ cls := "GossipStairsModel", name := "hears", desc := "(I)I" } : Jvm.MethodName)) ∈ lw_all := lw_g (lw_at lw_m8 198 rfl) rfl
theorem q1967 : (Jvm.Cond.selects "GossipStairsModel" ({ cls := "GossipStairsModel", name := "hears", desc := "(I)I" } : Jvm.MethodName) ({ cls := "GossipStairsModel", name := "hears", desc := "(I)I" } : Jvm.MethodName)) ∈ lw_all := lw_g (lw_at lw_m8 199 rfl) rfl
theorem q1968 : (Jvm.Cond.code ({ cls := "GossipStairsModel", name := "hears", desc := "(I)I" } : Jvm.MethodName) prog_8_method_59_code (2 : Nat) (Option.some Jvm.ClassFile.FieldType.int)) ∈ lw_all := lw_g (lw_at lw_m8 200 rfl) rfl
theorem q1970 : (Jvm.Cond.instanceMethod ({ cls := "GossipStairsModel", name := "isNeedless", desc := "(I)Z" } : Jvm.MethodName)) ∈ lw_all := lw_g (lw_at lw_m8 202 rfl) rfl
theorem q1971 : (Jvm.Cond.selects "GossipStairsModel" ({ cls := "GossipStairsModel", name := "isNeedless", desc := "(I)Z" } : Jvm.MethodName) ({ cls := "GossipStairsModel", name := "isNeedless", desc := "(I)Z" } : Jvm.MethodName)) ∈ lw_all := lw_g (lw_at lw_m8 203 rfl) rfl
theorem q1972 : (Jvm.Cond.code ({ cls := "GossipStairsModel", name := "isNeedless", desc := "(I)Z" } : Jvm.MethodName) prog_8_method_60_code (2 : Nat) (Option.some Jvm.ClassFile.FieldType.boolean)) ∈ lw_all := lw_g (lw_at lw_m8 204 rfl) rfl
theorem q1974 : (Jvm.Cond.instanceMethod ({ cls := "GossipStairsModel", name := "needless", desc := "()I" } : Jvm.MethodName)) ∈ lw_all := lw_g (lw_at lw_m8 206 rfl) rfl
theorem q1975 : (Jvm.Cond.selects "GossipStairsModel" ({ cls := "GossipStairsModel", name := "needless", desc := "()I" } : Jvm.MethodName) ({ cls := "GossipStairsModel", name := "needless", desc := "()I" } : Jvm.MethodName)) ∈ lw_all := lw_g (lw_at lw_m8 207 rfl) rfl
theorem q1976 : (Jvm.Cond.code ({ cls := "GossipStairsModel", name := "needless", desc := "()I" } : Jvm.MethodName) prog_8_method_61_code (3 : Nat) (Option.some Jvm.ClassFile.FieldType.int)) ∈ lw_all := lw_g (lw_at lw_m8 208 rfl) rfl
theorem q1978 : (Jvm.Cond.instanceMethod ({ cls := "GossipStairsModel", name := "ways", desc := "(II)I" } : Jvm.MethodName)) ∈ lw_all := lw_g (lw_at lw_m8 210 rfl) rfl
theorem q1979 : (Jvm.Cond.selects "GossipStairsModel" ({ cls := "GossipStairsModel", name := "ways", desc := "(II)I" } : Jvm.MethodName) ({ cls := "GossipStairsModel", name := "ways", desc := "(II)I" } : Jvm.MethodName)) ∈ lw_all := lw_g (lw_at lw_m8 211 rfl) rfl
theorem q1980 : (Jvm.Cond.code ({ cls := "GossipStairsModel", name := "ways", desc := "(II)I" } : Jvm.MethodName) prog_8_method_64_code (3 : Nat) (Option.some Jvm.ClassFile.FieldType.int)) ∈ lw_all := lw_g (lw_at lw_m8 212 rfl) rfl
theorem q1981 : (Jvm.Cond.methodLink "GossipStairsModel" (201 : Nat) ({ cls := "GossipStairsModel", name := "countWays", desc := "(II)I" } : Jvm.MethodName)) ∈ lw_all := lw_g (lw_at lw_m8 213 rfl) rfl
theorem q1982 : (Jvm.Cond.privateMethod ({ cls := "GossipStairsModel", name := "countWays", desc := "(II)I" } : Jvm.MethodName)) ∈ lw_tbl := lw_at lw_m8 214 rfl
theorem q1983 : (Jvm.Cond.instanceMethod ({ cls := "GossipStairsModel", name := "countWays", desc := "(II)I" } : Jvm.MethodName)) ∈ lw_all := lw_g (lw_at lw_m8 215 rfl) rfl
theorem q1984 : (Jvm.Cond.code ({ cls := "GossipStairsModel", name := "countWays", desc := "(II)I" } : Jvm.MethodName) prog_8_method_63_code (3 : Nat) (Option.some Jvm.ClassFile.FieldType.int)) ∈ lw_all := lw_g (lw_at lw_m8 216 rfl) rfl
theorem q1985 : (Jvm.Cond.methodLink "GossipStairsModel" (198 : Nat) ({ cls := "GossipStairsModel", name := "walksTo", desc := "(III)I" } : Jvm.MethodName)) ∈ lw_all := lw_g (lw_at lw_m8 217 rfl) rfl
theorem q1986 : (Jvm.Cond.privateMethod ({ cls := "GossipStairsModel", name := "walksTo", desc := "(III)I" } : Jvm.MethodName)) ∈ lw_tbl := lw_at lw_m8 218 rfl
theorem q1987 : (Jvm.Cond.instanceMethod ({ cls := "GossipStairsModel", name := "walksTo", desc := "(III)I" } : Jvm.MethodName)) ∈ lw_all := lw_g (lw_at lw_m8 219 rfl) rfl
theorem q1988 : (Jvm.Cond.code ({ cls := "GossipStairsModel", name := "walksTo", desc := "(III)I" } : Jvm.MethodName) prog_8_method_62_code (9 : Nat) (Option.some Jvm.ClassFile.FieldType.int)) ∈ lw_all := lw_g (lw_at lw_m8 220 rfl) rfl
theorem q1990 : (Jvm.Cond.instanceMethod ({ cls := "GossipStairsModel", name := "waysByGoingBack", desc := "(II)I" } : Jvm.MethodName)) ∈ lw_all := lw_g (lw_at lw_m8 222 rfl) rfl
theorem q1991 : (Jvm.Cond.selects "GossipStairsModel" ({ cls := "GossipStairsModel", name := "waysByGoingBack", desc := "(II)I" } : Jvm.MethodName) ({ cls := "GossipStairsModel", name := "waysByGoingBack", desc := "(II)I" } : Jvm.MethodName)) ∈ lw_all := lw_g (lw_at lw_m8 223 rfl) rfl
theorem q1992 : (Jvm.Cond.code ({ cls := "GossipStairsModel", name := "waysByGoingBack", desc := "(II)I" } : Jvm.MethodName) prog_8_method_65_code (3 : Nat) (Option.some Jvm.ClassFile.FieldType.int)) ∈ lw_all := lw_g (lw_at lw_m8 224 rfl) rfl
theorem q1994 : (Jvm.Cond.instanceMethod ({ cls := "GossipStairsModel", name := "fewestArrows", desc := "(II)I" } : Jvm.MethodName)) ∈ lw_all := lw_g (lw_at lw_m8 226 rfl) rfl
theorem q1995 : (Jvm.Cond.selects "GossipStairsModel" ({ cls := "GossipStairsModel", name := "fewestArrows", desc := "(II)I" } : Jvm.MethodName) ({ cls := "GossipStairsModel", name := "fewestArrows", desc := "(II)I" } : Jvm.MethodName)) ∈ lw_all := lw_g (lw_at lw_m8 227 rfl) rfl
theorem q1996 : (Jvm.Cond.code ({ cls := "GossipStairsModel", name := "fewestArrows", desc := "(II)I" } : Jvm.MethodName) prog_8_method_67_code (3 : Nat) (Option.some Jvm.ClassFile.FieldType.int)) ∈ lw_all := lw_g (lw_at lw_m8 228 rfl) rfl
theorem q1997 : (Jvm.Cond.methodLink "GossipStairsModel" (207 : Nat) ({ cls := "GossipStairsModel", name := "arrowsOn", desc := "(III)I" } : Jvm.MethodName)) ∈ lw_all := lw_g (lw_at lw_m8 229 rfl) rfl
theorem q1998 : (Jvm.Cond.privateMethod ({ cls := "GossipStairsModel", name := "arrowsOn", desc := "(III)I" } : Jvm.MethodName)) ∈ lw_tbl := lw_at lw_m8 230 rfl
theorem q1999 : (Jvm.Cond.instanceMethod ({ cls := "GossipStairsModel", name := "arrowsOn", desc := "(III)I" } : Jvm.MethodName)) ∈ lw_all := lw_g (lw_at lw_m8 231 rfl) rfl
theorem q2000 : (Jvm.Cond.code ({ cls := "GossipStairsModel", name := "arrowsOn", desc := "(III)I" } : Jvm.MethodName) prog_8_method_66_code (5 : Nat) (Option.some Jvm.ClassFile.FieldType.int)) ∈ lw_all := lw_g (lw_at lw_m8 232 rfl) rfl
theorem q2001 : (Jvm.Cond.methodLink "GossipStairsModel" (204 : Nat) ({ cls := "GossipStairsModel", name := "fails", desc := "(I)I" } : Jvm.MethodName)) ∈ lw_all := lw_g (lw_at lw_m8 233 rfl) rfl
theorem q2002 : (Jvm.Cond.privateMethod ({ cls := "GossipStairsModel", name := "fails", desc := "(I)I" } : Jvm.MethodName)) ∈ lw_tbl := lw_at lw_m8 234 rfl
theorem q2003 : (Jvm.Cond.instanceMethod ({ cls := "GossipStairsModel", name := "fails", desc := "(I)I" } : Jvm.MethodName)) ∈ lw_all := lw_g (lw_at lw_m8 235 rfl) rfl
theorem q2004 : (Jvm.Cond.code ({ cls := "GossipStairsModel", name := "fails", desc := "(I)I" } : Jvm.MethodName) prog_8_method_4_code (2 : Nat) (Option.some Jvm.ClassFile.FieldType.int)) ∈ lw_all := lw_g (lw_at lw_m8 236 rfl) rfl
theorem q2006 : (Jvm.Cond.instanceMethod ({ cls := "GossipStairsModel", name := "mostArrows", desc := "(II)I" } : Jvm.MethodName)) ∈ lw_all := lw_g (lw_at lw_m8 238 rfl) rfl
theorem q2007 : (Jvm.Cond.selects "GossipStairsModel" ({ cls := "GossipStairsModel", name := "mostArrows", desc := "(II)I" } : Jvm.MethodName) ({ cls := "GossipStairsModel", name := "mostArrows", desc := "(II)I" } : Jvm.MethodName)) ∈ lw_all := lw_g (lw_at lw_m8 239 rfl) rfl
theorem q2008 : (Jvm.Cond.code ({ cls := "GossipStairsModel", name := "mostArrows", desc := "(II)I" } : Jvm.MethodName) prog_8_method_68_code (3 : Nat) (Option.some Jvm.ClassFile.FieldType.int)) ∈ lw_all := lw_g (lw_at lw_m9 0 rfl) rfl
theorem q2010 : (Jvm.Cond.instanceMethod ({ cls := "GossipStairsModel", name := "firstTellers", desc := "()I" } : Jvm.MethodName)) ∈ lw_all := lw_g (lw_at lw_m9 2 rfl) rfl
theorem q2011 : (Jvm.Cond.selects "GossipStairsModel" ({ cls := "GossipStairsModel", name := "firstTellers", desc := "()I" } : Jvm.MethodName) ({ cls := "GossipStairsModel", name := "firstTellers", desc := "()I" } : Jvm.MethodName)) ∈ lw_all := lw_g (lw_at lw_m9 3 rfl) rfl
theorem q2012 : (Jvm.Cond.code ({ cls := "GossipStairsModel", name := "firstTellers", desc := "()I" } : Jvm.MethodName) prog_8_method_70_code (1 : Nat) (Option.some Jvm.ClassFile.FieldType.int)) ∈ lw_all := lw_g (lw_at lw_m9 4 rfl) rfl
theorem q2013 : (Jvm.Cond.methodLink "GossipStairsModel" (210 : Nat) ({ cls := "GossipStairsModel", name := "without", desc := "(I)I" } : Jvm.MethodName)) ∈ lw_all := lw_g (lw_at lw_m9 5 rfl) rfl
theorem q2014 : (Jvm.Cond.privateMethod ({ cls := "GossipStairsModel", name := "without", desc := "(I)I" } : Jvm.MethodName)) ∈ lw_tbl := lw_at lw_m9 6 rfl
theorem q2015 : (Jvm.Cond.instanceMethod ({ cls := "GossipStairsModel", name := "without", desc := "(I)I" } : Jvm.MethodName)) ∈ lw_all := lw_g (lw_at lw_m9 7 rfl) rfl
theorem q2016 : (Jvm.Cond.code ({ cls := "GossipStairsModel", name := "without", desc := "(I)I" } : Jvm.MethodName) prog_8_method_69_code (4 : Nat) (Option.some Jvm.ClassFile.FieldType.int)) ∈ lw_all := lw_g (lw_at lw_m9 8 rfl) rfl
theorem q2018 : (Jvm.Cond.instanceMethod ({ cls := "GossipStairsModel", name := "lastHearers", desc := "()I" } : Jvm.MethodName)) ∈ lw_all := lw_g (lw_at lw_m9 10 rfl) rfl
theorem q2019 : (Jvm.Cond.selects "GossipStairsModel" ({ cls := "GossipStairsModel", name := "lastHearers", desc := "()I" } : Jvm.MethodName) ({ cls := "GossipStairsModel", name := "lastHearers", desc := "()I" } : Jvm.MethodName)) ∈ lw_all := lw_g (lw_at lw_m9 11 rfl) rfl
theorem q2020 : (Jvm.Cond.code ({ cls := "GossipStairsModel", name := "lastHearers", desc := "()I" } : Jvm.MethodName) prog_8_method_71_code (1 : Nat) (Option.some Jvm.ClassFile.FieldType.int)) ∈ lw_all := lw_g (lw_at lw_m9 12 rfl) rfl
theorem q2022 : (Jvm.Cond.instanceMethod ({ cls := "GossipStairsModel", name := "layerOf", desc := "(I)I" } : Jvm.MethodName)) ∈ lw_all := lw_g (lw_at lw_m9 14 rfl) rfl
theorem q2023 : (Jvm.Cond.selects "GossipStairsModel" ({ cls := "GossipStairsModel", name := "layerOf", desc := "(I)I" } : Jvm.MethodName) ({ cls := "GossipStairsModel", name := "layerOf", desc := "(I)I" } : Jvm.MethodName)) ∈ lw_all := lw_g (lw_at lw_m9 15 rfl) rfl
theorem q2024 : (Jvm.Cond.code ({ cls := "GossipStairsModel", name := "layerOf", desc := "(I)I" } : Jvm.MethodName) prog_8_method_73_code (2 : Nat) (Option.some Jvm.ClassFile.FieldType.int)) ∈ lw_all := lw_g (lw_at lw_m9 16 rfl) rfl
theorem q2025 : (Jvm.Cond.methodLink "GossipStairsModel" (213 : Nat) ({ cls := "GossipStairsModel", name := "layerNow", desc := "(I)I" } : Jvm.MethodName)) ∈ lw_all := lw_g (lw_at lw_m9 17 rfl) rfl
theorem q2026 : (Jvm.Cond.privateMethod ({ cls := "GossipStairsModel", name := "layerNow", desc := "(I)I" } : Jvm.MethodName)) ∈ lw_tbl := lw_at lw_m9 18 rfl
theorem q2027 : (Jvm.Cond.instanceMethod ({ cls := "GossipStairsModel", name := "layerNow", desc := "(I)I" } : Jvm.MethodName)) ∈ lw_all := lw_g (lw_at lw_m9 19 rfl) rfl
theorem q2028 : (Jvm.Cond.code ({ cls := "GossipStairsModel", name := "layerNow", desc := "(I)I" } : Jvm.MethodName) prog_8_method_72_code (2 : Nat) (Option.some Jvm.ClassFile.FieldType.int)) ∈ lw_all := lw_g (lw_at lw_m9 20 rfl) rfl
theorem q2030 : (Jvm.Cond.instanceMethod ({ cls := "GossipStairsModel", name := "layerByGoingBack", desc := "(I)I" } : Jvm.MethodName)) ∈ lw_all := lw_g (lw_at lw_m9 22 rfl) rfl
theorem q2031 : (Jvm.Cond.selects "GossipStairsModel" ({ cls := "GossipStairsModel", name := "layerByGoingBack", desc := "(I)I" } : Jvm.MethodName) ({ cls := "GossipStairsModel", name := "layerByGoingBack", desc := "(I)I" } : Jvm.MethodName)) ∈ lw_all := lw_g (lw_at lw_m9 23 rfl) rfl
theorem q2032 : (Jvm.Cond.code ({ cls := "GossipStairsModel", name := "layerByGoingBack", desc := "(I)I" } : Jvm.MethodName) prog_8_method_74_code (2 : Nat) (Option.some Jvm.ClassFile.FieldType.int)) ∈ lw_all := lw_g (lw_at lw_m9 24 rfl) rfl
theorem q2034 : (Jvm.Cond.instanceMethod ({ cls := "GossipStairsModel", name := "leastOf", desc := "(I)I" } : Jvm.MethodName)) ∈ lw_all := lw_g (lw_at lw_m9 26 rfl) rfl
theorem q2035 : (Jvm.Cond.selects "GossipStairsModel" ({ cls := "GossipStairsModel", name := "leastOf", desc := "(I)I" } : Jvm.MethodName) ({ cls := "GossipStairsModel", name := "leastOf", desc := "(I)I" } : Jvm.MethodName)) ∈ lw_all := lw_g (lw_at lw_m9 27 rfl) rfl
theorem q2036 : (Jvm.Cond.code ({ cls := "GossipStairsModel", name := "leastOf", desc := "(I)I" } : Jvm.MethodName) prog_8_method_75_code (2 : Nat) (Option.some Jvm.ClassFile.FieldType.int)) ∈ lw_all := lw_g (lw_at lw_m9 28 rfl) rfl
theorem q2038 : (Jvm.Cond.instanceMethod ({ cls := "GossipStairsModel", name := "layers", desc := "()I" } : Jvm.MethodName)) ∈ lw_all := lw_g (lw_at lw_m9 30 rfl) rfl
theorem q2039 : (Jvm.Cond.selects "GossipStairsModel" ({ cls := "GossipStairsModel", name := "layers", desc := "()I" } : Jvm.MethodName) ({ cls := "GossipStairsModel", name := "layers", desc := "()I" } : Jvm.MethodName)) ∈ lw_all := lw_g (lw_at lw_m9 31 rfl) rfl
theorem q2040 : (Jvm.Cond.code ({ cls := "GossipStairsModel", name := "layers", desc := "()I" } : Jvm.MethodName) prog_8_method_76_code (1 : Nat) (Option.some Jvm.ClassFile.FieldType.int)) ∈ lw_all := lw_g (lw_at lw_m9 32 rfl) rfl
theorem q2042 : (Jvm.Cond.instanceMethod ({ cls := "GossipStairsModel", name := "spanOf", desc := "(I)I" } : Jvm.MethodName)) ∈ lw_all := lw_g (lw_at lw_m9 34 rfl) rfl
theorem q2043 : (Jvm.Cond.selects "GossipStairsModel" ({ cls := "GossipStairsModel", name := "spanOf", desc := "(I)I" } : Jvm.MethodName) ({ cls := "GossipStairsModel", name := "spanOf", desc := "(I)I" } : Jvm.MethodName)) ∈ lw_all := lw_g (lw_at lw_m9 35 rfl) rfl
theorem q2044 : (Jvm.Cond.code ({ cls := "GossipStairsModel", name := "spanOf", desc := "(I)I" } : Jvm.MethodName) prog_8_method_77_code (2 : Nat) (Option.some Jvm.ClassFile.FieldType.int)) ∈ lw_all := lw_g (lw_at lw_m9 36 rfl) rfl
theorem q2046 : (Jvm.Cond.instanceMethod ({ cls := "GossipStairsModel", name := "pointsOf", desc := "(I)I" } : Jvm.MethodName)) ∈ lw_all := lw_g (lw_at lw_m9 38 rfl) rfl
theorem q2047 : (Jvm.Cond.selects "GossipStairsModel" ({ cls := "GossipStairsModel", name := "pointsOf", desc := "(I)I" } : Jvm.MethodName) ({ cls := "GossipStairsModel", name := "pointsOf", desc := "(I)I" } : Jvm.MethodName)) ∈ lw_all := lw_g (lw_at lw_m9 39 rfl) rfl
theorem q2048 : (Jvm.Cond.code ({ cls := "GossipStairsModel", name := "pointsOf", desc := "(I)I" } : Jvm.MethodName) prog_8_method_78_code (2 : Nat) (Option.some Jvm.ClassFile.FieldType.int)) ∈ lw_all := lw_g (lw_at lw_m9 40 rfl) rfl
theorem q2050 : (Jvm.Cond.instanceMethod ({ cls := "GossipStairsModel", name := "arrowPoints", desc := "()I" } : Jvm.MethodName)) ∈ lw_all := lw_g (lw_at lw_m9 42 rfl) rfl
theorem q2051 : (Jvm.Cond.selects "GossipStairsModel" ({ cls := "GossipStairsModel", name := "arrowPoints", desc := "()I" } : Jvm.MethodName) ({ cls := "GossipStairsModel", name := "arrowPoints", desc := "()I" } : Jvm.MethodName)) ∈ lw_all := lw_g (lw_at lw_m9 43 rfl) rfl
theorem q2052 : (Jvm.Cond.code ({ cls := "GossipStairsModel", name := "arrowPoints", desc := "()I" } : Jvm.MethodName) prog_8_method_80_code (1 : Nat) (Option.some Jvm.ClassFile.FieldType.int)) ∈ lw_all := lw_g (lw_at lw_m9 44 rfl) rfl
theorem q2053 : (Jvm.Cond.methodLink "GossipStairsModel" (216 : Nat) ({ cls := "GossipStairsModel", name := "all", desc := "()I" } : Jvm.MethodName)) ∈ lw_all := lw_g (lw_at lw_m9 45 rfl) rfl
theorem q2054 : (Jvm.Cond.privateMethod ({ cls := "GossipStairsModel", name := "all", desc := "()I" } : Jvm.MethodName)) ∈ lw_tbl := lw_at lw_m9 46 rfl
theorem q2055 : (Jvm.Cond.instanceMethod ({ cls := "GossipStairsModel", name := "all", desc := "()I" } : Jvm.MethodName)) ∈ lw_all := lw_g (lw_at lw_m9 47 rfl) rfl
theorem q2056 : (Jvm.Cond.code ({ cls := "GossipStairsModel", name := "all", desc := "()I" } : Jvm.MethodName) prog_8_method_79_code (3 : Nat) (Option.some Jvm.ClassFile.FieldType.int)) ∈ lw_all := lw_g (lw_at lw_m9 48 rfl) rfl
theorem q2058 : (Jvm.Cond.instanceMethod ({ cls := "GossipStairsModel", name := "pointAt", desc := "(II)I" } : Jvm.MethodName)) ∈ lw_all := lw_g (lw_at lw_m9 50 rfl) rfl
theorem q2059 : (Jvm.Cond.selects "GossipStairsModel" ({ cls := "GossipStairsModel", name := "pointAt", desc := "(II)I" } : Jvm.MethodName) ({ cls := "GossipStairsModel", name := "pointAt", desc := "(II)I" } : Jvm.MethodName)) ∈ lw_all := lw_g (lw_at lw_m9 51 rfl) rfl
theorem q2060 : (Jvm.Cond.code ({ cls := "GossipStairsModel", name := "pointAt", desc := "(II)I" } : Jvm.MethodName) prog_8_method_82_code (3 : Nat) (Option.some Jvm.ClassFile.FieldType.int)) ∈ lw_all := lw_g (lw_at lw_m9 52 rfl) rfl
theorem q2061 : (Jvm.Cond.methodLink "GossipStairsModel" (219 : Nat) ({ cls := "GossipStairsModel", name := "isPoint", desc := "(II)Z" } : Jvm.MethodName)) ∈ lw_all := lw_g (lw_at lw_m9 53 rfl) rfl
theorem q2062 : (Jvm.Cond.privateMethod ({ cls := "GossipStairsModel", name := "isPoint", desc := "(II)Z" } : Jvm.MethodName)) ∈ lw_tbl := lw_at lw_m9 54 rfl
theorem q2063 : (Jvm.Cond.instanceMethod ({ cls := "GossipStairsModel", name := "isPoint", desc := "(II)Z" } : Jvm.MethodName)) ∈ lw_all := lw_g (lw_at lw_m9 55 rfl) rfl
theorem q2064 : (Jvm.Cond.code ({ cls := "GossipStairsModel", name := "isPoint", desc := "(II)Z" } : Jvm.MethodName) prog_8_method_81_code (3 : Nat) (Option.some Jvm.ClassFile.FieldType.boolean)) ∈ lw_all := lw_g (lw_at lw_m9 56 rfl) rfl
theorem q2066 : (Jvm.Cond.instanceMethod ({ cls := "GossipStairsModel", name := "placeOf", desc := "(I)I" } : Jvm.MethodName)) ∈ lw_all := lw_g (lw_at lw_m9 58 rfl) rfl
theorem q2067 : (Jvm.Cond.selects "GossipStairsModel" ({ cls := "GossipStairsModel", name := "placeOf", desc := "(I)I" } : Jvm.MethodName) ({ cls := "GossipStairsModel", name := "placeOf", desc := "(I)I" } : Jvm.MethodName)) ∈ lw_all := lw_g (lw_at lw_m9 59 rfl) rfl
theorem q2068 : (Jvm.Cond.code ({ cls := "GossipStairsModel", name := "placeOf", desc := "(I)I" } : Jvm.MethodName) prog_8_method_83_code (2 : Nat) (Option.some Jvm.ClassFile.FieldType.int)) ∈ lw_all := lw_g (lw_at lw_m9 60 rfl) rfl
theorem q2070 : (Jvm.Cond.instanceMethod ({ cls := "GossipStairsModel", name := "medianAbove", desc := "(II)I" } : Jvm.MethodName)) ∈ lw_all := lw_g (lw_at lw_m9 62 rfl) rfl
theorem q2071 : (Jvm.Cond.selects "GossipStairsModel" ({ cls := "GossipStairsModel", name := "medianAbove", desc := "(II)I" } : Jvm.MethodName) ({ cls := "GossipStairsModel", name := "medianAbove", desc := "(II)I" } : Jvm.MethodName)) ∈ lw_all := lw_g (lw_at lw_m9 63 rfl) rfl
theorem q2072 : (Jvm.Cond.code ({ cls := "GossipStairsModel", name := "medianAbove", desc := "(II)I" } : Jvm.MethodName) prog_8_method_84_code (3 : Nat) (Option.some Jvm.ClassFile.FieldType.int)) ∈ lw_all := lw_g (lw_at lw_m9 64 rfl) rfl
theorem q2074 : (Jvm.Cond.instanceMethod ({ cls := "GossipStairsModel", name := "medianBelow", desc := "(II)I" } : Jvm.MethodName)) ∈ lw_all := lw_g (lw_at lw_m9 66 rfl) rfl
theorem q2075 : (Jvm.Cond.selects "GossipStairsModel" ({ cls := "GossipStairsModel", name := "medianBelow", desc := "(II)I" } : Jvm.MethodName) ({ cls := "GossipStairsModel", name := "medianBelow", desc := "(II)I" } : Jvm.MethodName)) ∈ lw_all := lw_g (lw_at lw_m9 67 rfl) rfl
theorem q2076 : (Jvm.Cond.code ({ cls := "GossipStairsModel", name := "medianBelow", desc := "(II)I" } : Jvm.MethodName) prog_8_method_85_code (3 : Nat) (Option.some Jvm.ClassFile.FieldType.int)) ∈ lw_all := lw_g (lw_at lw_m9 68 rfl) rfl
theorem q2078 : (Jvm.Cond.instanceMethod ({ cls := "GossipStairsModel", name := "crowdedLayer", desc := "()I" } : Jvm.MethodName)) ∈ lw_all := lw_g (lw_at lw_m9 70 rfl) rfl
theorem q2079 : (Jvm.Cond.selects "GossipStairsModel" ({ cls := "GossipStairsModel", name := "crowdedLayer", desc := "()I" } : Jvm.MethodName) ({ cls := "GossipStairsModel", name := "crowdedLayer", desc := "()I" } : Jvm.MethodName)) ∈ lw_all := lw_g (lw_at lw_m9 71 rfl) rfl
theorem q2080 : (Jvm.Cond.code ({ cls := "GossipStairsModel", name := "crowdedLayer", desc := "()I" } : Jvm.MethodName) prog_8_method_86_code (3 : Nat) (Option.some Jvm.ClassFile.FieldType.int)) ∈ lw_all := lw_g (lw_at lw_m9 72 rfl) rfl
theorem q2082 : (Jvm.Cond.instanceMethod ({ cls := "GossipStairsModel", name := "crossings", desc := "()I" } : Jvm.MethodName)) ∈ lw_all := lw_g (lw_at lw_m9 74 rfl) rfl
theorem q2083 : (Jvm.Cond.selects "GossipStairsModel" ({ cls := "GossipStairsModel", name := "crossings", desc := "()I" } : Jvm.MethodName) ({ cls := "GossipStairsModel", name := "crossings", desc := "()I" } : Jvm.MethodName)) ∈ lw_all := lw_g (lw_at lw_m9 75 rfl) rfl
theorem q2084 : (Jvm.Cond.code ({ cls := "GossipStairsModel", name := "crossings", desc := "()I" } : Jvm.MethodName) prog_8_method_88_code (1 : Nat) (Option.some Jvm.ClassFile.FieldType.int)) ∈ lw_all := lw_g (lw_at lw_m9 76 rfl) rfl
theorem q2085 : (Jvm.Cond.methodLink "GossipStairsModel" (222 : Nat) ({ cls := "GossipStairsModel", name := "crossed", desc := "()I" } : Jvm.MethodName)) ∈ lw_all := lw_g (lw_at lw_m9 77 rfl) rfl
theorem q2086 : (Jvm.Cond.privateMethod ({ cls := "GossipStairsModel", name := "crossed", desc := "()I" } : Jvm.MethodName)) ∈ lw_tbl := lw_at lw_m9 78 rfl
theorem q2087 : (Jvm.Cond.instanceMethod ({ cls := "GossipStairsModel", name := "crossed", desc := "()I" } : Jvm.MethodName)) ∈ lw_all := lw_g (lw_at lw_m9 79 rfl) rfl
theorem q2088 : (Jvm.Cond.code ({ cls := "GossipStairsModel", name := "crossed", desc := "()I" } : Jvm.MethodName) prog_8_method_87_code (1 : Nat) (Option.some Jvm.ClassFile.FieldType.int)) ∈ lw_all := lw_g (lw_at lw_m9 80 rfl) rfl
theorem q2090 : (Jvm.Cond.instanceMethod ({ cls := "GossipStairsModel", name := "crossingsByPuttingIn", desc := "()I" } : Jvm.MethodName)) ∈ lw_all := lw_g (lw_at lw_m9 82 rfl) rfl
theorem q2091 : (Jvm.Cond.selects "GossipStairsModel" ({ cls := "GossipStairsModel", name := "crossingsByPuttingIn", desc := "()I" } : Jvm.MethodName) ({ cls := "GossipStairsModel", name := "crossingsByPuttingIn", desc := "()I" } : Jvm.MethodName)) ∈ lw_all := lw_g (lw_at lw_m9 83 rfl) rfl
theorem q2092 : (Jvm.Cond.code ({ cls := "GossipStairsModel", name := "crossingsByPuttingIn", desc := "()I" } : Jvm.MethodName) prog_8_method_89_code (1 : Nat) (Option.some Jvm.ClassFile.FieldType.int)) ∈ lw_all := lw_g (lw_at lw_m9 84 rfl) rfl
theorem q2094 : (Jvm.Cond.instanceMethod ({ cls := "GossipStairsModel", name := "crossingsBelow", desc := "(I)I" } : Jvm.MethodName)) ∈ lw_all := lw_g (lw_at lw_m9 86 rfl) rfl
theorem q2095 : (Jvm.Cond.selects "GossipStairsModel" ({ cls := "GossipStairsModel", name := "crossingsBelow", desc := "(I)I" } : Jvm.MethodName) ({ cls := "GossipStairsModel", name := "crossingsBelow", desc := "(I)I" } : Jvm.MethodName)) ∈ lw_all := lw_g (lw_at lw_m9 87 rfl) rfl
theorem q2096 : (Jvm.Cond.code ({ cls := "GossipStairsModel", name := "crossingsBelow", desc := "(I)I" } : Jvm.MethodName) prog_8_method_90_code (2 : Nat) (Option.some Jvm.ClassFile.FieldType.int)) ∈ lw_all := lw_g (lw_at lw_m9 88 rfl) rfl
theorem q2098 : (Jvm.Cond.instanceMethod ({ cls := "GossipStairsModel", name := "crossingsOf", desc := "(I)I" } : Jvm.MethodName)) ∈ lw_all := lw_g (lw_at lw_m9 90 rfl) rfl
theorem q2099 : (Jvm.Cond.selects "GossipStairsModel" ({ cls := "GossipStairsModel", name := "crossingsOf", desc := "(I)I" } : Jvm.MethodName) ({ cls := "GossipStairsModel", name := "crossingsOf", desc := "(I)I" } : Jvm.MethodName)) ∈ lw_all := lw_g (lw_at lw_m9 91 rfl) rfl
theorem q2100 : (Jvm.Cond.code ({ cls := "GossipStairsModel", name := "crossingsOf", desc := "(I)I" } : Jvm.MethodName) prog_8_method_91_code (7 : Nat) (Option.some Jvm.ClassFile.FieldType.int)) ∈ lw_all := lw_g (lw_at lw_m9 92 rfl) rfl
theorem q2102 : (Jvm.Cond.instanceMethod ({ cls := "GossipStairsModel", name := "ifSweptDown", desc := "()I" } : Jvm.MethodName)) ∈ lw_all := lw_g (lw_at lw_m9 94 rfl) rfl
theorem q2103 : (Jvm.Cond.selects "GossipStairsModel" ({ cls := "GossipStairsModel", name := "ifSweptDown", desc := "()I" } : Jvm.MethodName) ({ cls := "GossipStairsModel", name := "ifSweptDown", desc := "()I" } : Jvm.MethodName)) ∈ lw_all := lw_g (lw_at lw_m9 95 rfl) rfl
theorem q2104 : (Jvm.Cond.code ({ cls := "GossipStairsModel", name := "ifSweptDown", desc := "()I" } : Jvm.MethodName) prog_8_method_93_code (1 : Nat) (Option.some Jvm.ClassFile.FieldType.int)) ∈ lw_all := lw_g (lw_at lw_m9 96 rfl) rfl
theorem q2105 : (Jvm.Cond.methodLink "GossipStairsModel" (225 : Nat) ({ cls := "GossipStairsModel", name := "ifSwept", desc := "(I)I" } : Jvm.MethodName)) ∈ lw_all := lw_g (lw_at lw_m9 97 rfl) rfl
theorem q2106 : (Jvm.Cond.privateMethod ({ cls := "GossipStairsModel", name := "ifSwept", desc := "(I)I" } : Jvm.MethodName)) ∈ lw_tbl := lw_at lw_m9 98 rfl
theorem q2107 : (Jvm.Cond.instanceMethod ({ cls := "GossipStairsModel", name := "ifSwept", desc := "(I)I" } : Jvm.MethodName)) ∈ lw_all := lw_g (lw_at lw_m9 99 rfl) rfl
theorem q2108 : (Jvm.Cond.code ({ cls := "GossipStairsModel", name := "ifSwept", desc := "(I)I" } : Jvm.MethodName) prog_8_method_92_code (3 : Nat) (Option.some Jvm.ClassFile.FieldType.int)) ∈ lw_all := lw_g (lw_at lw_m9 100 rfl) rfl
theorem q2110 : (Jvm.Cond.instanceMethod ({ cls := "GossipStairsModel", name := "ifSweptUp", desc := "()I" } : Jvm.MethodName)) ∈ lw_all := lw_g (lw_at lw_m9 102 rfl) rfl
theorem q2111 : (Jvm.Cond.selects "GossipStairsModel" ({ cls := "GossipStairsModel", name := "ifSweptUp", desc := "()I" } : Jvm.MethodName) ({ cls := "GossipStairsModel", name := "ifSweptUp", desc := "()I" } : Jvm.MethodName)) ∈ lw_all := lw_g (lw_at lw_m9 103 rfl) rfl
theorem q2112 : (Jvm.Cond.code ({ cls := "GossipStairsModel", name := "ifSweptUp", desc := "()I" } : Jvm.MethodName) prog_8_method_94_code (1 : Nat) (Option.some Jvm.ClassFile.FieldType.int)) ∈ lw_all := lw_g (lw_at lw_m9 104 rfl) rfl
theorem q2114 : (Jvm.Cond.instanceMethod ({ cls := "GossipStairsModel", name := "columnAt", desc := "(II)I" } : Jvm.MethodName)) ∈ lw_all := lw_g (lw_at lw_m9 106 rfl) rfl
theorem q2115 : (Jvm.Cond.selects "GossipStairsModel" ({ cls := "GossipStairsModel", name := "columnAt", desc := "(II)I" } : Jvm.MethodName) ({ cls := "GossipStairsModel", name := "columnAt", desc := "(II)I" } : Jvm.MethodName)) ∈ lw_all := lw_g (lw_at lw_m9 107 rfl) rfl
theorem q2116 : (Jvm.Cond.code ({ cls := "GossipStairsModel", name := "columnAt", desc := "(II)I" } : Jvm.MethodName) prog_8_method_96_code (3 : Nat) (Option.some Jvm.ClassFile.FieldType.int)) ∈ lw_all := lw_g (lw_at lw_m9 108 rfl) rfl
theorem q2117 : (Jvm.Cond.methodLink "GossipStairsModel" (228 : Nat) ({ cls := "GossipStairsModel", name := "shifts", desc := "()V" } : Jvm.MethodName)) ∈ lw_all := lw_g (lw_at lw_m9 109 rfl) rfl
theorem q2118 : (Jvm.Cond.privateMethod ({ cls := "GossipStairsModel", name := "shifts", desc := "()V" } : Jvm.MethodName)) ∈ lw_tbl := lw_at lw_m9 110 rfl
theorem q2119 : (Jvm.Cond.instanceMethod ({ cls := "GossipStairsModel", name := "shifts", desc := "()V" } : Jvm.MethodName)) ∈ lw_all := lw_g (lw_at lw_m9 111 rfl) rfl
theorem q2120 : (Jvm.Cond.code ({ cls := "GossipStairsModel", name := "shifts", desc := "()V" } : Jvm.MethodName) prog_8_method_95_code (6 : Nat) (Option.none : Option Jvm.ClassFile.FieldType)) ∈ lw_all := lw_g (lw_at lw_m9 112 rfl) rfl
theorem q2122 : (Jvm.Cond.instanceMethod ({ cls := "GossipStairsModel", name := "bendsOf", desc := "(I)I" } : Jvm.MethodName)) ∈ lw_all := lw_g (lw_at lw_m9 114 rfl) rfl
theorem q2123 : (Jvm.Cond.selects "GossipStairsModel" ({ cls := "GossipStairsModel", name := "bendsOf", desc := "(I)I" } : Jvm.MethodName) ({ cls := "GossipStairsModel", name := "bendsOf", desc := "(I)I" } : Jvm.MethodName)) ∈ lw_all := lw_g (lw_at lw_m9 115 rfl) rfl
theorem q2124 : (Jvm.Cond.code ({ cls := "GossipStairsModel", name := "bendsOf", desc := "(I)I" } : Jvm.MethodName) prog_8_method_99_code (2 : Nat) (Option.some Jvm.ClassFile.FieldType.int)) ∈ lw_all := lw_g (lw_at lw_m9 116 rfl) rfl
theorem q2125 : (Jvm.Cond.methodLink "GossipStairsModel" (234 : Nat) ({ cls := "GossipStairsModel", name := "bent", desc := "(I)I" } : Jvm.MethodName)) ∈ lw_all := lw_g (lw_at lw_m9 117 rfl) rfl
theorem q2126 : (Jvm.Cond.privateMethod ({ cls := "GossipStairsModel", name := "bent", desc := "(I)I" } : Jvm.MethodName)) ∈ lw_tbl := lw_at lw_m9 118 rfl
theorem q2127 : (Jvm.Cond.instanceMethod ({ cls := "GossipStairsModel", name := "bent", desc := "(I)I" } : Jvm.MethodName)) ∈ lw_all := lw_g (lw_at lw_m9 119 rfl) rfl
theorem q2128 : (Jvm.Cond.code ({ cls := "GossipStairsModel", name := "bent", desc := "(I)I" } : Jvm.MethodName) prog_8_method_98_code (5 : Nat) (Option.some Jvm.ClassFile.FieldType.int)) ∈ lw_all := lw_g (lw_at lw_m9 120 rfl) rfl
theorem q2129 : (Jvm.Cond.methodLink "GossipStairsModel" (231 : Nat) ({ cls := "GossipStairsModel", name := "columnOf1", desc := "(II)I" } : Jvm.MethodName)) ∈ lw_all := lw_g (lw_at lw_m9 121 rfl) rfl
theorem q2130 : (Jvm.Cond.privateMethod ({ cls := "GossipStairsModel", name := "columnOf1", desc := "(II)I" } : Jvm.MethodName)) ∈ lw_tbl := lw_at lw_m9 122 rfl
theorem q2131 : (Jvm.Cond.instanceMethod ({ cls := "GossipStairsModel", name := "columnOf1", desc := "(II)I" } : Jvm.MethodName)) ∈ lw_all := lw_g (lw_at lw_m9 123 rfl) rfl
theorem q2132 : (Jvm.Cond.code ({ cls := "GossipStairsModel", name := "columnOf1", desc := "(II)I" } : Jvm.MethodName) prog_8_method_97_code (3 : Nat) (Option.some Jvm.ClassFile.FieldType.int)) ∈ lw_all := lw_g (lw_at lw_m9 124 rfl) rfl
theorem q2134 : (Jvm.Cond.instanceMethod ({ cls := "GossipStairsModel", name := "bends", desc := "()I" } : Jvm.MethodName)) ∈ lw_all := lw_g (lw_at lw_m9 126 rfl) rfl
theorem q2135 : (Jvm.Cond.selects "GossipStairsModel" ({ cls := "GossipStairsModel", name := "bends", desc := "()I" } : Jvm.MethodName) ({ cls := "GossipStairsModel", name := "bends", desc := "()I" } : Jvm.MethodName)) ∈ lw_all := lw_g (lw_at lw_m9 127 rfl) rfl
theorem q2136 : (Jvm.Cond.code ({ cls := "GossipStairsModel", name := "bends", desc := "()I" } : Jvm.MethodName) prog_8_method_100_code (3 : Nat) (Option.some Jvm.ClassFile.FieldType.int)) ∈ lw_all := lw_g (lw_at lw_m9 128 rfl) rfl
theorem q2138 : (Jvm.Cond.instanceMethod ({ cls := "GossipStairsModel", name := "widest", desc := "()I" } : Jvm.MethodName)) ∈ lw_all := lw_g (lw_at lw_m9 130 rfl) rfl
theorem q2139 : (Jvm.Cond.selects "GossipStairsModel" ({ cls := "GossipStairsModel", name := "widest", desc := "()I" } : Jvm.MethodName) ({ cls := "GossipStairsModel", name := "widest", desc := "()I" } : Jvm.MethodName)) ∈ lw_all := lw_g (lw_at lw_m9 131 rfl) rfl
theorem q2140 : (Jvm.Cond.code ({ cls := "GossipStairsModel", name := "widest", desc := "()I" } : Jvm.MethodName) prog_8_method_101_code (4 : Nat) (Option.some Jvm.ClassFile.FieldType.int)) ∈ lw_all := lw_g (lw_at lw_m9 132 rfl) rfl
theorem q2142 : (Jvm.Cond.instanceMethod ({ cls := "GossipStairsModel", name := "slant", desc := "()I" } : Jvm.MethodName)) ∈ lw_all := lw_g (lw_at lw_m9 134 rfl) rfl
theorem q2143 : (Jvm.Cond.selects "GossipStairsModel" ({ cls := "GossipStairsModel", name := "slant", desc := "()I" } : Jvm.MethodName) ({ cls := "GossipStairsModel", name := "slant", desc := "()I" } : Jvm.MethodName)) ∈ lw_all := lw_g (lw_at lw_m9 135 rfl) rfl
theorem q2144 : (Jvm.Cond.code ({ cls := "GossipStairsModel", name := "slant", desc := "()I" } : Jvm.MethodName) prog_8_method_103_code (1 : Nat) (Option.some Jvm.ClassFile.FieldType.int)) ∈ lw_all := lw_g (lw_at lw_m9 136 rfl) rfl
theorem q2145 : (Jvm.Cond.methodLink "GossipStairsModel" (237 : Nat) ({ cls := "GossipStairsModel", name := "lines", desc := "(Z)I" } : Jvm.MethodName)) ∈ lw_all := lw_g (lw_at lw_m9 137 rfl) rfl
theorem q2146 : (Jvm.Cond.privateMethod ({ cls := "GossipStairsModel", name := "lines", desc := "(Z)I" } : Jvm.MethodName)) ∈ lw_tbl := lw_at lw_m9 138 rfl
theorem q2147 : (Jvm.Cond.instanceMethod ({ cls := "GossipStairsModel", name := "lines", desc := "(Z)I" } : Jvm.MethodName)) ∈ lw_all := lw_g (lw_at lw_m9 139 rfl) rfl
theorem q2148 : (Jvm.Cond.code ({ cls := "GossipStairsModel", name := "lines", desc := "(Z)I" } : Jvm.MethodName) prog_8_method_102_code (6 : Nat) (Option.some Jvm.ClassFile.FieldType.int)) ∈ lw_all := lw_g (lw_at lw_m9 140 rfl) rfl
theorem q2150 : (Jvm.Cond.instanceMethod ({ cls := "GossipStairsModel", name := "straightLines", desc := "()I" } : Jvm.MethodName)) ∈ lw_all := lw_g (lw_at lw_m9 142 rfl) rfl
theorem q2151 : (Jvm.Cond.selects "GossipStairsModel" ({ cls := "GossipStairsModel", name := "straightLines", desc := "()I" } : Jvm.MethodName) ({ cls := "GossipStairsModel", name := "straightLines", desc := "()I" } : Jvm.MethodName)) ∈ lw_all := lw_g (lw_at lw_m9 143 rfl) rfl
theorem q2152 : (Jvm.Cond.code ({ cls := "GossipStairsModel", name := "straightLines", desc := "()I" } : Jvm.MethodName) prog_8_method_104_code (1 : Nat) (Option.some Jvm.ClassFile.FieldType.int)) ∈ lw_all := lw_g (lw_at lw_m9 144 rfl) rfl
theorem q2154 : (Jvm.Cond.instanceMethod ({ cls := "GossipStairsModel", name := "sweeps", desc := "()I" } : Jvm.MethodName)) ∈ lw_all := lw_g (lw_at lw_m9 146 rfl) rfl
theorem q2155 : (Jvm.Cond.selects "GossipStairsModel" ({ cls := "GossipStairsModel", name := "sweeps", desc := "()I" } : Jvm.MethodName) ({ cls := "GossipStairsModel", name := "sweeps", desc := "()I" } : Jvm.MethodName)) ∈ lw_all := lw_g (lw_at lw_m9 147 rfl) rfl
theorem q2156 : (Jvm.Cond.code ({ cls := "GossipStairsModel", name := "sweeps", desc := "()I" } : Jvm.MethodName) prog_8_method_105_code (1 : Nat) (Option.some Jvm.ClassFile.FieldType.int)) ∈ lw_all := lw_g (lw_at lw_m9 148 rfl) rfl
theorem q2158 : (Jvm.Cond.instanceMethod ({ cls := "GossipStairsModel", name := "came", desc := "()I" } : Jvm.MethodName)) ∈ lw_all := lw_g (lw_at lw_m9 150 rfl) rfl
theorem q2159 : (Jvm.Cond.selects "GossipStairsModel" ({ cls := "GossipStairsModel", name := "came", desc := "()I" } : Jvm.MethodName) ({ cls := "GossipStairsModel", name := "came", desc := "()I" } : Jvm.MethodName)) ∈ lw_all := lw_g (lw_at lw_m9 151 rfl) rfl
theorem q2160 : (Jvm.Cond.code ({ cls := "GossipStairsModel", name := "came", desc := "()I" } : Jvm.MethodName) prog_8_method_106_code (1 : Nat) (Option.some Jvm.ClassFile.FieldType.int)) ∈ lw_all := lw_g (lw_at lw_m9 152 rfl) rfl
theorem q2162 : (Jvm.Cond.instanceMethod ({ cls := "GossipStairsModel", name := "meanPoints", desc := "()F" } : Jvm.MethodName)) ∈ lw_all := lw_g (lw_at lw_m9 154 rfl) rfl
theorem q2163 : (Jvm.Cond.selects "GossipStairsModel" ({ cls := "GossipStairsModel", name := "meanPoints", desc := "()F" } : Jvm.MethodName) ({ cls := "GossipStairsModel", name := "meanPoints", desc := "()F" } : Jvm.MethodName)) ∈ lw_all := lw_g (lw_at lw_m9 155 rfl) rfl
theorem q2164 : (Jvm.Cond.code ({ cls := "GossipStairsModel", name := "meanPoints", desc := "()F" } : Jvm.MethodName) prog_8_method_107_code (3 : Nat) (Option.some Jvm.ClassFile.FieldType.float)) ∈ lw_all := lw_g (lw_at lw_m9 156 rfl) rfl
theorem q2166 : (Jvm.Cond.instanceMethod ({ cls := "GossipStairsModel", name := "keep", desc := "()I" } : Jvm.MethodName)) ∈ lw_all := lw_g (lw_at lw_m9 158 rfl) rfl
theorem q2167 : (Jvm.Cond.selects "GossipStairsModel" ({ cls := "GossipStairsModel", name := "keep", desc := "()I" } : Jvm.MethodName) ({ cls := "GossipStairsModel", name := "keep", desc := "()I" } : Jvm.MethodName)) ∈ lw_all := lw_g (lw_at lw_m9 159 rfl) rfl
theorem q2168 : (Jvm.Cond.code ({ cls := "GossipStairsModel", name := "keep", desc := "()I" } : Jvm.MethodName) prog_8_method_108_code (1 : Nat) (Option.some Jvm.ClassFile.FieldType.int)) ∈ lw_all := lw_g (lw_at lw_m9 160 rfl) rfl
theorem q2169 : (Jvm.Cond.methodLink "GossipStairsModel" (244 : Nat) ({ cls := "GossipStairsModel", name := "copies", desc := "([I[I)V" } : Jvm.MethodName)) ∈ lw_all := lw_g (lw_at lw_m9 161 rfl) rfl
theorem q2170 : (Jvm.Cond.static ({ cls := "GossipStairsModel", name := "copies", desc := "([I[I)V" } : Jvm.MethodName)) ∈ lw_all := lw_g (lw_at lw_m9 162 rfl) rfl
theorem q2171 : (Jvm.Cond.code ({ cls := "GossipStairsModel", name := "copies", desc := "([I[I)V" } : Jvm.MethodName) prog_8_method_5_code (3 : Nat) (Option.none : Option Jvm.ClassFile.FieldType)) ∈ lw_all := lw_g (lw_at lw_m9 163 rfl) rfl
theorem q2173 : (Jvm.Cond.instanceMethod ({ cls := "GossipStairsModel", name := "goBack", desc := "()I" } : Jvm.MethodName)) ∈ lw_all := lw_g (lw_at lw_m9 165 rfl) rfl
theorem q2174 : (Jvm.Cond.selects "GossipStairsModel" ({ cls := "GossipStairsModel", name := "goBack", desc := "()I" } : Jvm.MethodName) ({ cls := "GossipStairsModel", name := "goBack", desc := "()I" } : Jvm.MethodName)) ∈ lw_all := lw_g (lw_at lw_m9 166 rfl) rfl
theorem q2175 : (Jvm.Cond.code ({ cls := "GossipStairsModel", name := "goBack", desc := "()I" } : Jvm.MethodName) prog_8_method_109_code (1 : Nat) (Option.some Jvm.ClassFile.FieldType.int)) ∈ lw_all := lw_g (lw_at lw_m9 167 rfl) rfl
theorem q2177 : (Jvm.Cond.instanceMethod ({ cls := "GossipStairsModel", name := "states", desc := "()I" } : Jvm.MethodName)) ∈ lw_all := lw_g (lw_at lw_m9 169 rfl) rfl
theorem q2178 : (Jvm.Cond.selects "GossipStairsModel" ({ cls := "GossipStairsModel", name := "states", desc := "()I" } : Jvm.MethodName) ({ cls := "GossipStairsModel", name := "states", desc := "()I" } : Jvm.MethodName)) ∈ lw_all := lw_g (lw_at lw_m9 170 rfl) rfl
theorem q2179 : (Jvm.Cond.code ({ cls := "GossipStairsModel", name := "states", desc := "()I" } : Jvm.MethodName) prog_8_method_110_code (1 : Nat) (Option.some Jvm.ClassFile.FieldType.int)) ∈ lw_all := lw_g (lw_at lw_m9 171 rfl) rfl
theorem q2181 : (Jvm.Cond.instanceMethod ({ cls := "GossipStairsModel", name := "undo", desc := "()I" } : Jvm.MethodName)) ∈ lw_all := lw_g (lw_at lw_m9 173 rfl) rfl
theorem q2182 : (Jvm.Cond.selects "GossipStairsModel" ({ cls := "GossipStairsModel", name := "undo", desc := "()I" } : Jvm.MethodName) ({ cls := "GossipStairsModel", name := "undo", desc := "()I" } : Jvm.MethodName)) ∈ lw_all := lw_g (lw_at lw_m9 174 rfl) rfl
theorem q2183 : (Jvm.Cond.code ({ cls := "GossipStairsModel", name := "undo", desc := "()I" } : Jvm.MethodName) prog_8_method_111_code (2 : Nat) (Option.some Jvm.ClassFile.FieldType.int)) ∈ lw_all := lw_g (lw_at lw_m9 175 rfl) rfl
theorem q2185 : (Jvm.Cond.instanceMethod ({ cls := "GossipStairsModel", name := "type", desc := "(I)I" } : Jvm.MethodName)) ∈ lw_all := lw_g (lw_at lw_m9 177 rfl) rfl
theorem q2186 : (Jvm.Cond.selects "GossipStairsModel" ({ cls := "GossipStairsModel", name := "type", desc := "(I)I" } : Jvm.MethodName) ({ cls := "GossipStairsModel", name := "type", desc := "(I)I" } : Jvm.MethodName)) ∈ lw_all := lw_g (lw_at lw_m9 178 rfl) rfl
theorem q2187 : (Jvm.Cond.code ({ cls := "GossipStairsModel", name := "type", desc := "(I)I" } : Jvm.MethodName) prog_8_method_112_code (2 : Nat) (Option.some Jvm.ClassFile.FieldType.int)) ∈ lw_all := lw_g (lw_at lw_m9 179 rfl) rfl
theorem q2189 : (Jvm.Cond.instanceMethod ({ cls := "GossipStairsModel", name := "clearText", desc := "()I" } : Jvm.MethodName)) ∈ lw_all := lw_g (lw_at lw_m9 181 rfl) rfl
theorem q2190 : (Jvm.Cond.selects "GossipStairsModel" ({ cls := "GossipStairsModel", name := "clearText", desc := "()I" } : Jvm.MethodName) ({ cls := "GossipStairsModel", name := "clearText", desc := "()I" } : Jvm.MethodName)) ∈ lw_all := lw_g (lw_at lw_m9 182 rfl) rfl
theorem q2191 : (Jvm.Cond.code ({ cls := "GossipStairsModel", name := "clearText", desc := "()I" } : Jvm.MethodName) prog_8_method_113_code (2 : Nat) (Option.some Jvm.ClassFile.FieldType.int)) ∈ lw_all := lw_g (lw_at lw_m9 183 rfl) rfl
theorem q2193 : (Jvm.Cond.instanceMethod ({ cls := "GossipStairsModel", name := "faultPosition", desc := "()I" } : Jvm.MethodName)) ∈ lw_all := lw_g (lw_at lw_m9 185 rfl) rfl
theorem q2194 : (Jvm.Cond.selects "GossipStairsModel" ({ cls := "GossipStairsModel", name := "faultPosition", desc := "()I" } : Jvm.MethodName) ({ cls := "GossipStairsModel", name := "faultPosition", desc := "()I" } : Jvm.MethodName)) ∈ lw_all := lw_g (lw_at lw_m9 186 rfl) rfl
theorem q2195 : (Jvm.Cond.code ({ cls := "GossipStairsModel", name := "faultPosition", desc := "()I" } : Jvm.MethodName) prog_8_method_121_code (1 : Nat) (Option.some Jvm.ClassFile.FieldType.int)) ∈ lw_all := lw_g (lw_at lw_m9 187 rfl) rfl
theorem q2196 : (Jvm.Cond.methodLink "GossipStairsModel" (308 : Nat) ({ cls := "GossipStairsModel", name := "fault", desc := "(I)I" } : Jvm.MethodName)) ∈ lw_all := lw_g (lw_at lw_m9 188 rfl) rfl
theorem q2197 : (Jvm.Cond.privateMethod ({ cls := "GossipStairsModel", name := "fault", desc := "(I)I" } : Jvm.MethodName)) ∈ lw_tbl := lw_at lw_m9 189 rfl
theorem q2198 : (Jvm.Cond.instanceMethod ({ cls := "GossipStairsModel", name := "fault", desc := "(I)I" } : Jvm.MethodName)) ∈ lw_all := lw_g (lw_at lw_m9 190 rfl) rfl
theorem q2199 : (Jvm.Cond.code ({ cls := "GossipStairsModel", name := "fault", desc := "(I)I" } : Jvm.MethodName) prog_8_method_120_code (3 : Nat) (Option.some Jvm.ClassFile.FieldType.int)) ∈ lw_all := lw_g (lw_at lw_m9 191 rfl) rfl
theorem q2200 : (Jvm.Cond.methodLink "GossipStairsModel" (305 : Nat) ({ cls := "GossipStairsModel", name := "plays", desc := "()Z" } : Jvm.MethodName)) ∈ lw_all := lw_g (lw_at lw_m9 192 rfl) rfl
theorem q2201 : (Jvm.Cond.privateMethod ({ cls := "GossipStairsModel", name := "plays", desc := "()Z" } : Jvm.MethodName)) ∈ lw_tbl := lw_at lw_m9 193 rfl
theorem q2202 : (Jvm.Cond.instanceMethod ({ cls := "GossipStairsModel", name := "plays", desc := "()Z" } : Jvm.MethodName)) ∈ lw_all := lw_g (lw_at lw_m9 194 rfl) rfl
theorem q2203 : (Jvm.Cond.code ({ cls := "GossipStairsModel", name := "plays", desc := "()Z" } : Jvm.MethodName) prog_8_method_119_code (4 : Nat) (Option.some Jvm.ClassFile.FieldType.boolean)) ∈ lw_all := lw_g (lw_at lw_m9 195 rfl) rfl
theorem q2204 : (Jvm.Cond.methodLink "GossipStairsModel" (292 : Nat) ({ cls := "GossipStairsModel", name := "parses", desc := "()Z" } : Jvm.MethodName)) ∈ lw_all := lw_g (lw_at lw_m9 196 rfl) rfl
theorem q2205 : (Jvm.Cond.privateMethod ({ cls := "GossipStairsModel", name := "parses", desc := "()Z" } : Jvm.MethodName)) ∈ lw_tbl := lw_at lw_m9 197 rfl
theorem q2206 : (Jvm.Cond.instanceMethod ({ cls := "GossipStairsModel", name := "parses", desc := "()Z" } : Jvm.MethodName)) ∈ lw_all := lw_g (lw_at lw_m9 198 rfl) rfl
theorem q2207 : (Jvm.Cond.code ({ cls := "GossipStairsModel", name := "parses", desc := "()Z" } : Jvm.MethodName) prog_8_method_117_code (4 : Nat) (Option.some Jvm.ClassFile.FieldType.boolean)) ∈ lw_all := lw_g (lw_at lw_m9 199 rfl) rfl
theorem q2208 : (Jvm.Cond.methodLink "GossipStairsModel" (254 : Nat) ({ cls := "GossipStairsModel", name := "isAt", desc := "(II)Z" } : Jvm.MethodName)) ∈ lw_all := lw_g (lw_at lw_m9 200 rfl) rfl
theorem q2209 : (Jvm.Cond.privateMethod ({ cls := "GossipStairsModel", name := "isAt", desc := "(II)Z" } : Jvm.MethodName)) ∈ lw_tbl := lw_at lw_m9 201 rfl
theorem q2210 : (Jvm.Cond.instanceMethod ({ cls := "GossipStairsModel", name := "isAt", desc := "(II)Z" } : Jvm.MethodName)) ∈ lw_all := lw_g (lw_at lw_m9 202 rfl) rfl
theorem q2211 : (Jvm.Cond.code ({ cls := "GossipStairsModel", name := "isAt", desc := "(II)Z" } : Jvm.MethodName) prog_8_method_114_code (3 : Nat) (Option.some Jvm.ClassFile.FieldType.boolean)) ∈ lw_all := lw_g (lw_at lw_m9 203 rfl) rfl
theorem q2212 : (Jvm.Cond.methodLink "GossipStairsModel" (260 : Nat) ({ cls := "GossipStairsModel", name := "sign", desc := "(I)Z" } : Jvm.MethodName)) ∈ lw_all := lw_g (lw_at lw_m9 204 rfl) rfl
theorem q2213 : (Jvm.Cond.privateMethod ({ cls := "GossipStairsModel", name := "sign", desc := "(I)Z" } : Jvm.MethodName)) ∈ lw_tbl := lw_at lw_m9 205 rfl
theorem q2214 : (Jvm.Cond.instanceMethod ({ cls := "GossipStairsModel", name := "sign", desc := "(I)Z" } : Jvm.MethodName)) ∈ lw_all := lw_g (lw_at lw_m9 206 rfl) rfl
theorem q2215 : (Jvm.Cond.code ({ cls := "GossipStairsModel", name := "sign", desc := "(I)Z" } : Jvm.MethodName) prog_8_method_115_code (3 : Nat) (Option.some Jvm.ClassFile.FieldType.boolean)) ∈ lw_all := lw_g (lw_at lw_m9 207 rfl) rfl
theorem q2216 : (Jvm.Cond.methodLink "GossipStairsModel" (263 : Nat) ({ cls := "GossipStairsModel", name := "numbered", desc := "(I)Z" } : Jvm.MethodName)) ∈ lw_all := lw_g (lw_at lw_m9 208 rfl) rfl
theorem q2217 : (Jvm.Cond.privateMethod ({ cls := "GossipStairsModel", name := "numbered", desc := "(I)Z" } : Jvm.MethodName)) ∈ lw_tbl := lw_at lw_m9 209 rfl
theorem q2218 : (Jvm.Cond.instanceMethod ({ cls := "GossipStairsModel", name := "numbered", desc := "(I)Z" } : Jvm.MethodName)) ∈ lw_all := lw_g (lw_at lw_m9 210 rfl) rfl
theorem q2219 : (Jvm.Cond.code ({ cls := "GossipStairsModel", name := "numbered", desc := "(I)Z" } : Jvm.MethodName) prog_8_method_116_code (3 : Nat) (Option.some Jvm.ClassFile.FieldType.boolean)) ∈ lw_all := lw_g (lw_at lw_m9 211 rfl) rfl
theorem q2220 : (Jvm.Cond.methodLink "GossipStairsModel" (296 : Nat) ({ cls := "GossipStairsModel", name := "does", desc := "()I" } : Jvm.MethodName)) ∈ lw_all := lw_g (lw_at lw_m9 212 rfl) rfl
theorem q2221 : (Jvm.Cond.privateMethod ({ cls := "GossipStairsModel", name := "does", desc := "()I" } : Jvm.MethodName)) ∈ lw_tbl := lw_at lw_m9 213 rfl
theorem q2222 : (Jvm.Cond.instanceMethod ({ cls := "GossipStairsModel", name := "does", desc := "()I" } : Jvm.MethodName)) ∈ lw_all := lw_g (lw_at lw_m9 214 rfl) rfl
theorem q2223 : (Jvm.Cond.code ({ cls := "GossipStairsModel", name := "does", desc := "()I" } : Jvm.MethodName) prog_8_method_118_code (3 : Nat) (Option.some Jvm.ClassFile.FieldType.int)) ∈ lw_all := lw_g (lw_at lw_m9 215 rfl) rfl
theorem q2224 : (Jvm.Cond.methodLink "GossipStairsModel" (266 : Nat) ({ cls := "GossipStairsModel", name := "addBox", desc := "()I" } : Jvm.MethodName)) ∈ lw_all := lw_g (lw_at lw_m9 216 rfl) rfl
theorem q2225 : (Jvm.Cond.methodLink "GossipStairsModel" (269 : Nat) ({ cls := "GossipStairsModel", name := "addArrow", desc := "(II)I" } : Jvm.MethodName)) ∈ lw_all := lw_g (lw_at lw_m9 217 rfl) rfl
theorem q2226 : (Jvm.Cond.methodLink "GossipStairsModel" (272 : Nat) ({ cls := "GossipStairsModel", name := "holdDown", desc := "(II)I" } : Jvm.MethodName)) ∈ lw_all := lw_g (lw_at lw_m9 218 rfl) rfl
theorem q2227 : (Jvm.Cond.methodLink "GossipStairsModel" (275 : Nat) ({ cls := "GossipStairsModel", name := "removeArrow", desc := "(I)I" } : Jvm.MethodName)) ∈ lw_all := lw_g (lw_at lw_m9 219 rfl) rfl
theorem q2228 : (Jvm.Cond.methodLink "GossipStairsModel" (278 : Nat) ({ cls := "GossipStairsModel", name := "sweepDown", desc := "()I" } : Jvm.MethodName)) ∈ lw_all := lw_g (lw_at lw_m9 220 rfl) rfl
theorem q2229 : (Jvm.Cond.methodLink "GossipStairsModel" (281 : Nat) ({ cls := "GossipStairsModel", name := "sweepUp", desc := "()I" } : Jvm.MethodName)) ∈ lw_all := lw_g (lw_at lw_m9 221 rfl) rfl
theorem q2230 : (Jvm.Cond.methodLink "GossipStairsModel" (284 : Nat) ({ cls := "GossipStairsModel", name := "untangle", desc := "()I" } : Jvm.MethodName)) ∈ lw_all := lw_g (lw_at lw_m9 222 rfl) rfl
theorem q2232 : (Jvm.Cond.instanceMethod ({ cls := "GossipStairsModel", name := "faultReason", desc := "()I" } : Jvm.MethodName)) ∈ lw_all := lw_g (lw_at lw_m9 224 rfl) rfl
theorem q2233 : (Jvm.Cond.selects "GossipStairsModel" ({ cls := "GossipStairsModel", name := "faultReason", desc := "()I" } : Jvm.MethodName) ({ cls := "GossipStairsModel", name := "faultReason", desc := "()I" } : Jvm.MethodName)) ∈ lw_all := lw_g (lw_at lw_m9 225 rfl) rfl
theorem q2234 : (Jvm.Cond.code ({ cls := "GossipStairsModel", name := "faultReason", desc := "()I" } : Jvm.MethodName) prog_8_method_122_code (1 : Nat) (Option.some Jvm.ClassFile.FieldType.int)) ∈ lw_all := lw_g (lw_at lw_m9 226 rfl) rfl
theorem q2236 : (Jvm.Cond.instanceMethod ({ cls := "GossipStairsModel", name := "faultCause", desc := "()I" } : Jvm.MethodName)) ∈ lw_all := lw_g (lw_at lw_m9 228 rfl) rfl
theorem q2237 : (Jvm.Cond.selects "GossipStairsModel" ({ cls := "GossipStairsModel", name := "faultCause", desc := "()I" } : Jvm.MethodName) ({ cls := "GossipStairsModel", name := "faultCause", desc := "()I" } : Jvm.MethodName)) ∈ lw_all := lw_g (lw_at lw_m9 229 rfl) rfl
theorem q2238 : (Jvm.Cond.code ({ cls := "GossipStairsModel", name := "faultCause", desc := "()I" } : Jvm.MethodName) prog_8_method_123_code (1 : Nat) (Option.some Jvm.ClassFile.FieldType.int)) ∈ lw_all := lw_g (lw_at lw_m9 230 rfl) rfl
theorem q2240 : (Jvm.Cond.instanceMethod ({ cls := "GossipStairsModel", name := "play", desc := "()I" } : Jvm.MethodName)) ∈ lw_all := lw_g (lw_at lw_m9 232 rfl) rfl
theorem q2241 : (Jvm.Cond.selects "GossipStairsModel" ({ cls := "GossipStairsModel", name := "play", desc := "()I" } : Jvm.MethodName) ({ cls := "GossipStairsModel", name := "play", desc := "()I" } : Jvm.MethodName)) ∈ lw_all := lw_g (lw_at lw_m9 233 rfl) rfl
theorem q2242 : (Jvm.Cond.code ({ cls := "GossipStairsModel", name := "play", desc := "()I" } : Jvm.MethodName) prog_8_method_124_code (2 : Nat) (Option.some Jvm.ClassFile.FieldType.int)) ∈ lw_all := lw_g (lw_at lw_m9 234 rfl) rfl
theorem q2264 : (Jvm.Cond.castable "GossipStairsModel" "java/lang/Object") ∈ lw_tbl := lw_at lw_m10 16 rfl
theorem in_X3 : ∀ w ∈ wsX30, w ∈ lw_all := lw_in wsX30 [1687, 1689, 1691, 1693, 1695, 1697, 1699, 1701, 1703, 1705, 1707, 1709, 1711, 1713, 1715, 1717, 1719, 1721, 1723, 1725, 1727, 1729, 1731, 1733, 1735, 1737, 1739, 1741, 1743, 1745, 1747] (by decide +kernel) (by decide +kernel)
/-! GossipStairs$Refused -/
def RX4 : String := "GossipStairs$Refused"
def TX4 : u_T := fun k => match k with
  | 0 => ("java/lang/Throwable", "cause", "Ljava/lang/Throwable;", false)
  | 1 => ("java/lang/Throwable", "stackTrace", "[Ljava/lang/StackTraceElement;", false)
  | 2 => ("java/lang/Throwable", "suppressedExceptions", "Ljava/util/List;", false)
  | 3 => ("java/lang/Throwable", "detailMessage", "Ljava/lang/String;", false)
  | 4 => ("java/lang/Throwable", "backtrace", "Ljava/lang/Object;", false)
  | 5 => ("java/lang/Throwable", "depth", "I", false)
  | _ => ("GossipStairs$Refused", "kind", "I", true)
def tyX4 : Nat → FieldType := fun k => match k with
  | 0 => .object "java/lang/Throwable"
  | 1 => .array (.object "java/lang/StackTraceElement")
  | 2 => .object "java/util/List"
  | 3 => .object "java/lang/String"
  | 4 => .object "java/lang/Object"
  | 5 => .int
  | _ => .int
abbrev wsX40 : List Cond := u_ws RX4 TX4 7
theorem nmX4 : ∀ a, a < 7 → ∀ b, b < 7 → a ≠ b → (TX4 a).2.1 ≠ (TX4 b).2.1 := by decide +kernel
theorem tyX4_ok : ∀ k, k < 7 → parseFieldDescriptor (TX4 k).2.2.1 = some (tyX4 k) := by decide +kernel
abbrev cX4_init : ByteArray := prog_5_method_1_code
def yX4_init : MethodName := ⟨RX4, "<init>", "(I)V"⟩
abbrev cX4_init_2 : ByteArray := prog_5_method_2_code
def yX4_init_2 : MethodName := ⟨RX4, "<init>", "(ILjava/lang/Exception;)V"⟩
theorem q100 : (Jvm.Cond.initialized "GossipStairs$Refused") ∈ lw_all := lw_g (lw_at lw_m1 12 rfl) rfl
theorem q290 : (Jvm.Cond.instantiable "GossipStairs$Refused" (7 : Nat)) ∈ lw_all := lw_g (lw_at lw_m1 202 rfl) rfl
theorem q291 : (Jvm.Cond.castable "GossipStairs$Refused" "GossipStairs$Refused") ∈ lw_tbl := lw_at lw_m1 203 rfl
theorem q296 : (Jvm.Cond.selects "GossipStairs$Refused" ({ cls := "java/lang/Throwable", name := "fillInStackTrace", desc := "(I)Ljava/lang/Throwable;" } : Jvm.MethodName) ({ cls := "java/lang/Throwable", name := "fillInStackTrace", desc := "(I)Ljava/lang/Throwable;" } : Jvm.MethodName)) ∈ lw_all := lw_g (lw_at lw_m1 208 rfl) rfl
theorem q297 : (Jvm.Cond.selects "GossipStairs$Refused" ({ cls := "java/lang/Throwable", name := "fillInStackTrace", desc := "()Ljava/lang/Throwable;" } : Jvm.MethodName) ({ cls := "java/lang/Throwable", name := "fillInStackTrace", desc := "()Ljava/lang/Throwable;" } : Jvm.MethodName)) ∈ lw_all := lw_g (lw_at lw_m1 209 rfl) rfl
theorem q298 : (Jvm.Cond.lays "GossipStairs$Refused" "java/lang/Throwable" "cause" "Ljava/lang/Throwable;") ∈ lw_all := lw_g (lw_at lw_m1 210 rfl) rfl
theorem q300 : (Jvm.Cond.lays "GossipStairs$Refused" "java/lang/Throwable" "stackTrace" "[Ljava/lang/StackTraceElement;") ∈ lw_all := lw_g (lw_at lw_m1 212 rfl) rfl
theorem q302 : (Jvm.Cond.lays "GossipStairs$Refused" "java/lang/Throwable" "suppressedExceptions" "Ljava/util/List;") ∈ lw_all := lw_g (lw_at lw_m1 214 rfl) rfl
theorem q304 : (Jvm.Cond.lays "GossipStairs$Refused" "java/lang/Throwable" "detailMessage" "Ljava/lang/String;") ∈ lw_all := lw_g (lw_at lw_m1 216 rfl) rfl
theorem q306 : (Jvm.Cond.lays "GossipStairs$Refused" "java/lang/Throwable" "backtrace" "Ljava/lang/Object;") ∈ lw_all := lw_g (lw_at lw_m1 218 rfl) rfl
theorem q332 : (Jvm.Cond.instanceMethod ({ cls := "GossipStairs$Refused", name := "<init>", desc := "(I)V" } : Jvm.MethodName)) ∈ lw_all := lw_g (lw_at lw_m2 4 rfl) rfl
theorem q333 : (Jvm.Cond.code ({ cls := "GossipStairs$Refused", name := "<init>", desc := "(I)V" } : Jvm.MethodName) prog_5_method_1_code (2 : Nat) (Option.none : Option Jvm.ClassFile.FieldType)) ∈ lw_all := lw_g (lw_at lw_m2 5 rfl) rfl
theorem q334 : (Jvm.Cond.stringRef "GossipStairs$Refused" (1 : Nat) "refused") ∈ lw_tbl := lw_at lw_m2 6 rfl
theorem q335 : (Jvm.Cond.methodLink "GossipStairs$Refused" (3 : Nat) ({ cls := "java/lang/Exception", name := "<init>", desc := "(Ljava/lang/String;)V" } : Jvm.MethodName)) ∈ lw_all := lw_g (lw_at lw_m2 7 rfl) rfl
theorem q341 : (Jvm.Cond.fieldLink "GossipStairs$Refused" (9 : Nat) "GossipStairs$Refused" "kind" "I") ∈ lw_all := lw_g (lw_at lw_m2 13 rfl) rfl
theorem q350 : (Jvm.Cond.laysFinal "GossipStairs$Refused" "GossipStairs$Refused" "kind" "I") ∈ lw_all := lw_g (lw_at lw_m2 22 rfl) rfl
theorem q351 : (Jvm.Cond.soleField "GossipStairs$Refused" "kind") ∈ lw_all := lw_g (lw_at lw_m2 23 rfl) rfl
theorem q356 : (Jvm.Cond.lays "GossipStairs$Refused" "java/lang/Throwable" "depth" "I") ∈ lw_all := lw_g (lw_at lw_m2 28 rfl) rfl
theorem q359 : (Jvm.Cond.superclass "GossipStairs$Refused" "java/lang/Exception") ∈ lw_all := lw_g (lw_at lw_m2 31 rfl) rfl
theorem q410 : (Jvm.Cond.instanceMethod ({ cls := "GossipStairs$Refused", name := "<init>", desc := "(ILjava/lang/Exception;)V" } : Jvm.MethodName)) ∈ lw_all := lw_g (lw_at lw_m2 82 rfl) rfl
theorem q411 : (Jvm.Cond.code ({ cls := "GossipStairs$Refused", name := "<init>", desc := "(ILjava/lang/Exception;)V" } : Jvm.MethodName) prog_5_method_2_code (3 : Nat) (Option.none : Option Jvm.ClassFile.FieldType)) ∈ lw_all := lw_g (lw_at lw_m2 83 rfl) rfl
theorem q412 : (Jvm.Cond.methodLink "GossipStairs$Refused" (15 : Nat) ({ cls := "java/lang/Exception", name := "<init>", desc := "(Ljava/lang/String;Ljava/lang/Throwable;)V" } : Jvm.MethodName)) ∈ lw_all := lw_g (lw_at lw_m2 84 rfl) rfl
theorem q497 : (Jvm.Cond.selects "GossipStairs$Refused" ({ cls := "java/lang/Object", name := "getClass", desc := "()Ljava/lang/Class;" } : Jvm.MethodName) ({ cls := "java/lang/Object", name := "getClass", desc := "()Ljava/lang/Class;" } : Jvm.MethodName)) ∈ lw_all := lw_g (lw_at lw_m2 169 rfl) rfl
theorem q1197 : (Jvm.Cond.selects "GossipStairs$Refused" ({ cls := "java/lang/Throwable", name := "getCause", desc := "()Ljava/lang/Throwable;" } : Jvm.MethodName) ({ cls := "java/lang/Throwable", name := "getCause", desc := "()Ljava/lang/Throwable;" } : Jvm.MethodName)) ∈ lw_all := lw_g (lw_at lw_m5 149 rfl) rfl
theorem q2265 : (Jvm.Cond.castable "GossipStairs$Refused" "java/lang/Object") ∈ lw_tbl := lw_at lw_m10 17 rfl
theorem in_X4 : ∀ w ∈ wsX40, w ∈ lw_all := lw_in wsX40 [298, 300, 302, 304, 306, 356, 350] (by decide +kernel) (by decide +kernel)
/-! GossipStairs$Reason -/
def RX5 : String := "GossipStairs$Reason"
def TX5 : u_T := fun k => match k with
  | 0 => ("java/lang/Throwable", "cause", "Ljava/lang/Throwable;", false)
  | 1 => ("java/lang/Throwable", "stackTrace", "[Ljava/lang/StackTraceElement;", false)
  | 2 => ("java/lang/Throwable", "suppressedExceptions", "Ljava/util/List;", false)
  | 3 => ("java/lang/Throwable", "detailMessage", "Ljava/lang/String;", false)
  | 4 => ("java/lang/Throwable", "backtrace", "Ljava/lang/Object;", false)
  | 5 => ("java/lang/Throwable", "depth", "I", false)
  | _ => ("GossipStairs$Reason", "number", "I", true)
def tyX5 : Nat → FieldType := fun k => match k with
  | 0 => .object "java/lang/Throwable"
  | 1 => .array (.object "java/lang/StackTraceElement")
  | 2 => .object "java/util/List"
  | 3 => .object "java/lang/String"
  | 4 => .object "java/lang/Object"
  | 5 => .int
  | _ => .int
abbrev wsX50 : List Cond := u_ws RX5 TX5 7
theorem nmX5 : ∀ a, a < 7 → ∀ b, b < 7 → a ≠ b → (TX5 a).2.1 ≠ (TX5 b).2.1 := by decide +kernel
theorem tyX5_ok : ∀ k, k < 7 → parseFieldDescriptor (TX5 k).2.2.1 = some (tyX5 k) := by decide +kernel
abbrev cX5_init : ByteArray := prog_4_method_1_code
def yX5_init : MethodName := ⟨RX5, "<init>", "(I)V"⟩
theorem q102 : (Jvm.Cond.initialized "GossipStairs$Reason") ∈ lw_all := lw_g (lw_at lw_m1 14 rfl) rfl
theorem q320 : (Jvm.Cond.selects "GossipStairs$Reason" ({ cls := "java/lang/Throwable", name := "fillInStackTrace", desc := "()Ljava/lang/Throwable;" } : Jvm.MethodName) ({ cls := "java/lang/Throwable", name := "fillInStackTrace", desc := "()Ljava/lang/Throwable;" } : Jvm.MethodName)) ∈ lw_all := lw_g (lw_at lw_m1 232 rfl) rfl
theorem q390 : (Jvm.Cond.instantiable "GossipStairs$Reason" (7 : Nat)) ∈ lw_all := lw_g (lw_at lw_m2 62 rfl) rfl
theorem q391 : (Jvm.Cond.castable "GossipStairs$Reason" "GossipStairs$Reason") ∈ lw_tbl := lw_at lw_m2 63 rfl
theorem q392 : (Jvm.Cond.selects "GossipStairs$Reason" ({ cls := "java/lang/Throwable", name := "fillInStackTrace", desc := "(I)Ljava/lang/Throwable;" } : Jvm.MethodName) ({ cls := "java/lang/Throwable", name := "fillInStackTrace", desc := "(I)Ljava/lang/Throwable;" } : Jvm.MethodName)) ∈ lw_all := lw_g (lw_at lw_m2 64 rfl) rfl
theorem q393 : (Jvm.Cond.lays "GossipStairs$Reason" "java/lang/Throwable" "cause" "Ljava/lang/Throwable;") ∈ lw_all := lw_g (lw_at lw_m2 65 rfl) rfl
theorem q394 : (Jvm.Cond.lays "GossipStairs$Reason" "java/lang/Throwable" "stackTrace" "[Ljava/lang/StackTraceElement;") ∈ lw_all := lw_g (lw_at lw_m2 66 rfl) rfl
theorem q395 : (Jvm.Cond.lays "GossipStairs$Reason" "java/lang/Throwable" "suppressedExceptions" "Ljava/util/List;") ∈ lw_all := lw_g (lw_at lw_m2 67 rfl) rfl
theorem q396 : (Jvm.Cond.lays "GossipStairs$Reason" "java/lang/Throwable" "detailMessage" "Ljava/lang/String;") ∈ lw_all := lw_g (lw_at lw_m2 68 rfl) rfl
theorem q397 : (Jvm.Cond.lays "GossipStairs$Reason" "java/lang/Throwable" "backtrace" "Ljava/lang/Object;") ∈ lw_all := lw_g (lw_at lw_m2 69 rfl) rfl
theorem q399 : (Jvm.Cond.instanceMethod ({ cls := "GossipStairs$Reason", name := "<init>", desc := "(I)V" } : Jvm.MethodName)) ∈ lw_all := lw_g (lw_at lw_m2 71 rfl) rfl
theorem q400 : (Jvm.Cond.code ({ cls := "GossipStairs$Reason", name := "<init>", desc := "(I)V" } : Jvm.MethodName) prog_4_method_1_code (2 : Nat) (Option.none : Option Jvm.ClassFile.FieldType)) ∈ lw_all := lw_g (lw_at lw_m2 72 rfl) rfl
theorem q401 : (Jvm.Cond.stringRef "GossipStairs$Reason" (1 : Nat) "reason") ∈ lw_tbl := lw_at lw_m2 73 rfl
theorem q402 : (Jvm.Cond.methodLink "GossipStairs$Reason" (3 : Nat) ({ cls := "java/lang/Exception", name := "<init>", desc := "(Ljava/lang/String;)V" } : Jvm.MethodName)) ∈ lw_all := lw_g (lw_at lw_m2 74 rfl) rfl
theorem q403 : (Jvm.Cond.fieldLink "GossipStairs$Reason" (9 : Nat) "GossipStairs$Reason" "number" "I") ∈ lw_all := lw_g (lw_at lw_m2 75 rfl) rfl
theorem q405 : (Jvm.Cond.laysFinal "GossipStairs$Reason" "GossipStairs$Reason" "number" "I") ∈ lw_all := lw_g (lw_at lw_m2 77 rfl) rfl
theorem q406 : (Jvm.Cond.soleField "GossipStairs$Reason" "number") ∈ lw_all := lw_g (lw_at lw_m2 78 rfl) rfl
theorem q407 : (Jvm.Cond.lays "GossipStairs$Reason" "java/lang/Throwable" "depth" "I") ∈ lw_all := lw_g (lw_at lw_m2 79 rfl) rfl
theorem q408 : (Jvm.Cond.superclass "GossipStairs$Reason" "java/lang/Exception") ∈ lw_all := lw_g (lw_at lw_m2 80 rfl) rfl
theorem q496 : (Jvm.Cond.selects "GossipStairs$Reason" ({ cls := "java/lang/Object", name := "getClass", desc := "()Ljava/lang/Class;" } : Jvm.MethodName) ({ cls := "java/lang/Object", name := "getClass", desc := "()Ljava/lang/Class;" } : Jvm.MethodName)) ∈ lw_all := lw_g (lw_at lw_m2 168 rfl) rfl
theorem q1196 : (Jvm.Cond.selects "GossipStairs$Reason" ({ cls := "java/lang/Throwable", name := "getCause", desc := "()Ljava/lang/Throwable;" } : Jvm.MethodName) ({ cls := "java/lang/Throwable", name := "getCause", desc := "()Ljava/lang/Throwable;" } : Jvm.MethodName)) ∈ lw_all := lw_g (lw_at lw_m5 148 rfl) rfl
theorem q2266 : (Jvm.Cond.castable "GossipStairs$Reason" "java/lang/Object") ∈ lw_tbl := lw_at lw_m10 18 rfl
theorem in_X5 : ∀ w ∈ wsX50, w ∈ lw_all := lw_in wsX50 [393, 394, 395, 396, 397, 407, 405] (by decide +kernel) (by decide +kernel)
/-! GossipStairs$Step -/
def RX6 : String := "GossipStairs$Step"
def TX6 : u_T := fun k => match k with
  | 0 => ("java/lang/Throwable", "cause", "Ljava/lang/Throwable;", false)
  | 1 => ("java/lang/Throwable", "stackTrace", "[Ljava/lang/StackTraceElement;", false)
  | 2 => ("java/lang/Throwable", "suppressedExceptions", "Ljava/util/List;", false)
  | 3 => ("java/lang/Throwable", "detailMessage", "Ljava/lang/String;", false)
  | 4 => ("java/lang/Throwable", "backtrace", "Ljava/lang/Object;", false)
  | 5 => ("java/lang/Throwable", "depth", "I", false)
  | _ => ("GossipStairs$Step", "which", "I", true)
def tyX6 : Nat → FieldType := fun k => match k with
  | 0 => .object "java/lang/Throwable"
  | 1 => .array (.object "java/lang/StackTraceElement")
  | 2 => .object "java/util/List"
  | 3 => .object "java/lang/String"
  | 4 => .object "java/lang/Object"
  | 5 => .int
  | _ => .int
abbrev wsX60 : List Cond := u_ws RX6 TX6 7
theorem nmX6 : ∀ a, a < 7 → ∀ b, b < 7 → a ≠ b → (TX6 a).2.1 ≠ (TX6 b).2.1 := by decide +kernel
theorem tyX6_ok : ∀ k, k < 7 → parseFieldDescriptor (TX6 k).2.2.1 = some (tyX6 k) := by decide +kernel
abbrev cX6_init : ByteArray := prog_6_method_1_code
def yX6_init : MethodName := ⟨RX6, "<init>", "(ILjava/lang/Exception;)V"⟩
theorem q111 : (Jvm.Cond.initialized "GossipStairs$Step") ∈ lw_all := lw_g (lw_at lw_m1 23 rfl) rfl
theorem q321 : (Jvm.Cond.selects "GossipStairs$Step" ({ cls := "java/lang/Throwable", name := "fillInStackTrace", desc := "()Ljava/lang/Throwable;" } : Jvm.MethodName) ({ cls := "java/lang/Throwable", name := "fillInStackTrace", desc := "()Ljava/lang/Throwable;" } : Jvm.MethodName)) ∈ lw_all := lw_g (lw_at lw_m1 233 rfl) rfl
theorem q498 : (Jvm.Cond.selects "GossipStairs$Step" ({ cls := "java/lang/Object", name := "getClass", desc := "()Ljava/lang/Class;" } : Jvm.MethodName) ({ cls := "java/lang/Object", name := "getClass", desc := "()Ljava/lang/Class;" } : Jvm.MethodName)) ∈ lw_all := lw_g (lw_at lw_m2 170 rfl) rfl
theorem q572 : (Jvm.Cond.instantiable "GossipStairs$Step" (7 : Nat)) ∈ lw_all := lw_g (lw_at lw_m3 4 rfl) rfl
theorem q573 : (Jvm.Cond.castable "GossipStairs$Step" "GossipStairs$Step") ∈ lw_tbl := lw_at lw_m3 5 rfl
theorem q574 : (Jvm.Cond.selects "GossipStairs$Step" ({ cls := "java/lang/Throwable", name := "fillInStackTrace", desc := "(I)Ljava/lang/Throwable;" } : Jvm.MethodName) ({ cls := "java/lang/Throwable", name := "fillInStackTrace", desc := "(I)Ljava/lang/Throwable;" } : Jvm.MethodName)) ∈ lw_all := lw_g (lw_at lw_m3 6 rfl) rfl
theorem q575 : (Jvm.Cond.lays "GossipStairs$Step" "java/lang/Throwable" "cause" "Ljava/lang/Throwable;") ∈ lw_all := lw_g (lw_at lw_m3 7 rfl) rfl
theorem q576 : (Jvm.Cond.lays "GossipStairs$Step" "java/lang/Throwable" "stackTrace" "[Ljava/lang/StackTraceElement;") ∈ lw_all := lw_g (lw_at lw_m3 8 rfl) rfl
theorem q577 : (Jvm.Cond.lays "GossipStairs$Step" "java/lang/Throwable" "suppressedExceptions" "Ljava/util/List;") ∈ lw_all := lw_g (lw_at lw_m3 9 rfl) rfl
theorem q578 : (Jvm.Cond.lays "GossipStairs$Step" "java/lang/Throwable" "detailMessage" "Ljava/lang/String;") ∈ lw_all := lw_g (lw_at lw_m3 10 rfl) rfl
theorem q579 : (Jvm.Cond.lays "GossipStairs$Step" "java/lang/Throwable" "backtrace" "Ljava/lang/Object;") ∈ lw_all := lw_g (lw_at lw_m3 11 rfl) rfl
theorem q581 : (Jvm.Cond.instanceMethod ({ cls := "GossipStairs$Step", name := "<init>", desc := "(ILjava/lang/Exception;)V" } : Jvm.MethodName)) ∈ lw_all := lw_g (lw_at lw_m3 13 rfl) rfl
theorem q582 : (Jvm.Cond.code ({ cls := "GossipStairs$Step", name := "<init>", desc := "(ILjava/lang/Exception;)V" } : Jvm.MethodName) prog_6_method_1_code (3 : Nat) (Option.none : Option Jvm.ClassFile.FieldType)) ∈ lw_all := lw_g (lw_at lw_m3 14 rfl) rfl
theorem q583 : (Jvm.Cond.stringRef "GossipStairs$Step" (1 : Nat) "step") ∈ lw_tbl := lw_at lw_m3 15 rfl
theorem q584 : (Jvm.Cond.methodLink "GossipStairs$Step" (3 : Nat) ({ cls := "java/lang/Exception", name := "<init>", desc := "(Ljava/lang/String;Ljava/lang/Throwable;)V" } : Jvm.MethodName)) ∈ lw_all := lw_g (lw_at lw_m3 16 rfl) rfl
theorem q585 : (Jvm.Cond.fieldLink "GossipStairs$Step" (9 : Nat) "GossipStairs$Step" "which" "I") ∈ lw_all := lw_g (lw_at lw_m3 17 rfl) rfl
theorem q587 : (Jvm.Cond.laysFinal "GossipStairs$Step" "GossipStairs$Step" "which" "I") ∈ lw_all := lw_g (lw_at lw_m3 19 rfl) rfl
theorem q588 : (Jvm.Cond.soleField "GossipStairs$Step" "which") ∈ lw_all := lw_g (lw_at lw_m3 20 rfl) rfl
theorem q589 : (Jvm.Cond.lays "GossipStairs$Step" "java/lang/Throwable" "depth" "I") ∈ lw_all := lw_g (lw_at lw_m3 21 rfl) rfl
theorem q590 : (Jvm.Cond.superclass "GossipStairs$Step" "java/lang/Exception") ∈ lw_all := lw_g (lw_at lw_m3 22 rfl) rfl
theorem q1198 : (Jvm.Cond.selects "GossipStairs$Step" ({ cls := "java/lang/Throwable", name := "getCause", desc := "()Ljava/lang/Throwable;" } : Jvm.MethodName) ({ cls := "java/lang/Throwable", name := "getCause", desc := "()Ljava/lang/Throwable;" } : Jvm.MethodName)) ∈ lw_all := lw_g (lw_at lw_m5 150 rfl) rfl
theorem q2270 : (Jvm.Cond.castable "GossipStairs$Step" "java/lang/Object") ∈ lw_tbl := lw_at lw_m10 22 rfl
theorem in_X6 : ∀ w ∈ wsX60, w ∈ lw_all := lw_in wsX60 [575, 576, 577, 578, 579, 589, 587] (by decide +kernel) (by decide +kernel)
/-! GossipStairs$Reader -/
def RX7 : String := "GossipStairs$Reader"
def TX7 : u_T := fun k => match k with
  | 0 => ("GossipStairs$Reader", "trial", "LGossipStairs$Diagram;", true)
  | 1 => ("GossipStairs$Reader", "numbers", "[I", true)
  | 2 => ("GossipStairs$Reader", "at", "I", false)
  | 3 => ("GossipStairs$Reader", "begins", "I", false)
  | 4 => ("GossipStairs$Reader", "reason", "I", false)
  | 5 => ("GossipStairs$Reader", "cause", "I", false)
  | 6 => ("GossipStairs$Reader", "many", "I", false)
  | _ => ("GossipStairs$Reader", "this$0", "LGossipStairs;", true)
def tyX7 : Nat → FieldType := fun k => match k with
  | 0 => .object "GossipStairs$Diagram"
  | 1 => .array .int
  | 2 => .int
  | 3 => .int
  | 4 => .int
  | 5 => .int
  | 6 => .int
  | _ => .object "GossipStairs"
abbrev wsX70 : List Cond := u_ws RX7 TX7 8
theorem nmX7 : ∀ a, a < 8 → ∀ b, b < 8 → a ≠ b → (TX7 a).2.1 ≠ (TX7 b).2.1 := by decide +kernel
theorem tyX7_ok : ∀ k, k < 8 → parseFieldDescriptor (TX7 k).2.2.1 = some (tyX7 k) := by decide +kernel
abbrev cX7_init : ByteArray := prog_3_method_1_code
def yX7_init : MethodName := ⟨RX7, "<init>", "(LGossipStairs;)V"⟩
abbrev cX7_isWell : ByteArray := prog_3_method_6_code
def yX7_isWell : MethodName := ⟨RX7, "isWell", "()Z"⟩
abbrev cX7_one : ByteArray := prog_3_method_5_code
def yX7_one : MethodName := ⟨RX7, "one", "()V"⟩
abbrev cX7_isOfForm : ByteArray := prog_3_method_4_code
def yX7_isOfForm : MethodName := ⟨RX7, "isOfForm", "(I)Z"⟩
abbrev cX7_accepts : ByteArray := prog_3_method_2_code
def yX7_accepts : MethodName := ⟨RX7, "accepts", "(C)Z"⟩
abbrev cX7_reads : ByteArray := prog_3_method_3_code
def yX7_reads : MethodName := ⟨RX7, "reads", "(I)Z"⟩
theorem q116 : (Jvm.Cond.initialized "GossipStairs$Reader") ∈ lw_all := lw_g (lw_at lw_m1 28 rfl) rfl
theorem q246 : (Jvm.Cond.fieldLinkNest "GossipStairs$Reader" (17 : Nat) "GossipStairs" "diagram" "LGossipStairs$Diagram;" "GossipStairs") ∈ lw_tbl := lw_at lw_m1 158 rfl
theorem q250 : (Jvm.Cond.fieldLinkNest "GossipStairs$Reader" (35 : Nat) "GossipStairs" "text" "Ljava/lang/StringBuilder;" "GossipStairs") ∈ lw_tbl := lw_at lw_m1 162 rfl
theorem q342 : (Jvm.Cond.fieldLinkNest "GossipStairs$Reader" (96 : Nat) "GossipStairs$Refused" "kind" "I" "GossipStairs") ∈ lw_tbl := lw_at lw_m2 14 rfl
theorem q495 : (Jvm.Cond.selects "GossipStairs$Reader" ({ cls := "java/lang/Object", name := "getClass", desc := "()Ljava/lang/Class;" } : Jvm.MethodName) ({ cls := "java/lang/Object", name := "getClass", desc := "()Ljava/lang/Class;" } : Jvm.MethodName)) ∈ lw_all := lw_g (lw_at lw_m2 167 rfl) rfl
theorem q1500 : (Jvm.Cond.instantiable "GossipStairs$Reader" (8 : Nat)) ∈ lw_all := lw_g (lw_at lw_m6 212 rfl) rfl
theorem q1502 : (Jvm.Cond.instanceMethod ({ cls := "GossipStairs$Reader", name := "<init>", desc := "(LGossipStairs;)V" } : Jvm.MethodName)) ∈ lw_all := lw_g (lw_at lw_m6 214 rfl) rfl
theorem q1503 : (Jvm.Cond.code ({ cls := "GossipStairs$Reader", name := "<init>", desc := "(LGossipStairs;)V" } : Jvm.MethodName) prog_3_method_1_code (2 : Nat) (Option.none : Option Jvm.ClassFile.FieldType)) ∈ lw_all := lw_g (lw_at lw_m6 215 rfl) rfl
theorem q1504 : (Jvm.Cond.methodLink "GossipStairs$Reader" (9 : Nat) ({ cls := "java/lang/Object", name := "<init>", desc := "()V" } : Jvm.MethodName)) ∈ lw_all := lw_g (lw_at lw_m6 216 rfl) rfl
theorem q1505 : (Jvm.Cond.classLink "GossipStairs$Reader" (15 : Nat) "GossipStairs$Diagram") ∈ lw_all := lw_g (lw_at lw_m6 217 rfl) rfl
theorem q1506 : (Jvm.Cond.methodLink "GossipStairs$Reader" (21 : Nat) ({ cls := "GossipStairs$Diagram", name := "<init>", desc := "(LGossipStairs$Diagram;)V" } : Jvm.MethodName)) ∈ lw_all := lw_g (lw_at lw_m6 218 rfl) rfl
theorem q1507 : (Jvm.Cond.fieldLink "GossipStairs$Reader" (24 : Nat) "GossipStairs$Reader" "trial" "LGossipStairs$Diagram;") ∈ lw_all := lw_g (lw_at lw_m6 219 rfl) rfl
theorem q1509 : (Jvm.Cond.fieldLink "GossipStairs$Reader" (27 : Nat) "GossipStairs$Reader" "numbers" "[I") ∈ lw_all := lw_g (lw_at lw_m6 221 rfl) rfl
theorem q1510 : (Jvm.Cond.fieldLink "GossipStairs$Reader" (31 : Nat) "GossipStairs$Reader" "at" "I") ∈ lw_all := lw_g (lw_at lw_m6 222 rfl) rfl
theorem q1511 : (Jvm.Cond.fieldLink "GossipStairs$Reader" (81 : Nat) "GossipStairs$Reader" "begins" "I") ∈ lw_all := lw_g (lw_at lw_m6 223 rfl) rfl
theorem q1513 : (Jvm.Cond.fieldLink "GossipStairs$Reader" (78 : Nat) "GossipStairs$Reader" "reason" "I") ∈ lw_all := lw_g (lw_at lw_m6 225 rfl) rfl
theorem q1515 : (Jvm.Cond.fieldLink "GossipStairs$Reader" (84 : Nat) "GossipStairs$Reader" "cause" "I") ∈ lw_all := lw_g (lw_at lw_m6 227 rfl) rfl
theorem q1517 : (Jvm.Cond.fieldLink "GossipStairs$Reader" (91 : Nat) "GossipStairs$Reader" "many" "I") ∈ lw_all := lw_g (lw_at lw_m6 229 rfl) rfl
theorem q1519 : (Jvm.Cond.fieldLink "GossipStairs$Reader" (3 : Nat) "GossipStairs$Reader" "this$0" "LGossipStairs;") ∈ lw_all := lw_g (lw_at lw_m6 231 rfl) rfl
theorem q1520 : (Jvm.Cond.laysFinal "GossipStairs$Reader" "GossipStairs$Reader" "trial" "LGossipStairs$Diagram;") ∈ lw_all := lw_g (lw_at lw_m6 232 rfl) rfl
theorem q1521 : (Jvm.Cond.soleField "GossipStairs$Reader" "trial") ∈ lw_all := lw_g (lw_at lw_m6 233 rfl) rfl
theorem q1522 : (Jvm.Cond.laysFinal "GossipStairs$Reader" "GossipStairs$Reader" "numbers" "[I") ∈ lw_all := lw_g (lw_at lw_m6 234 rfl) rfl
theorem q1523 : (Jvm.Cond.soleField "GossipStairs$Reader" "numbers") ∈ lw_all := lw_g (lw_at lw_m6 235 rfl) rfl
theorem q1524 : (Jvm.Cond.lays "GossipStairs$Reader" "GossipStairs$Reader" "at" "I") ∈ lw_all := lw_g (lw_at lw_m6 236 rfl) rfl
theorem q1525 : (Jvm.Cond.soleField "GossipStairs$Reader" "at") ∈ lw_all := lw_g (lw_at lw_m6 237 rfl) rfl
theorem q1526 : (Jvm.Cond.lays "GossipStairs$Reader" "GossipStairs$Reader" "begins" "I") ∈ lw_all := lw_g (lw_at lw_m6 238 rfl) rfl
theorem q1527 : (Jvm.Cond.soleField "GossipStairs$Reader" "begins") ∈ lw_all := lw_g (lw_at lw_m6 239 rfl) rfl
theorem q1528 : (Jvm.Cond.lays "GossipStairs$Reader" "GossipStairs$Reader" "reason" "I") ∈ lw_all := lw_g (lw_at lw_m7 0 rfl) rfl
theorem q1529 : (Jvm.Cond.soleField "GossipStairs$Reader" "reason") ∈ lw_all := lw_g (lw_at lw_m7 1 rfl) rfl
theorem q1530 : (Jvm.Cond.lays "GossipStairs$Reader" "GossipStairs$Reader" "cause" "I") ∈ lw_all := lw_g (lw_at lw_m7 2 rfl) rfl
theorem q1531 : (Jvm.Cond.soleField "GossipStairs$Reader" "cause") ∈ lw_all := lw_g (lw_at lw_m7 3 rfl) rfl
theorem q1532 : (Jvm.Cond.lays "GossipStairs$Reader" "GossipStairs$Reader" "many" "I") ∈ lw_all := lw_g (lw_at lw_m7 4 rfl) rfl
theorem q1533 : (Jvm.Cond.soleField "GossipStairs$Reader" "many") ∈ lw_all := lw_g (lw_at lw_m7 5 rfl) rfl
theorem q1534 : (Jvm.Cond.laysFinal "GossipStairs$Reader" "GossipStairs$Reader" "this$0" "LGossipStairs;") ∈ lw_all := lw_g (lw_at lw_m7 6 rfl) rfl
theorem q1535 : (Jvm.Cond.soleField "GossipStairs$Reader" "this$0") ∈ lw_all := lw_g (lw_at lw_m7 7 rfl) rfl
theorem q1536 : (Jvm.Cond.superclass "GossipStairs$Reader" "java/lang/Object") ∈ lw_all := lw_g (lw_at lw_m7 8 rfl) rfl
theorem q1538 : (Jvm.Cond.instanceMethod ({ cls := "GossipStairs$Reader", name := "isWell", desc := "()Z" } : Jvm.MethodName)) ∈ lw_all := lw_g (lw_at lw_m7 10 rfl) rfl
theorem q1539 : (Jvm.Cond.selects "GossipStairs$Reader" ({ cls := "GossipStairs$Reader", name := "isWell", desc := "()Z" } : Jvm.MethodName) ({ cls := "GossipStairs$Reader", name := "isWell", desc := "()Z" } : Jvm.MethodName)) ∈ lw_all := lw_g (lw_at lw_m7 11 rfl) rfl
theorem q1540 : (Jvm.Cond.code ({ cls := "GossipStairs$Reader", name := "isWell", desc := "()Z" } : Jvm.MethodName) prog_3_method_6_code (1 : Nat) (Option.some Jvm.ClassFile.FieldType.boolean)) ∈ lw_all := lw_g (lw_at lw_m7 12 rfl) rfl
theorem q1541 : (Jvm.Cond.methodLink "GossipStairs$Reader" (39 : Nat) ({ cls := "java/lang/StringBuilder", name := "length", desc := "()I" } : Jvm.MethodName)) ∈ lw_all := lw_g (lw_at lw_m7 13 rfl) rfl
theorem q1542 : (Jvm.Cond.methodLink "GossipStairs$Reader" (99 : Nat) ({ cls := "GossipStairs$Reader", name := "one", desc := "()V" } : Jvm.MethodName)) ∈ lw_all := lw_g (lw_at lw_m7 14 rfl) rfl
theorem q1543 : (Jvm.Cond.privateMethod ({ cls := "GossipStairs$Reader", name := "one", desc := "()V" } : Jvm.MethodName)) ∈ lw_tbl := lw_at lw_m7 15 rfl
theorem q1544 : (Jvm.Cond.instanceMethod ({ cls := "GossipStairs$Reader", name := "one", desc := "()V" } : Jvm.MethodName)) ∈ lw_all := lw_g (lw_at lw_m7 16 rfl) rfl
theorem q1545 : (Jvm.Cond.codeWith ({ cls := "GossipStairs$Reader", name := "one", desc := "()V" } : Jvm.MethodName) prog_3_method_5_code (4 : Nat) (Option.none : Option Jvm.ClassFile.FieldType) [((98 : Nat), (121 : Nat), (124 : Nat), (94 : Nat))]) ∈ lw_all := lw_g (lw_at lw_m7 17 rfl) rfl
theorem q1546 : (Jvm.Cond.classLink "GossipStairs$Reader" (94 : Nat) "GossipStairs$Refused") ∈ lw_all := lw_g (lw_at lw_m7 18 rfl) rfl
theorem q1547 : (Jvm.Cond.methodLink "GossipStairs$Reader" (45 : Nat) ({ cls := "java/lang/StringBuilder", name := "charAt", desc := "(I)C" } : Jvm.MethodName)) ∈ lw_all := lw_g (lw_at lw_m7 19 rfl) rfl
theorem q1557 : (Jvm.Cond.stringRef "GossipStairs$Reader" (65 : Nat) "ah") ∈ lw_tbl := lw_at lw_m7 29 rfl
theorem q1558 : (Jvm.Cond.methodLink "GossipStairs$Reader" (67 : Nat) ({ cls := "java/lang/String", name := "indexOf", desc := "(I)I" } : Jvm.MethodName)) ∈ lw_all := lw_g (lw_at lw_m7 30 rfl) rfl
theorem q1608 : (Jvm.Cond.stringRef "GossipStairs$Reader" (73 : Nat) "bdut") ∈ lw_tbl := lw_at lw_m7 80 rfl
theorem q1609 : (Jvm.Cond.methodLink "GossipStairs$Reader" (75 : Nat) ({ cls := "GossipStairs$Reader", name := "isOfForm", desc := "(I)Z" } : Jvm.MethodName)) ∈ lw_all := lw_g (lw_at lw_m7 81 rfl) rfl
theorem q1610 : (Jvm.Cond.privateMethod ({ cls := "GossipStairs$Reader", name := "isOfForm", desc := "(I)Z" } : Jvm.MethodName)) ∈ lw_tbl := lw_at lw_m7 82 rfl
theorem q1611 : (Jvm.Cond.instanceMethod ({ cls := "GossipStairs$Reader", name := "isOfForm", desc := "(I)Z" } : Jvm.MethodName)) ∈ lw_all := lw_g (lw_at lw_m7 83 rfl) rfl
theorem q1612 : (Jvm.Cond.code ({ cls := "GossipStairs$Reader", name := "isOfForm", desc := "(I)Z" } : Jvm.MethodName) prog_3_method_4_code (4 : Nat) (Option.some Jvm.ClassFile.FieldType.boolean)) ∈ lw_all := lw_g (lw_at lw_m7 84 rfl) rfl
theorem q1613 : (Jvm.Cond.methodLink "GossipStairs$Reader" (57 : Nat) ({ cls := "GossipStairs$Reader", name := "accepts", desc := "(C)Z" } : Jvm.MethodName)) ∈ lw_all := lw_g (lw_at lw_m7 85 rfl) rfl
theorem q1614 : (Jvm.Cond.privateMethod ({ cls := "GossipStairs$Reader", name := "accepts", desc := "(C)Z" } : Jvm.MethodName)) ∈ lw_tbl := lw_at lw_m7 86 rfl
theorem q1615 : (Jvm.Cond.instanceMethod ({ cls := "GossipStairs$Reader", name := "accepts", desc := "(C)Z" } : Jvm.MethodName)) ∈ lw_all := lw_g (lw_at lw_m7 87 rfl) rfl
theorem q1616 : (Jvm.Cond.code ({ cls := "GossipStairs$Reader", name := "accepts", desc := "(C)Z" } : Jvm.MethodName) prog_3_method_2_code (3 : Nat) (Option.some Jvm.ClassFile.FieldType.boolean)) ∈ lw_all := lw_g (lw_at lw_m7 88 rfl) rfl
theorem q1617 : (Jvm.Cond.methodLink "GossipStairs$Reader" (61 : Nat) ({ cls := "GossipStairs$Reader", name := "reads", desc := "(I)Z" } : Jvm.MethodName)) ∈ lw_all := lw_g (lw_at lw_m7 89 rfl) rfl
theorem q1618 : (Jvm.Cond.privateMethod ({ cls := "GossipStairs$Reader", name := "reads", desc := "(I)Z" } : Jvm.MethodName)) ∈ lw_tbl := lw_at lw_m7 90 rfl
theorem q1619 : (Jvm.Cond.instanceMethod ({ cls := "GossipStairs$Reader", name := "reads", desc := "(I)Z" } : Jvm.MethodName)) ∈ lw_all := lw_g (lw_at lw_m7 91 rfl) rfl
theorem q1620 : (Jvm.Cond.code ({ cls := "GossipStairs$Reader", name := "reads", desc := "(I)Z" } : Jvm.MethodName) prog_3_method_3_code (3 : Nat) (Option.some Jvm.ClassFile.FieldType.boolean)) ∈ lw_all := lw_g (lw_at lw_m7 92 rfl) rfl
theorem q1621 : (Jvm.Cond.constantLong "GossipStairs$Reader" (49 : Nat) (48 : Int64)) ∈ lw_all := lw_g (lw_at lw_m7 93 rfl) rfl
theorem q1622 : (Jvm.Cond.constantLong "GossipStairs$Reader" (51 : Nat) (57 : Int64)) ∈ lw_all := lw_g (lw_at lw_m7 94 rfl) rfl
theorem q1623 : (Jvm.Cond.methodLinkNest "GossipStairs$Reader" (53 : Nat) ({ cls := "GossipStairs", name := "isBetween", desc := "(JJJ)Z" } : Jvm.MethodName) "GossipStairs") ∈ lw_tbl := lw_at lw_m7 95 rfl
theorem q1624 : (Jvm.Cond.methodLinkNest "GossipStairs$Reader" (87 : Nat) ({ cls := "GossipStairs", name := "done", desc := "(LGossipStairs$Diagram;C[I)I" } : Jvm.MethodName) "GossipStairs") ∈ lw_tbl := lw_at lw_m7 96 rfl
theorem q2273 : (Jvm.Cond.castable "GossipStairs$Reader" "java/lang/Object") ∈ lw_tbl := lw_at lw_m10 25 rfl
theorem in_X7 : ∀ w ∈ wsX70, w ∈ lw_all := lw_in wsX70 [1520, 1522, 1524, 1526, 1528, 1530, 1532, 1534] (by decide +kernel) (by decide +kernel)
theorem q920 : (Jvm.Cond.sameMethod "[B" "java/lang/Object" "clone" "()Ljava/lang/Object;") ∈ lw_all := lw_g (lw_at lw_m4 112 rfl) rfl
theorem q921 : (Jvm.Cond.selects "[B" ({ cls := "[B", name := "clone", desc := "()Ljava/lang/Object;" } : Jvm.MethodName) ({ cls := "java/lang/Object", name := "clone", desc := "()Ljava/lang/Object;" } : Jvm.MethodName)) ∈ lw_all := lw_g (lw_at lw_m4 113 rfl) rfl
theorem q922 : (Jvm.Cond.castable "[B" "java/lang/Cloneable") ∈ lw_tbl := lw_at lw_m4 114 rfl
theorem q2280 : (Jvm.Cond.castable "[B" "java/lang/Object") ∈ lw_tbl := lw_at lw_m10 32 rfl
theorem q2283 : (Jvm.Cond.castable "[F" "java/lang/Object") ∈ lw_tbl := lw_at lw_m10 35 rfl
theorem q274 : (Jvm.Cond.sameMethod "[I" "java/lang/Object" "clone" "()Ljava/lang/Object;") ∈ lw_all := lw_g (lw_at lw_m1 186 rfl) rfl
theorem q277 : (Jvm.Cond.selects "[I" ({ cls := "[I", name := "clone", desc := "()Ljava/lang/Object;" } : Jvm.MethodName) ({ cls := "java/lang/Object", name := "clone", desc := "()Ljava/lang/Object;" } : Jvm.MethodName)) ∈ lw_all := lw_g (lw_at lw_m1 189 rfl) rfl
theorem q278 : (Jvm.Cond.castable "[I" "java/lang/Cloneable") ∈ lw_tbl := lw_at lw_m1 190 rfl
theorem q2278 : (Jvm.Cond.castable "[I" "java/lang/Object") ∈ lw_tbl := lw_at lw_m10 30 rfl
theorem q2282 : (Jvm.Cond.castable "[J" "java/lang/Object") ∈ lw_tbl := lw_at lw_m10 34 rfl
theorem q2275 : (Jvm.Cond.sameMethod "[Ljava/lang/Object;" "java/lang/Object" "getClass" "()Ljava/lang/Class;") ∈ lw_all := lw_g (lw_at lw_m10 27 rfl) rfl
theorem q2276 : (Jvm.Cond.selects "[Ljava/lang/Object;" ({ cls := "java/lang/Object", name := "getClass", desc := "()Ljava/lang/Class;" } : Jvm.MethodName) ({ cls := "java/lang/Object", name := "getClass", desc := "()Ljava/lang/Class;" } : Jvm.MethodName)) ∈ lw_all := lw_g (lw_at lw_m10 28 rfl) rfl
theorem q2279 : (Jvm.Cond.castable "[Ljava/lang/Object;" "java/lang/Object") ∈ lw_tbl := lw_at lw_m10 31 rfl
theorem q2281 : (Jvm.Cond.castable "[Z" "java/lang/Object") ∈ lw_tbl := lw_at lw_m10 33 rfl
theorem q105 : (Jvm.Cond.initialized "java/lang/Integer$IntegerCache") ∈ lw_all := lw_g (lw_at lw_m1 17 rfl) rfl
theorem q432 : (Jvm.Cond.laysStatic "java/lang/Integer$IntegerCache" "high" "I") ∈ lw_tbl := lw_at lw_m2 104 rfl
theorem q434 : (Jvm.Cond.laysStatic "java/lang/Integer$IntegerCache" "cache" "[Ljava/lang/Integer;") ∈ lw_tbl := lw_at lw_m2 106 rfl
theorem q109 : (Jvm.Cond.initialized "java/lang/System") ∈ lw_all := lw_g (lw_at lw_m1 21 rfl) rfl
theorem q517 : (Jvm.Cond.static ({ cls := "java/lang/System", name := "arraycopy", desc := "(Ljava/lang/Object;ILjava/lang/Object;II)V" } : Jvm.MethodName)) ∈ lw_all := lw_g (lw_at lw_m2 189 rfl) rfl
theorem q518 : (Jvm.Cond.native ({ cls := "java/lang/System", name := "arraycopy", desc := "(Ljava/lang/Object;ILjava/lang/Object;II)V" } : Jvm.MethodName)) ∈ lw_all := lw_g (lw_at lw_m2 190 rfl) rfl
theorem q191 : (Jvm.Cond.arrayClass Jvm.ClassFile.FieldType.int) ∈ lw_all := lw_g (lw_at lw_m1 103 rfl) rfl
theorem q202 : (Jvm.Cond.arrayOver (Jvm.ClassFile.FieldType.object "java/lang/Object")) ∈ lw_tbl := lw_at lw_m1 114 rfl
theorem q245 : (Jvm.Cond.arrayClass Jvm.ClassFile.FieldType.byte) ∈ lw_all := lw_g (lw_at lw_m1 157 rfl) rfl
theorem q448 : (Jvm.Cond.arrayClass Jvm.ClassFile.FieldType.boolean) ∈ lw_all := lw_g (lw_at lw_m2 120 rfl) rfl
theorem q2243 : (Jvm.Cond.arrayClass Jvm.ClassFile.FieldType.long) ∈ lw_all := lw_g (lw_at lw_m9 235 rfl) rfl
theorem q2244 : (Jvm.Cond.arrayClass Jvm.ClassFile.FieldType.float) ∈ lw_all := lw_g (lw_at lw_m9 236 rfl) rfl
