theorem q585 : (Jvm.Cond.sameMethod "[B" "java/lang/Object" "clone" "()Ljava/lang/Object;") ∈ lw_all := lw_g (lw_at lw_m3 13 rfl) rfl
set_option maxRecDepth 100000
theorem q588 : (Jvm.Cond.selects "[B" ({ cls := "[B", name := "clone", desc := "()Ljava/lang/Object;" } : Jvm.MethodName) ({ cls := "java/lang/Object", name := "clone", desc := "()Ljava/lang/Object;" } : Jvm.MethodName)) ∈ lw_all := lw_g (lw_at lw_m3 16 rfl) rfl
theorem q589 : (Jvm.Cond.castable "[B" "java/lang/Cloneable") ∈ lw_tbl := lw_at lw_m3 17 rfl
theorem q2565 : (Jvm.Cond.castable "[B" "java/lang/Object") ∈ lw_tbl := lw_at lw_m11 73 rfl
theorem q2564 : (Jvm.Cond.castable "[I" "java/lang/Object") ∈ lw_tbl := lw_at lw_m11 72 rfl
set_option maxRecDepth 100000
theorem q2567 : (Jvm.Cond.castable "[J" "java/lang/Object") ∈ lw_tbl := lw_at lw_m11 75 rfl
set_option maxRecDepth 100000
theorem q2561 : (Jvm.Cond.castable "[LFountainPark$Fountain;" "java/lang/Object") ∈ lw_tbl := lw_at lw_m11 69 rfl
set_option maxRecDepth 100000
theorem q2562 : (Jvm.Cond.castable "[LFountainPark$Job;" "java/lang/Object") ∈ lw_tbl := lw_at lw_m11 70 rfl
set_option maxRecDepth 100000
theorem q2558 : (Jvm.Cond.sameMethod "[Ljava/lang/Object;" "java/lang/Object" "getClass" "()Ljava/lang/Class;") ∈ lw_all := lw_g (lw_at lw_m11 66 rfl) rfl
set_option maxRecDepth 100000
theorem q2559 : (Jvm.Cond.selects "[Ljava/lang/Object;" ({ cls := "java/lang/Object", name := "getClass", desc := "()Ljava/lang/Class;" } : Jvm.MethodName) ({ cls := "java/lang/Object", name := "getClass", desc := "()Ljava/lang/Class;" } : Jvm.MethodName)) ∈ lw_all := lw_g (lw_at lw_m11 67 rfl) rfl
theorem q2563 : (Jvm.Cond.castable "[Ljava/lang/Object;" "java/lang/Object") ∈ lw_tbl := lw_at lw_m11 71 rfl
theorem q2566 : (Jvm.Cond.castable "[Z" "java/lang/Object") ∈ lw_tbl := lw_at lw_m11 74 rfl
set_option maxRecDepth 100000
theorem q1140 : (Jvm.Cond.interfaceMethod "java/lang/Comparable" "java/lang/Comparable" "compareTo" "(Ljava/lang/Object;)I") ∈ lw_tbl := lw_at lw_m5 88 rfl
set_option maxRecDepth 100000
theorem q1141 : (Jvm.Cond.declares ({ cls := "java/lang/Comparable", name := "compareTo", desc := "(Ljava/lang/Object;)I" } : Jvm.MethodName)) ∈ lw_tbl := lw_at lw_m5 89 rfl
theorem q135 : (Jvm.Cond.initialized "java/lang/Integer$IntegerCache") ∈ lw_all := lw_g (lw_at lw_m1 43 rfl) rfl
set_option maxRecDepth 100000
theorem q1472 : (Jvm.Cond.laysStatic "java/lang/Integer$IntegerCache" "high" "I") ∈ lw_tbl := lw_at lw_m6 180 rfl
theorem q1474 : (Jvm.Cond.laysStatic "java/lang/Integer$IntegerCache" "cache" "[Ljava/lang/Integer;") ∈ lw_tbl := lw_at lw_m6 182 rfl
theorem q120 : (Jvm.Cond.initialized "java/lang/System") ∈ lw_all := lw_g (lw_at lw_m1 28 rfl) rfl
set_option maxRecDepth 100000
theorem q595 : (Jvm.Cond.static ({ cls := "java/lang/System", name := "arraycopy", desc := "(Ljava/lang/Object;ILjava/lang/Object;II)V" } : Jvm.MethodName)) ∈ lw_all := lw_g (lw_at lw_m3 23 rfl) rfl
theorem q596 : (Jvm.Cond.native ({ cls := "java/lang/System", name := "arraycopy", desc := "(Ljava/lang/Object;ILjava/lang/Object;II)V" } : Jvm.MethodName)) ∈ lw_all := lw_g (lw_at lw_m3 24 rfl) rfl
theorem q1132 : (Jvm.Cond.interfaceMethod "java/util/Comparator" "java/util/Comparator" "compare" "(Ljava/lang/Object;Ljava/lang/Object;)I") ∈ lw_tbl := lw_at lw_m5 80 rfl
set_option maxRecDepth 100000
theorem q1133 : (Jvm.Cond.declares ({ cls := "java/util/Comparator", name := "compare", desc := "(Ljava/lang/Object;Ljava/lang/Object;)I" } : Jvm.MethodName)) ∈ lw_tbl := lw_at lw_m5 81 rfl
theorem q1076 : (Jvm.Cond.interfaceMethod "java/util/Iterator" "java/util/Iterator" "hasNext" "()Z") ∈ lw_tbl := lw_at lw_m5 24 rfl
set_option maxRecDepth 100000
theorem q1077 : (Jvm.Cond.declares ({ cls := "java/util/Iterator", name := "hasNext", desc := "()Z" } : Jvm.MethodName)) ∈ lw_tbl := lw_at lw_m5 25 rfl
theorem q1089 : (Jvm.Cond.interfaceMethod "java/util/Iterator" "java/util/Iterator" "next" "()Ljava/lang/Object;") ∈ lw_tbl := lw_at lw_m5 37 rfl
theorem q1090 : (Jvm.Cond.declares ({ cls := "java/util/Iterator", name := "next", desc := "()Ljava/lang/Object;" } : Jvm.MethodName)) ∈ lw_tbl := lw_at lw_m5 38 rfl
theorem q934 : (Jvm.Cond.publicMethod ({ cls := "java/util/Map", name := "size", desc := "()I" } : Jvm.MethodName)) ∈ lw_tbl := lw_at lw_m4 122 rfl
set_option maxRecDepth 100000
theorem q935 : (Jvm.Cond.declares ({ cls := "java/util/Map", name := "size", desc := "()I" } : Jvm.MethodName)) ∈ lw_tbl := lw_at lw_m4 123 rfl
theorem q1439 : (Jvm.Cond.publicMethod ({ cls := "java/util/Map", name := "clear", desc := "()V" } : Jvm.MethodName)) ∈ lw_tbl := lw_at lw_m6 147 rfl
theorem q1440 : (Jvm.Cond.declares ({ cls := "java/util/Map", name := "clear", desc := "()V" } : Jvm.MethodName)) ∈ lw_tbl := lw_at lw_m6 148 rfl
theorem q1453 : (Jvm.Cond.publicMethod ({ cls := "java/util/Map", name := "put", desc := "(Ljava/lang/Object;Ljava/lang/Object;)Ljava/lang/Object;" } : Jvm.MethodName)) ∈ lw_tbl := lw_at lw_m6 161 rfl
theorem q1454 : (Jvm.Cond.declares ({ cls := "java/util/Map", name := "put", desc := "(Ljava/lang/Object;Ljava/lang/Object;)Ljava/lang/Object;" } : Jvm.MethodName)) ∈ lw_tbl := lw_at lw_m6 162 rfl
theorem q1643 : (Jvm.Cond.publicMethod ({ cls := "java/util/Map", name := "isEmpty", desc := "()Z" } : Jvm.MethodName)) ∈ lw_tbl := lw_at lw_m7 111 rfl
theorem q1644 : (Jvm.Cond.declares ({ cls := "java/util/Map", name := "isEmpty", desc := "()Z" } : Jvm.MethodName)) ∈ lw_tbl := lw_at lw_m7 112 rfl
theorem q1675 : (Jvm.Cond.publicMethod ({ cls := "java/util/Map", name := "remove", desc := "(Ljava/lang/Object;)Ljava/lang/Object;" } : Jvm.MethodName)) ∈ lw_tbl := lw_at lw_m7 143 rfl
theorem q1676 : (Jvm.Cond.declares ({ cls := "java/util/Map", name := "remove", desc := "(Ljava/lang/Object;)Ljava/lang/Object;" } : Jvm.MethodName)) ∈ lw_tbl := lw_at lw_m7 144 rfl
theorem q1061 : (Jvm.Cond.interfaceMethod "java/util/NavigableMap" "java/util/NavigableMap" "navigableKeySet" "()Ljava/util/NavigableSet;") ∈ lw_tbl := lw_at lw_m5 9 rfl
set_option maxRecDepth 100000
theorem q1062 : (Jvm.Cond.declares ({ cls := "java/util/NavigableMap", name := "navigableKeySet", desc := "()Ljava/util/NavigableSet;" } : Jvm.MethodName)) ∈ lw_tbl := lw_at lw_m5 10 rfl
theorem q1068 : (Jvm.Cond.interfaceMethod "java/util/NavigableSet" "java/util/NavigableSet" "iterator" "()Ljava/util/Iterator;") ∈ lw_tbl := lw_at lw_m5 16 rfl
set_option maxRecDepth 100000
theorem q1069 : (Jvm.Cond.declares ({ cls := "java/util/NavigableSet", name := "iterator", desc := "()Ljava/util/Iterator;" } : Jvm.MethodName)) ∈ lw_tbl := lw_at lw_m5 17 rfl
theorem q992 : (Jvm.Cond.interfaceMethod "java/util/Set" "java/util/Set" "iterator" "()Ljava/util/Iterator;") ∈ lw_tbl := lw_at lw_m4 180 rfl
set_option maxRecDepth 100000
theorem q993 : (Jvm.Cond.declares ({ cls := "java/util/Set", name := "iterator", desc := "()Ljava/util/Iterator;" } : Jvm.MethodName)) ∈ lw_tbl := lw_at lw_m4 181 rfl
theorem q1660 : (Jvm.Cond.publicMethod ({ cls := "java/util/SortedMap", name := "firstKey", desc := "()Ljava/lang/Object;" } : Jvm.MethodName)) ∈ lw_tbl := lw_at lw_m7 128 rfl
set_option maxRecDepth 100000
theorem q1661 : (Jvm.Cond.declares ({ cls := "java/util/SortedMap", name := "firstKey", desc := "()Ljava/lang/Object;" } : Jvm.MethodName)) ∈ lw_tbl := lw_at lw_m7 129 rfl
theorem q1051 : (Jvm.Cond.declares ({ cls := "java/util/TreeMap$NavigableSubMap", name := "keyIterator", desc := "()Ljava/util/Iterator;" } : Jvm.MethodName)) ∈ lw_tbl := lw_at lw_m4 239 rfl
set_option maxRecDepth 100000
theorem q1052 : (Jvm.Cond.selects "java/util/TreeMap$NavigableSubMap" ({ cls := "java/util/TreeMap$NavigableSubMap", name := "keyIterator", desc := "()Ljava/util/Iterator;" } : Jvm.MethodName) ({ cls := "java/util/TreeMap$NavigableSubMap", name := "keyIterator", desc := "()Ljava/util/Iterator;" } : Jvm.MethodName)) ∈ lw_all := lw_g (lw_at lw_m5 0 rfl) rfl
theorem q131 : (Jvm.Cond.initialized "jdk/internal/misc/UnsafeConstants") ∈ lw_all := lw_g (lw_at lw_m1 39 rfl) rfl
set_option maxRecDepth 100000
theorem q1236 : (Jvm.Cond.laysStatic "jdk/internal/misc/UnsafeConstants" "BIG_ENDIAN" "Z") ∈ lw_tbl := lw_at lw_m5 184 rfl
theorem q156 : (Jvm.Cond.arrayOver (Jvm.ClassFile.FieldType.object "FountainPark$Fountain")) ∈ lw_tbl := lw_at lw_m1 64 rfl
set_option maxRecDepth 100000
theorem q158 : (Jvm.Cond.arrayOver (Jvm.ClassFile.FieldType.object "FountainPark$Job")) ∈ lw_tbl := lw_at lw_m1 66 rfl
theorem q241 : (Jvm.Cond.arrayOver (Jvm.ClassFile.FieldType.object "java/lang/Object")) ∈ lw_tbl := lw_at lw_m1 149 rfl
theorem q371 : (Jvm.Cond.arrayClass Jvm.ClassFile.FieldType.int) ∈ lw_all := lw_g (lw_at lw_m2 39 rfl) rfl
theorem q505 : (Jvm.Cond.arrayClass Jvm.ClassFile.FieldType.byte) ∈ lw_all := lw_g (lw_at lw_m2 173 rfl) rfl
theorem q2173 : (Jvm.Cond.arrayClass Jvm.ClassFile.FieldType.boolean) ∈ lw_all := lw_g (lw_at lw_m9 161 rfl) rfl
theorem q2510 : (Jvm.Cond.arrayClass Jvm.ClassFile.FieldType.long) ∈ lw_all := lw_g (lw_at lw_m11 18 rfl) rfl
/-! java/util/AbstractCollection -/
set_option maxRecDepth 100000
def RJ0 : String := "java/util/AbstractCollection"
abbrev cJ0_init : ByteArray := prog_37_method_1_code
def yJ0_init : MethodName := ⟨RJ0, "<init>", "()V"⟩
theorem dJ0_init_0 : decode cJ0_init 0 = .ok (.aload_n 0, 1) := by decide +kernel
theorem dJ0_init_1 : decode cJ0_init 1 = .ok (.invokespecial 1, 3) := by decide +kernel
theorem dJ0_init_4 : decode cJ0_init 4 = .ok (.return_, 1) := by decide +kernel
abbrev cJ0_isEmpty : ByteArray := prog_37_method_4_code
def yJ0_isEmpty : MethodName := ⟨RJ0, "isEmpty", "()Z"⟩
def dkwJ0_isEmpty_0 : List UInt8 := [42, 182, 0, 7, 154, 0, 7, 4, 167, 0, 4, 3, 172]
abbrev dktJ0_isEmpty_0 : List UInt8 := dkwJ0_isEmpty_0 ++ []
theorem dksJ0_isEmpty_0 : cJ0_isEmpty.data.toList.drop 0 = dktJ0_isEmpty_0 := by decide +kernel
theorem dJ0_isEmpty_0 : decode cJ0_isEmpty 0 = .ok (.aload_n 0, 1) := dk_42 (dk_at dksJ0_isEmpty_0 0 rfl rfl)
theorem dJ0_isEmpty_1 : decode cJ0_isEmpty 1 = .ok (.invokevirtual 7, 3) := dk_182 0 7 (dk_at dksJ0_isEmpty_0 1 rfl rfl)
theorem dJ0_isEmpty_4 : decode cJ0_isEmpty 4 = .ok (.ifCond .ne 7, 3) := dk_154 0 7 (dk_at dksJ0_isEmpty_0 4 rfl rfl)
theorem dJ0_isEmpty_7 : decode cJ0_isEmpty 7 = .ok (.iconst 1, 1) := dk_4 (dk_at dksJ0_isEmpty_0 7 rfl rfl)
theorem dJ0_isEmpty_8 : decode cJ0_isEmpty 8 = .ok (.goto 4, 3) := dk_167 0 4 (dk_at dksJ0_isEmpty_0 8 rfl rfl)
theorem dJ0_isEmpty_11 : decode cJ0_isEmpty 11 = .ok (.iconst 0, 1) := dk_3 (dk_at dksJ0_isEmpty_0 11 rfl rfl)
theorem dJ0_isEmpty_12 : decode cJ0_isEmpty 12 = .ok (.ireturn, 1) := dk_172 (dk_at dksJ0_isEmpty_0 12 rfl rfl)
theorem q95 : (Jvm.Cond.initialized "java/util/AbstractCollection") ∈ lw_all := lw_g (lw_at lw_m1 3 rfl) rfl
theorem q171 : (Jvm.Cond.instanceMethod ({ cls := "java/util/AbstractCollection", name := "<init>", desc := "()V" } : Jvm.MethodName)) ∈ lw_all := lw_g (lw_at lw_m1 79 rfl) rfl
theorem q172 : (Jvm.Cond.code ({ cls := "java/util/AbstractCollection", name := "<init>", desc := "()V" } : Jvm.MethodName) prog_37_method_1_code (1 : Nat) (Option.none : Option Jvm.ClassFile.FieldType)) ∈ lw_all := lw_g (lw_at lw_m1 80 rfl) rfl
theorem q173 : (Jvm.Cond.methodLink "java/util/AbstractCollection" (1 : Nat) ({ cls := "java/lang/Object", name := "<init>", desc := "()V" } : Jvm.MethodName)) ∈ lw_all := lw_g (lw_at lw_m1 81 rfl) rfl
theorem q1597 : (Jvm.Cond.declares ({ cls := "java/util/AbstractCollection", name := "isEmpty", desc := "()Z" } : Jvm.MethodName)) ∈ lw_tbl := lw_at lw_m7 65 rfl
theorem q1599 : (Jvm.Cond.instanceMethod ({ cls := "java/util/AbstractCollection", name := "isEmpty", desc := "()Z" } : Jvm.MethodName)) ∈ lw_all := lw_g (lw_at lw_m7 67 rfl) rfl
theorem q1600 : (Jvm.Cond.code ({ cls := "java/util/AbstractCollection", name := "isEmpty", desc := "()Z" } : Jvm.MethodName) prog_37_method_4_code (1 : Nat) (Option.some Jvm.ClassFile.FieldType.boolean)) ∈ lw_all := lw_g (lw_at lw_m7 68 rfl) rfl
theorem q1601 : (Jvm.Cond.methodLink "java/util/AbstractCollection" (7 : Nat) ({ cls := "java/util/AbstractCollection", name := "size", desc := "()I" } : Jvm.MethodName)) ∈ lw_all := lw_g (lw_at lw_m7 69 rfl) rfl
theorem q1602 : (Jvm.Cond.declares ({ cls := "java/util/AbstractCollection", name := "size", desc := "()I" } : Jvm.MethodName)) ∈ lw_tbl := lw_at lw_m7 70 rfl
theorem q1603 : (Jvm.Cond.sameMethod "java/util/AbstractCollection" "java/util/AbstractCollection" "size" "()I") ∈ lw_all := lw_g (lw_at lw_m7 71 rfl) rfl
/-! java/util/AbstractQueue -/
set_option maxRecDepth 100000
def RJ1 : String := "java/util/AbstractQueue"
abbrev cJ1_init : ByteArray := prog_40_method_1_code
def yJ1_init : MethodName := ⟨RJ1, "<init>", "()V"⟩
theorem dJ1_init_0 : decode cJ1_init 0 = .ok (.aload_n 0, 1) := by decide +kernel
theorem dJ1_init_1 : decode cJ1_init 1 = .ok (.invokespecial 1, 3) := by decide +kernel
theorem dJ1_init_4 : decode cJ1_init 4 = .ok (.return_, 1) := by decide +kernel
theorem q96 : (Jvm.Cond.initialized "java/util/AbstractQueue") ∈ lw_all := lw_g (lw_at lw_m1 4 rfl) rfl
theorem q168 : (Jvm.Cond.instanceMethod ({ cls := "java/util/AbstractQueue", name := "<init>", desc := "()V" } : Jvm.MethodName)) ∈ lw_all := lw_g (lw_at lw_m1 76 rfl) rfl
theorem q169 : (Jvm.Cond.code ({ cls := "java/util/AbstractQueue", name := "<init>", desc := "()V" } : Jvm.MethodName) prog_40_method_1_code (1 : Nat) (Option.none : Option Jvm.ClassFile.FieldType)) ∈ lw_all := lw_g (lw_at lw_m1 77 rfl) rfl
theorem q170 : (Jvm.Cond.methodLink "java/util/AbstractQueue" (1 : Nat) ({ cls := "java/util/AbstractCollection", name := "<init>", desc := "()V" } : Jvm.MethodName)) ∈ lw_all := lw_g (lw_at lw_m1 78 rfl) rfl
/-! java/util/PriorityQueue -/
set_option maxRecDepth 100000
def RJ2 : String := "java/util/PriorityQueue"
def TJ2 : u_T := fun k => match k with
  | 0 => ("java/util/PriorityQueue", "queue", "[Ljava/lang/Object;", false)
  | 1 => ("java/util/PriorityQueue", "size", "I", false)
  | 2 => ("java/util/PriorityQueue", "comparator", "Ljava/util/Comparator;", true)
  | _ => ("java/util/PriorityQueue", "modCount", "I", false)
def tyJ2 : Nat → FieldType := fun k => match k with
  | 0 => .array (.object "java/lang/Object")
  | 1 => .int
  | 2 => .object "java/util/Comparator"
  | _ => .int
abbrev wsJ20 : List Cond := u_ws RJ2 TJ2 4
theorem nmJ2 : ∀ a, a < 4 → ∀ b, b < 4 → a ≠ b → (TJ2 a).2.1 ≠ (TJ2 b).2.1 := by decide +kernel
theorem tyJ2_ok : ∀ k, k < 4 → parseFieldDescriptor (TJ2 k).2.2.1 = some (tyJ2 k) := by decide +kernel
abbrev cJ2_init : ByteArray := prog_53_method_1_code
def yJ2_init : MethodName := ⟨RJ2, "<init>", "()V"⟩
def dkwJ2_init_0 : List UInt8 := [42, 16, 11, 1, 183, 0, 3, 177]
abbrev dktJ2_init_0 : List UInt8 := dkwJ2_init_0 ++ []
theorem dksJ2_init_0 : cJ2_init.data.toList.drop 0 = dktJ2_init_0 := by decide +kernel
theorem dJ2_init_0 : decode cJ2_init 0 = .ok (.aload_n 0, 1) := dk_42 (dk_at dksJ2_init_0 0 rfl rfl)
theorem dJ2_init_1 : decode cJ2_init 1 = .ok (.bipush 11, 2) := dk_16 11 (dk_at dksJ2_init_0 1 rfl rfl)
theorem dJ2_init_3 : decode cJ2_init 3 = .ok (.aconst_null, 1) := dk_1 (dk_at dksJ2_init_0 3 rfl rfl)
theorem dJ2_init_4 : decode cJ2_init 4 = .ok (.invokespecial 3, 3) := dk_183 0 3 (dk_at dksJ2_init_0 4 rfl rfl)
theorem dJ2_init_7 : decode cJ2_init 7 = .ok (.return_, 1) := dk_177 (dk_at dksJ2_init_0 7 rfl rfl)
abbrev cJ2_init_2 : ByteArray := prog_53_method_4_code
def yJ2_init_2 : MethodName := ⟨RJ2, "<init>", "(ILjava/util/Comparator;)V"⟩
def dkwJ2_init_2_1 : List UInt8 := [181, 0, 17, 42, 44, 181, 0, 21, 177]
abbrev dktJ2_init_2_1 : List UInt8 := dkwJ2_init_2_1 ++ []
def dkwJ2_init_2_0 : List UInt8 := [42, 183, 0, 7, 27, 4, 162, 0, 11, 187, 0, 12, 89, 183, 0, 14, 191, 42, 27, 189, 0, 15]
abbrev dktJ2_init_2_0 : List UInt8 := dkwJ2_init_2_0 ++ dktJ2_init_2_1
theorem dksJ2_init_2_0 : cJ2_init_2.data.toList.drop 0 = dktJ2_init_2_0 := by decide +kernel
theorem dksJ2_init_2_1 : cJ2_init_2.data.toList.drop 22 = dktJ2_init_2_1 := dk_seg dksJ2_init_2_0 22 rfl rfl
theorem dJ2_init_2_0 : decode cJ2_init_2 0 = .ok (.aload_n 0, 1) := dk_42 (dk_at dksJ2_init_2_0 0 rfl rfl)
theorem dJ2_init_2_1 : decode cJ2_init_2 1 = .ok (.invokespecial 7, 3) := dk_183 0 7 (dk_at dksJ2_init_2_0 1 rfl rfl)
theorem dJ2_init_2_4 : decode cJ2_init_2 4 = .ok (.iload_n 1, 1) := dk_27 (dk_at dksJ2_init_2_0 4 rfl rfl)
theorem dJ2_init_2_5 : decode cJ2_init_2 5 = .ok (.iconst 1, 1) := dk_4 (dk_at dksJ2_init_2_0 5 rfl rfl)
theorem dJ2_init_2_6 : decode cJ2_init_2 6 = .ok (.if_icmp .ge 11, 3) := dk_162 0 11 (dk_at dksJ2_init_2_0 6 rfl rfl)
theorem dJ2_init_2_9 : decode cJ2_init_2 9 = .ok (.new 12, 3) := dk_187 0 12 (dk_at dksJ2_init_2_0 9 rfl rfl)
theorem dJ2_init_2_12 : decode cJ2_init_2 12 = .ok (.dup, 1) := dk_89 (dk_at dksJ2_init_2_0 12 rfl rfl)
theorem dJ2_init_2_13 : decode cJ2_init_2 13 = .ok (.invokespecial 14, 3) := dk_183 0 14 (dk_at dksJ2_init_2_0 13 rfl rfl)
theorem dJ2_init_2_16 : decode cJ2_init_2 16 = .ok (.athrow, 1) := dk_191 (dk_at dksJ2_init_2_0 16 rfl rfl)
theorem dJ2_init_2_17 : decode cJ2_init_2 17 = .ok (.aload_n 0, 1) := dk_42 (dk_at dksJ2_init_2_0 17 rfl rfl)
theorem dJ2_init_2_18 : decode cJ2_init_2 18 = .ok (.iload_n 1, 1) := dk_27 (dk_at dksJ2_init_2_0 18 rfl rfl)
theorem dJ2_init_2_19 : decode cJ2_init_2 19 = .ok (.anewarray 15, 3) := dk_189 0 15 (dk_at dksJ2_init_2_0 19 rfl rfl)
theorem dJ2_init_2_22 : decode cJ2_init_2 22 = .ok (.putfield 17, 3) := dk_181 0 17 (dk_at dksJ2_init_2_1 0 rfl rfl)
theorem dJ2_init_2_25 : decode cJ2_init_2 25 = .ok (.aload_n 0, 1) := dk_42 (dk_at dksJ2_init_2_1 3 rfl rfl)
theorem dJ2_init_2_26 : decode cJ2_init_2 26 = .ok (.aload_n 2, 1) := dk_44 (dk_at dksJ2_init_2_1 4 rfl rfl)
theorem dJ2_init_2_27 : decode cJ2_init_2 27 = .ok (.putfield 21, 3) := dk_181 0 21 (dk_at dksJ2_init_2_1 5 rfl rfl)
theorem dJ2_init_2_30 : decode cJ2_init_2 30 = .ok (.return_, 1) := dk_177 (dk_at dksJ2_init_2_1 8 rfl rfl)
abbrev cJ2_clear : ByteArray := prog_53_method_24_code
def yJ2_clear : MethodName := ⟨RJ2, "clear", "()V"⟩
def dkwJ2_clear_1 : List UInt8 := [162, 0, 13, 43, 28, 1, 83, 132, 2, 1, 167, 255, 244, 42, 3, 181, 0, 58, 177]
abbrev dktJ2_clear_1 : List UInt8 := dkwJ2_clear_1 ++ []
def dkwJ2_clear_0 : List UInt8 := [42, 89, 180, 0, 93, 4, 96, 181, 0, 93, 42, 180, 0, 17, 76, 3, 61, 42, 180, 0, 58, 62, 28, 29]
abbrev dktJ2_clear_0 : List UInt8 := dkwJ2_clear_0 ++ dktJ2_clear_1
theorem dksJ2_clear_0 : cJ2_clear.data.toList.drop 0 = dktJ2_clear_0 := by decide +kernel
theorem dksJ2_clear_1 : cJ2_clear.data.toList.drop 24 = dktJ2_clear_1 := dk_seg dksJ2_clear_0 24 rfl rfl
theorem dJ2_clear_0 : decode cJ2_clear 0 = .ok (.aload_n 0, 1) := dk_42 (dk_at dksJ2_clear_0 0 rfl rfl)
theorem dJ2_clear_1 : decode cJ2_clear 1 = .ok (.dup, 1) := dk_89 (dk_at dksJ2_clear_0 1 rfl rfl)
theorem dJ2_clear_2 : decode cJ2_clear 2 = .ok (.getfield 93, 3) := dk_180 0 93 (dk_at dksJ2_clear_0 2 rfl rfl)
theorem dJ2_clear_5 : decode cJ2_clear 5 = .ok (.iconst 1, 1) := dk_4 (dk_at dksJ2_clear_0 5 rfl rfl)
theorem dJ2_clear_6 : decode cJ2_clear 6 = .ok (.iadd, 1) := dk_96 (dk_at dksJ2_clear_0 6 rfl rfl)
theorem dJ2_clear_7 : decode cJ2_clear 7 = .ok (.putfield 93, 3) := dk_181 0 93 (dk_at dksJ2_clear_0 7 rfl rfl)
theorem dJ2_clear_10 : decode cJ2_clear 10 = .ok (.aload_n 0, 1) := dk_42 (dk_at dksJ2_clear_0 10 rfl rfl)
theorem dJ2_clear_11 : decode cJ2_clear 11 = .ok (.getfield 17, 3) := dk_180 0 17 (dk_at dksJ2_clear_0 11 rfl rfl)
theorem dJ2_clear_14 : decode cJ2_clear 14 = .ok (.astore_n 1, 1) := dk_76 (dk_at dksJ2_clear_0 14 rfl rfl)
theorem dJ2_clear_15 : decode cJ2_clear 15 = .ok (.iconst 0, 1) := dk_3 (dk_at dksJ2_clear_0 15 rfl rfl)
theorem dJ2_clear_16 : decode cJ2_clear 16 = .ok (.istore_n 2, 1) := dk_61 (dk_at dksJ2_clear_0 16 rfl rfl)
theorem dJ2_clear_17 : decode cJ2_clear 17 = .ok (.aload_n 0, 1) := dk_42 (dk_at dksJ2_clear_0 17 rfl rfl)
theorem dJ2_clear_18 : decode cJ2_clear 18 = .ok (.getfield 58, 3) := dk_180 0 58 (dk_at dksJ2_clear_0 18 rfl rfl)
theorem dJ2_clear_21 : decode cJ2_clear 21 = .ok (.istore_n 3, 1) := dk_62 (dk_at dksJ2_clear_0 21 rfl rfl)
theorem dJ2_clear_22 : decode cJ2_clear 22 = .ok (.iload_n 2, 1) := dk_28 (dk_at dksJ2_clear_0 22 rfl rfl)
theorem dJ2_clear_23 : decode cJ2_clear 23 = .ok (.iload_n 3, 1) := dk_29 (dk_at dksJ2_clear_0 23 rfl rfl)
theorem dJ2_clear_24 : decode cJ2_clear 24 = .ok (.if_icmp .ge 13, 3) := dk_162 0 13 (dk_at dksJ2_clear_1 0 rfl rfl)
theorem dJ2_clear_27 : decode cJ2_clear 27 = .ok (.aload_n 1, 1) := dk_43 (dk_at dksJ2_clear_1 3 rfl rfl)
theorem dJ2_clear_28 : decode cJ2_clear 28 = .ok (.iload_n 2, 1) := dk_28 (dk_at dksJ2_clear_1 4 rfl rfl)
theorem dJ2_clear_29 : decode cJ2_clear 29 = .ok (.aconst_null, 1) := dk_1 (dk_at dksJ2_clear_1 5 rfl rfl)
theorem dJ2_clear_30 : decode cJ2_clear 30 = .ok (.aastore, 1) := dk_83 (dk_at dksJ2_clear_1 6 rfl rfl)
theorem dJ2_clear_31 : decode cJ2_clear 31 = .ok (.iinc 2 1, 3) := dk_132 2 1 (dk_at dksJ2_clear_1 7 rfl rfl)
theorem dJ2_clear_34 : decode cJ2_clear 34 = .ok (.goto (-12), 3) := dk_167 255 244 (dk_at dksJ2_clear_1 10 rfl rfl)
theorem dJ2_clear_37 : decode cJ2_clear 37 = .ok (.aload_n 0, 1) := dk_42 (dk_at dksJ2_clear_1 13 rfl rfl)
theorem dJ2_clear_38 : decode cJ2_clear 38 = .ok (.iconst 0, 1) := dk_3 (dk_at dksJ2_clear_1 14 rfl rfl)
theorem dJ2_clear_39 : decode cJ2_clear 39 = .ok (.putfield 58, 3) := dk_181 0 58 (dk_at dksJ2_clear_1 15 rfl rfl)
theorem dJ2_clear_42 : decode cJ2_clear 42 = .ok (.return_, 1) := dk_177 (dk_at dksJ2_clear_1 18 rfl rfl)
abbrev cJ2_add : ByteArray := prog_53_method_13_code
def yJ2_add : MethodName := ⟨RJ2, "add", "(Ljava/lang/Object;)Z"⟩
def dkwJ2_add_0 : List UInt8 := [42, 43, 182, 0, 89, 172]
abbrev dktJ2_add_0 : List UInt8 := dkwJ2_add_0 ++ []
theorem dksJ2_add_0 : cJ2_add.data.toList.drop 0 = dktJ2_add_0 := by decide +kernel
theorem dJ2_add_0 : decode cJ2_add 0 = .ok (.aload_n 0, 1) := dk_42 (dk_at dksJ2_add_0 0 rfl rfl)
theorem dJ2_add_1 : decode cJ2_add 1 = .ok (.aload_n 1, 1) := dk_43 (dk_at dksJ2_add_0 1 rfl rfl)
theorem dJ2_add_2 : decode cJ2_add 2 = .ok (.invokevirtual 89, 3) := dk_182 0 89 (dk_at dksJ2_add_0 2 rfl rfl)
theorem dJ2_add_5 : decode cJ2_add 5 = .ok (.ireturn, 1) := dk_172 (dk_at dksJ2_add_0 5 rfl rfl)
abbrev cJ2_offer : ByteArray := prog_53_method_14_code
def yJ2_offer : MethodName := ⟨RJ2, "offer", "(Ljava/lang/Object;)Z"⟩
def dkwJ2_offer_2 : List UInt8 := [182, 0, 100, 42, 28, 4, 96, 181, 0, 58, 4, 172]
abbrev dktJ2_offer_2 : List UInt8 := dkwJ2_offer_2 ++ []
def dkwJ2_offer_1 : List UInt8 := [180, 0, 58, 61, 28, 42, 180, 0, 17, 190, 161, 0, 10, 42, 28, 4, 96, 182, 0, 96, 42, 28, 43]
abbrev dktJ2_offer_1 : List UInt8 := dkwJ2_offer_1 ++ dktJ2_offer_2
def dkwJ2_offer_0 : List UInt8 := [43, 199, 0, 11, 187, 0, 74, 89, 183, 0, 76, 191, 42, 89, 180, 0, 93, 4, 96, 181, 0, 93, 42]
abbrev dktJ2_offer_0 : List UInt8 := dkwJ2_offer_0 ++ dktJ2_offer_1
theorem dksJ2_offer_0 : cJ2_offer.data.toList.drop 0 = dktJ2_offer_0 := by decide +kernel
theorem dksJ2_offer_1 : cJ2_offer.data.toList.drop 23 = dktJ2_offer_1 := dk_seg dksJ2_offer_0 23 rfl rfl
theorem dksJ2_offer_2 : cJ2_offer.data.toList.drop 46 = dktJ2_offer_2 := dk_seg dksJ2_offer_1 23 rfl rfl
theorem dJ2_offer_0 : decode cJ2_offer 0 = .ok (.aload_n 1, 1) := dk_43 (dk_at dksJ2_offer_0 0 rfl rfl)
theorem dJ2_offer_1 : decode cJ2_offer 1 = .ok (.ifnonnull 11, 3) := dk_199 0 11 (dk_at dksJ2_offer_0 1 rfl rfl)
theorem dJ2_offer_4 : decode cJ2_offer 4 = .ok (.new 74, 3) := dk_187 0 74 (dk_at dksJ2_offer_0 4 rfl rfl)
theorem dJ2_offer_7 : decode cJ2_offer 7 = .ok (.dup, 1) := dk_89 (dk_at dksJ2_offer_0 7 rfl rfl)
theorem dJ2_offer_8 : decode cJ2_offer 8 = .ok (.invokespecial 76, 3) := dk_183 0 76 (dk_at dksJ2_offer_0 8 rfl rfl)
theorem dJ2_offer_11 : decode cJ2_offer 11 = .ok (.athrow, 1) := dk_191 (dk_at dksJ2_offer_0 11 rfl rfl)
theorem dJ2_offer_12 : decode cJ2_offer 12 = .ok (.aload_n 0, 1) := dk_42 (dk_at dksJ2_offer_0 12 rfl rfl)
theorem dJ2_offer_13 : decode cJ2_offer 13 = .ok (.dup, 1) := dk_89 (dk_at dksJ2_offer_0 13 rfl rfl)
theorem dJ2_offer_14 : decode cJ2_offer 14 = .ok (.getfield 93, 3) := dk_180 0 93 (dk_at dksJ2_offer_0 14 rfl rfl)
theorem dJ2_offer_17 : decode cJ2_offer 17 = .ok (.iconst 1, 1) := dk_4 (dk_at dksJ2_offer_0 17 rfl rfl)
theorem dJ2_offer_18 : decode cJ2_offer 18 = .ok (.iadd, 1) := dk_96 (dk_at dksJ2_offer_0 18 rfl rfl)
theorem dJ2_offer_19 : decode cJ2_offer 19 = .ok (.putfield 93, 3) := dk_181 0 93 (dk_at dksJ2_offer_0 19 rfl rfl)
theorem dJ2_offer_22 : decode cJ2_offer 22 = .ok (.aload_n 0, 1) := dk_42 (dk_at dksJ2_offer_0 22 rfl rfl)
theorem dJ2_offer_23 : decode cJ2_offer 23 = .ok (.getfield 58, 3) := dk_180 0 58 (dk_at dksJ2_offer_1 0 rfl rfl)
theorem dJ2_offer_26 : decode cJ2_offer 26 = .ok (.istore_n 2, 1) := dk_61 (dk_at dksJ2_offer_1 3 rfl rfl)
theorem dJ2_offer_27 : decode cJ2_offer 27 = .ok (.iload_n 2, 1) := dk_28 (dk_at dksJ2_offer_1 4 rfl rfl)
theorem dJ2_offer_28 : decode cJ2_offer 28 = .ok (.aload_n 0, 1) := dk_42 (dk_at dksJ2_offer_1 5 rfl rfl)
theorem dJ2_offer_29 : decode cJ2_offer 29 = .ok (.getfield 17, 3) := dk_180 0 17 (dk_at dksJ2_offer_1 6 rfl rfl)
theorem dJ2_offer_32 : decode cJ2_offer 32 = .ok (.arraylength, 1) := dk_190 (dk_at dksJ2_offer_1 9 rfl rfl)
theorem dJ2_offer_33 : decode cJ2_offer 33 = .ok (.if_icmp .lt 10, 3) := dk_161 0 10 (dk_at dksJ2_offer_1 10 rfl rfl)
theorem dJ2_offer_36 : decode cJ2_offer 36 = .ok (.aload_n 0, 1) := dk_42 (dk_at dksJ2_offer_1 13 rfl rfl)
theorem dJ2_offer_37 : decode cJ2_offer 37 = .ok (.iload_n 2, 1) := dk_28 (dk_at dksJ2_offer_1 14 rfl rfl)
theorem dJ2_offer_38 : decode cJ2_offer 38 = .ok (.iconst 1, 1) := dk_4 (dk_at dksJ2_offer_1 15 rfl rfl)
theorem dJ2_offer_39 : decode cJ2_offer 39 = .ok (.iadd, 1) := dk_96 (dk_at dksJ2_offer_1 16 rfl rfl)
theorem dJ2_offer_40 : decode cJ2_offer 40 = .ok (.invokevirtual 96, 3) := dk_182 0 96 (dk_at dksJ2_offer_1 17 rfl rfl)
theorem dJ2_offer_43 : decode cJ2_offer 43 = .ok (.aload_n 0, 1) := dk_42 (dk_at dksJ2_offer_1 20 rfl rfl)
theorem dJ2_offer_44 : decode cJ2_offer 44 = .ok (.iload_n 2, 1) := dk_28 (dk_at dksJ2_offer_1 21 rfl rfl)
theorem dJ2_offer_45 : decode cJ2_offer 45 = .ok (.aload_n 1, 1) := dk_43 (dk_at dksJ2_offer_1 22 rfl rfl)
theorem dJ2_offer_46 : decode cJ2_offer 46 = .ok (.invokevirtual 100, 3) := dk_182 0 100 (dk_at dksJ2_offer_2 0 rfl rfl)
theorem dJ2_offer_49 : decode cJ2_offer 49 = .ok (.aload_n 0, 1) := dk_42 (dk_at dksJ2_offer_2 3 rfl rfl)
theorem dJ2_offer_50 : decode cJ2_offer 50 = .ok (.iload_n 2, 1) := dk_28 (dk_at dksJ2_offer_2 4 rfl rfl)
theorem dJ2_offer_51 : decode cJ2_offer 51 = .ok (.iconst 1, 1) := dk_4 (dk_at dksJ2_offer_2 5 rfl rfl)
theorem dJ2_offer_52 : decode cJ2_offer 52 = .ok (.iadd, 1) := dk_96 (dk_at dksJ2_offer_2 6 rfl rfl)
theorem dJ2_offer_53 : decode cJ2_offer 53 = .ok (.putfield 58, 3) := dk_181 0 58 (dk_at dksJ2_offer_2 7 rfl rfl)
theorem dJ2_offer_56 : decode cJ2_offer 56 = .ok (.iconst 1, 1) := dk_4 (dk_at dksJ2_offer_2 10 rfl rfl)
theorem dJ2_offer_57 : decode cJ2_offer 57 = .ok (.ireturn, 1) := dk_172 (dk_at dksJ2_offer_2 11 rfl rfl)
abbrev cJ2_grow : ByteArray := prog_53_method_12_code
def yJ2_grow : MethodName := ⟨RJ2, "grow", "(I)V"⟩
def dkwJ2_grow_1 : List UInt8 := [122, 184, 0, 80, 62, 42, 42, 180, 0, 17, 29, 184, 0, 86, 181, 0, 17, 177]
abbrev dktJ2_grow_1 : List UInt8 := dkwJ2_grow_1 ++ []
def dkwJ2_grow_0 : List UInt8 := [42, 180, 0, 17, 190, 61, 28, 27, 28, 100, 28, 16, 64, 162, 0, 9, 28, 5, 96, 167, 0, 6, 28, 4]
abbrev dktJ2_grow_0 : List UInt8 := dkwJ2_grow_0 ++ dktJ2_grow_1
theorem dksJ2_grow_0 : cJ2_grow.data.toList.drop 0 = dktJ2_grow_0 := by decide +kernel
theorem dksJ2_grow_1 : cJ2_grow.data.toList.drop 24 = dktJ2_grow_1 := dk_seg dksJ2_grow_0 24 rfl rfl
theorem dJ2_grow_0 : decode cJ2_grow 0 = .ok (.aload_n 0, 1) := dk_42 (dk_at dksJ2_grow_0 0 rfl rfl)
theorem dJ2_grow_1 : decode cJ2_grow 1 = .ok (.getfield 17, 3) := dk_180 0 17 (dk_at dksJ2_grow_0 1 rfl rfl)
theorem dJ2_grow_4 : decode cJ2_grow 4 = .ok (.arraylength, 1) := dk_190 (dk_at dksJ2_grow_0 4 rfl rfl)
theorem dJ2_grow_5 : decode cJ2_grow 5 = .ok (.istore_n 2, 1) := dk_61 (dk_at dksJ2_grow_0 5 rfl rfl)
theorem dJ2_grow_6 : decode cJ2_grow 6 = .ok (.iload_n 2, 1) := dk_28 (dk_at dksJ2_grow_0 6 rfl rfl)
theorem dJ2_grow_7 : decode cJ2_grow 7 = .ok (.iload_n 1, 1) := dk_27 (dk_at dksJ2_grow_0 7 rfl rfl)
theorem dJ2_grow_8 : decode cJ2_grow 8 = .ok (.iload_n 2, 1) := dk_28 (dk_at dksJ2_grow_0 8 rfl rfl)
theorem dJ2_grow_9 : decode cJ2_grow 9 = .ok (.isub, 1) := dk_100 (dk_at dksJ2_grow_0 9 rfl rfl)
theorem dJ2_grow_10 : decode cJ2_grow 10 = .ok (.iload_n 2, 1) := dk_28 (dk_at dksJ2_grow_0 10 rfl rfl)
theorem dJ2_grow_11 : decode cJ2_grow 11 = .ok (.bipush 64, 2) := dk_16 64 (dk_at dksJ2_grow_0 11 rfl rfl)
theorem dJ2_grow_13 : decode cJ2_grow 13 = .ok (.if_icmp .ge 9, 3) := dk_162 0 9 (dk_at dksJ2_grow_0 13 rfl rfl)
theorem dJ2_grow_16 : decode cJ2_grow 16 = .ok (.iload_n 2, 1) := dk_28 (dk_at dksJ2_grow_0 16 rfl rfl)
theorem dJ2_grow_17 : decode cJ2_grow 17 = .ok (.iconst 2, 1) := dk_5 (dk_at dksJ2_grow_0 17 rfl rfl)
theorem dJ2_grow_18 : decode cJ2_grow 18 = .ok (.iadd, 1) := dk_96 (dk_at dksJ2_grow_0 18 rfl rfl)
theorem dJ2_grow_19 : decode cJ2_grow 19 = .ok (.goto 6, 3) := dk_167 0 6 (dk_at dksJ2_grow_0 19 rfl rfl)
theorem dJ2_grow_22 : decode cJ2_grow 22 = .ok (.iload_n 2, 1) := dk_28 (dk_at dksJ2_grow_0 22 rfl rfl)
theorem dJ2_grow_23 : decode cJ2_grow 23 = .ok (.iconst 1, 1) := dk_4 (dk_at dksJ2_grow_0 23 rfl rfl)
theorem dJ2_grow_24 : decode cJ2_grow 24 = .ok (.ishr, 1) := dk_122 (dk_at dksJ2_grow_1 0 rfl rfl)
theorem dJ2_grow_25 : decode cJ2_grow 25 = .ok (.invokestatic 80, 3) := dk_184 0 80 (dk_at dksJ2_grow_1 1 rfl rfl)
theorem dJ2_grow_28 : decode cJ2_grow 28 = .ok (.istore_n 3, 1) := dk_62 (dk_at dksJ2_grow_1 4 rfl rfl)
theorem dJ2_grow_29 : decode cJ2_grow 29 = .ok (.aload_n 0, 1) := dk_42 (dk_at dksJ2_grow_1 5 rfl rfl)
theorem dJ2_grow_30 : decode cJ2_grow 30 = .ok (.aload_n 0, 1) := dk_42 (dk_at dksJ2_grow_1 6 rfl rfl)
theorem dJ2_grow_31 : decode cJ2_grow 31 = .ok (.getfield 17, 3) := dk_180 0 17 (dk_at dksJ2_grow_1 7 rfl rfl)
theorem dJ2_grow_34 : decode cJ2_grow 34 = .ok (.iload_n 3, 1) := dk_29 (dk_at dksJ2_grow_1 10 rfl rfl)
theorem dJ2_grow_35 : decode cJ2_grow 35 = .ok (.invokestatic 86, 3) := dk_184 0 86 (dk_at dksJ2_grow_1 11 rfl rfl)
theorem dJ2_grow_38 : decode cJ2_grow 38 = .ok (.putfield 17, 3) := dk_181 0 17 (dk_at dksJ2_grow_1 14 rfl rfl)
theorem dJ2_grow_41 : decode cJ2_grow 41 = .ok (.return_, 1) := dk_177 (dk_at dksJ2_grow_1 17 rfl rfl)
abbrev cJ2_siftUp : ByteArray := prog_53_method_27_code
def yJ2_siftUp : MethodName := ⟨RJ2, "siftUp", "(ILjava/lang/Object;)V"⟩
def dkwJ2_siftUp_1 : List UInt8 := [44, 42, 180, 0, 17, 184, 0, 140, 177]
abbrev dktJ2_siftUp_1 : List UInt8 := dkwJ2_siftUp_1 ++ []
def dkwJ2_siftUp_0 : List UInt8 := [42, 180, 0, 21, 198, 0, 19, 27, 44, 42, 180, 0, 17, 42, 180, 0, 21, 184, 0, 136, 167, 0, 12, 27]
abbrev dktJ2_siftUp_0 : List UInt8 := dkwJ2_siftUp_0 ++ dktJ2_siftUp_1
theorem dksJ2_siftUp_0 : cJ2_siftUp.data.toList.drop 0 = dktJ2_siftUp_0 := by decide +kernel
theorem dksJ2_siftUp_1 : cJ2_siftUp.data.toList.drop 24 = dktJ2_siftUp_1 := dk_seg dksJ2_siftUp_0 24 rfl rfl
theorem dJ2_siftUp_0 : decode cJ2_siftUp 0 = .ok (.aload_n 0, 1) := dk_42 (dk_at dksJ2_siftUp_0 0 rfl rfl)
theorem dJ2_siftUp_1 : decode cJ2_siftUp 1 = .ok (.getfield 21, 3) := dk_180 0 21 (dk_at dksJ2_siftUp_0 1 rfl rfl)
theorem dJ2_siftUp_4 : decode cJ2_siftUp 4 = .ok (.ifnull 19, 3) := dk_198 0 19 (dk_at dksJ2_siftUp_0 4 rfl rfl)
theorem dJ2_siftUp_7 : decode cJ2_siftUp 7 = .ok (.iload_n 1, 1) := dk_27 (dk_at dksJ2_siftUp_0 7 rfl rfl)
theorem dJ2_siftUp_8 : decode cJ2_siftUp 8 = .ok (.aload_n 2, 1) := dk_44 (dk_at dksJ2_siftUp_0 8 rfl rfl)
theorem dJ2_siftUp_9 : decode cJ2_siftUp 9 = .ok (.aload_n 0, 1) := dk_42 (dk_at dksJ2_siftUp_0 9 rfl rfl)
theorem dJ2_siftUp_10 : decode cJ2_siftUp 10 = .ok (.getfield 17, 3) := dk_180 0 17 (dk_at dksJ2_siftUp_0 10 rfl rfl)
theorem dJ2_siftUp_13 : decode cJ2_siftUp 13 = .ok (.aload_n 0, 1) := dk_42 (dk_at dksJ2_siftUp_0 13 rfl rfl)
theorem dJ2_siftUp_14 : decode cJ2_siftUp 14 = .ok (.getfield 21, 3) := dk_180 0 21 (dk_at dksJ2_siftUp_0 14 rfl rfl)
theorem dJ2_siftUp_17 : decode cJ2_siftUp 17 = .ok (.invokestatic 136, 3) := dk_184 0 136 (dk_at dksJ2_siftUp_0 17 rfl rfl)
theorem dJ2_siftUp_20 : decode cJ2_siftUp 20 = .ok (.goto 12, 3) := dk_167 0 12 (dk_at dksJ2_siftUp_0 20 rfl rfl)
theorem dJ2_siftUp_23 : decode cJ2_siftUp 23 = .ok (.iload_n 1, 1) := dk_27 (dk_at dksJ2_siftUp_0 23 rfl rfl)
theorem dJ2_siftUp_24 : decode cJ2_siftUp 24 = .ok (.aload_n 2, 1) := dk_44 (dk_at dksJ2_siftUp_1 0 rfl rfl)
theorem dJ2_siftUp_25 : decode cJ2_siftUp 25 = .ok (.aload_n 0, 1) := dk_42 (dk_at dksJ2_siftUp_1 1 rfl rfl)
theorem dJ2_siftUp_26 : decode cJ2_siftUp 26 = .ok (.getfield 17, 3) := dk_180 0 17 (dk_at dksJ2_siftUp_1 2 rfl rfl)
theorem dJ2_siftUp_29 : decode cJ2_siftUp 29 = .ok (.invokestatic 140, 3) := dk_184 0 140 (dk_at dksJ2_siftUp_1 5 rfl rfl)
theorem dJ2_siftUp_32 : decode cJ2_siftUp 32 = .ok (.return_, 1) := dk_177 (dk_at dksJ2_siftUp_1 8 rfl rfl)
abbrev cJ2_siftUpUsingComparator : ByteArray := prog_53_method_29_code
def yJ2_siftUpUsingComparator : MethodName := ⟨RJ2, "siftUpUsingComparator", "(ILjava/lang/Object;[Ljava/lang/Object;Ljava/util/Comparator;)V"⟩
def dkwJ2_siftUpUsingComparator_2 : List UInt8 := [43, 83, 177]
abbrev dktJ2_siftUpUsingComparator_2 : List UInt8 := dkwJ2_siftUpUsingComparator_2 ++ []
def dkwJ2_siftUpUsingComparator_1 : List UInt8 := [185, 0, 149, 3, 0, 155, 0, 6, 167, 0, 14, 44, 26, 25, 5, 83, 21, 4, 59, 167, 255, 216, 44, 26]
abbrev dktJ2_siftUpUsingComparator_1 : List UInt8 := dkwJ2_siftUpUsingComparator_1 ++ dktJ2_siftUpUsingComparator_2
def dkwJ2_siftUpUsingComparator_0 : List UInt8 := [26, 158, 0, 42, 26, 4, 100, 4, 124, 54, 4, 44, 21, 4, 50, 58, 5, 45, 43, 25, 5]
abbrev dktJ2_siftUpUsingComparator_0 : List UInt8 := dkwJ2_siftUpUsingComparator_0 ++ dktJ2_siftUpUsingComparator_1
theorem dksJ2_siftUpUsingComparator_0 : cJ2_siftUpUsingComparator.data.toList.drop 0 = dktJ2_siftUpUsingComparator_0 := by decide +kernel
theorem dksJ2_siftUpUsingComparator_1 : cJ2_siftUpUsingComparator.data.toList.drop 21 = dktJ2_siftUpUsingComparator_1 := dk_seg dksJ2_siftUpUsingComparator_0 21 rfl rfl
theorem dksJ2_siftUpUsingComparator_2 : cJ2_siftUpUsingComparator.data.toList.drop 45 = dktJ2_siftUpUsingComparator_2 := dk_seg dksJ2_siftUpUsingComparator_1 24 rfl rfl
theorem dJ2_siftUpUsingComparator_0 : decode cJ2_siftUpUsingComparator 0 = .ok (.iload_n 0, 1) := dk_26 (dk_at dksJ2_siftUpUsingComparator_0 0 rfl rfl)
theorem dJ2_siftUpUsingComparator_1 : decode cJ2_siftUpUsingComparator 1 = .ok (.ifCond .le 42, 3) := dk_158 0 42 (dk_at dksJ2_siftUpUsingComparator_0 1 rfl rfl)
theorem dJ2_siftUpUsingComparator_4 : decode cJ2_siftUpUsingComparator 4 = .ok (.iload_n 0, 1) := dk_26 (dk_at dksJ2_siftUpUsingComparator_0 4 rfl rfl)
theorem dJ2_siftUpUsingComparator_5 : decode cJ2_siftUpUsingComparator 5 = .ok (.iconst 1, 1) := dk_4 (dk_at dksJ2_siftUpUsingComparator_0 5 rfl rfl)
theorem dJ2_siftUpUsingComparator_6 : decode cJ2_siftUpUsingComparator 6 = .ok (.isub, 1) := dk_100 (dk_at dksJ2_siftUpUsingComparator_0 6 rfl rfl)
theorem dJ2_siftUpUsingComparator_7 : decode cJ2_siftUpUsingComparator 7 = .ok (.iconst 1, 1) := dk_4 (dk_at dksJ2_siftUpUsingComparator_0 7 rfl rfl)
theorem dJ2_siftUpUsingComparator_8 : decode cJ2_siftUpUsingComparator 8 = .ok (.iushr, 1) := dk_124 (dk_at dksJ2_siftUpUsingComparator_0 8 rfl rfl)
theorem dJ2_siftUpUsingComparator_9 : decode cJ2_siftUpUsingComparator 9 = .ok (.istore 4, 2) := dk_54 4 (dk_at dksJ2_siftUpUsingComparator_0 9 rfl rfl)
theorem dJ2_siftUpUsingComparator_11 : decode cJ2_siftUpUsingComparator 11 = .ok (.aload_n 2, 1) := dk_44 (dk_at dksJ2_siftUpUsingComparator_0 11 rfl rfl)
theorem dJ2_siftUpUsingComparator_12 : decode cJ2_siftUpUsingComparator 12 = .ok (.iload 4, 2) := dk_21 4 (dk_at dksJ2_siftUpUsingComparator_0 12 rfl rfl)
theorem dJ2_siftUpUsingComparator_14 : decode cJ2_siftUpUsingComparator 14 = .ok (.aaload, 1) := dk_50 (dk_at dksJ2_siftUpUsingComparator_0 14 rfl rfl)
theorem dJ2_siftUpUsingComparator_15 : decode cJ2_siftUpUsingComparator 15 = .ok (.astore 5, 2) := dk_58 5 (dk_at dksJ2_siftUpUsingComparator_0 15 rfl rfl)
theorem dJ2_siftUpUsingComparator_17 : decode cJ2_siftUpUsingComparator 17 = .ok (.aload_n 3, 1) := dk_45 (dk_at dksJ2_siftUpUsingComparator_0 17 rfl rfl)
theorem dJ2_siftUpUsingComparator_18 : decode cJ2_siftUpUsingComparator 18 = .ok (.aload_n 1, 1) := dk_43 (dk_at dksJ2_siftUpUsingComparator_0 18 rfl rfl)
theorem dJ2_siftUpUsingComparator_19 : decode cJ2_siftUpUsingComparator 19 = .ok (.aload 5, 2) := dk_25 5 (dk_at dksJ2_siftUpUsingComparator_0 19 rfl rfl)
theorem dJ2_siftUpUsingComparator_21 : decode cJ2_siftUpUsingComparator 21 = .ok (.invokeinterface 149 3, 5) := by decide +kernel
theorem dJ2_siftUpUsingComparator_26 : decode cJ2_siftUpUsingComparator 26 = .ok (.ifCond .lt 6, 3) := dk_155 0 6 (dk_at dksJ2_siftUpUsingComparator_1 5 rfl rfl)
theorem dJ2_siftUpUsingComparator_29 : decode cJ2_siftUpUsingComparator 29 = .ok (.goto 14, 3) := dk_167 0 14 (dk_at dksJ2_siftUpUsingComparator_1 8 rfl rfl)
theorem dJ2_siftUpUsingComparator_32 : decode cJ2_siftUpUsingComparator 32 = .ok (.aload_n 2, 1) := dk_44 (dk_at dksJ2_siftUpUsingComparator_1 11 rfl rfl)
theorem dJ2_siftUpUsingComparator_33 : decode cJ2_siftUpUsingComparator 33 = .ok (.iload_n 0, 1) := dk_26 (dk_at dksJ2_siftUpUsingComparator_1 12 rfl rfl)
theorem dJ2_siftUpUsingComparator_34 : decode cJ2_siftUpUsingComparator 34 = .ok (.aload 5, 2) := dk_25 5 (dk_at dksJ2_siftUpUsingComparator_1 13 rfl rfl)
theorem dJ2_siftUpUsingComparator_36 : decode cJ2_siftUpUsingComparator 36 = .ok (.aastore, 1) := dk_83 (dk_at dksJ2_siftUpUsingComparator_1 15 rfl rfl)
theorem dJ2_siftUpUsingComparator_37 : decode cJ2_siftUpUsingComparator 37 = .ok (.iload 4, 2) := dk_21 4 (dk_at dksJ2_siftUpUsingComparator_1 16 rfl rfl)
theorem dJ2_siftUpUsingComparator_39 : decode cJ2_siftUpUsingComparator 39 = .ok (.istore_n 0, 1) := dk_59 (dk_at dksJ2_siftUpUsingComparator_1 18 rfl rfl)
theorem dJ2_siftUpUsingComparator_40 : decode cJ2_siftUpUsingComparator 40 = .ok (.goto (-40), 3) := dk_167 255 216 (dk_at dksJ2_siftUpUsingComparator_1 19 rfl rfl)
theorem dJ2_siftUpUsingComparator_43 : decode cJ2_siftUpUsingComparator 43 = .ok (.aload_n 2, 1) := dk_44 (dk_at dksJ2_siftUpUsingComparator_1 22 rfl rfl)
theorem dJ2_siftUpUsingComparator_44 : decode cJ2_siftUpUsingComparator 44 = .ok (.iload_n 0, 1) := dk_26 (dk_at dksJ2_siftUpUsingComparator_1 23 rfl rfl)
theorem dJ2_siftUpUsingComparator_45 : decode cJ2_siftUpUsingComparator 45 = .ok (.aload_n 1, 1) := dk_43 (dk_at dksJ2_siftUpUsingComparator_2 0 rfl rfl)
theorem dJ2_siftUpUsingComparator_46 : decode cJ2_siftUpUsingComparator 46 = .ok (.aastore, 1) := dk_83 (dk_at dksJ2_siftUpUsingComparator_2 1 rfl rfl)
theorem dJ2_siftUpUsingComparator_47 : decode cJ2_siftUpUsingComparator 47 = .ok (.return_, 1) := dk_177 (dk_at dksJ2_siftUpUsingComparator_2 2 rfl rfl)
abbrev cJ2_siftUpComparable : ByteArray := prog_53_method_28_code
def yJ2_siftUpComparable : MethodName := ⟨RJ2, "siftUpComparable", "(ILjava/lang/Object;[Ljava/lang/Object;)V"⟩
def dkwJ2_siftUpComparable_2 : List UInt8 := [44, 26, 45, 83, 177]
abbrev dktJ2_siftUpComparable_2 : List UInt8 := dkwJ2_siftUpComparable_2 ++ []
def dkwJ2_siftUpComparable_1 : List UInt8 := [25, 5, 185, 0, 146, 2, 0, 155, 0, 6, 167, 0, 14, 44, 26, 25, 5, 83, 21, 4, 59, 167, 255, 217]
abbrev dktJ2_siftUpComparable_1 : List UInt8 := dkwJ2_siftUpComparable_1 ++ dktJ2_siftUpComparable_2
def dkwJ2_siftUpComparable_0 : List UInt8 := [43, 192, 0, 144, 78, 26, 158, 0, 41, 26, 4, 100, 4, 124, 54, 4, 44, 21, 4, 50, 58, 5, 45]
abbrev dktJ2_siftUpComparable_0 : List UInt8 := dkwJ2_siftUpComparable_0 ++ dktJ2_siftUpComparable_1
theorem dksJ2_siftUpComparable_0 : cJ2_siftUpComparable.data.toList.drop 0 = dktJ2_siftUpComparable_0 := by decide +kernel
theorem dksJ2_siftUpComparable_1 : cJ2_siftUpComparable.data.toList.drop 23 = dktJ2_siftUpComparable_1 := dk_seg dksJ2_siftUpComparable_0 23 rfl rfl
theorem dksJ2_siftUpComparable_2 : cJ2_siftUpComparable.data.toList.drop 47 = dktJ2_siftUpComparable_2 := dk_seg dksJ2_siftUpComparable_1 24 rfl rfl
theorem dJ2_siftUpComparable_0 : decode cJ2_siftUpComparable 0 = .ok (.aload_n 1, 1) := dk_43 (dk_at dksJ2_siftUpComparable_0 0 rfl rfl)
theorem dJ2_siftUpComparable_1 : decode cJ2_siftUpComparable 1 = .ok (.checkcast 144, 3) := dk_192 0 144 (dk_at dksJ2_siftUpComparable_0 1 rfl rfl)
theorem dJ2_siftUpComparable_4 : decode cJ2_siftUpComparable 4 = .ok (.astore_n 3, 1) := dk_78 (dk_at dksJ2_siftUpComparable_0 4 rfl rfl)
theorem dJ2_siftUpComparable_5 : decode cJ2_siftUpComparable 5 = .ok (.iload_n 0, 1) := dk_26 (dk_at dksJ2_siftUpComparable_0 5 rfl rfl)
theorem dJ2_siftUpComparable_6 : decode cJ2_siftUpComparable 6 = .ok (.ifCond .le 41, 3) := dk_158 0 41 (dk_at dksJ2_siftUpComparable_0 6 rfl rfl)
theorem dJ2_siftUpComparable_9 : decode cJ2_siftUpComparable 9 = .ok (.iload_n 0, 1) := dk_26 (dk_at dksJ2_siftUpComparable_0 9 rfl rfl)
theorem dJ2_siftUpComparable_10 : decode cJ2_siftUpComparable 10 = .ok (.iconst 1, 1) := dk_4 (dk_at dksJ2_siftUpComparable_0 10 rfl rfl)
theorem dJ2_siftUpComparable_11 : decode cJ2_siftUpComparable 11 = .ok (.isub, 1) := dk_100 (dk_at dksJ2_siftUpComparable_0 11 rfl rfl)
theorem dJ2_siftUpComparable_12 : decode cJ2_siftUpComparable 12 = .ok (.iconst 1, 1) := dk_4 (dk_at dksJ2_siftUpComparable_0 12 rfl rfl)
theorem dJ2_siftUpComparable_13 : decode cJ2_siftUpComparable 13 = .ok (.iushr, 1) := dk_124 (dk_at dksJ2_siftUpComparable_0 13 rfl rfl)
theorem dJ2_siftUpComparable_14 : decode cJ2_siftUpComparable 14 = .ok (.istore 4, 2) := dk_54 4 (dk_at dksJ2_siftUpComparable_0 14 rfl rfl)
theorem dJ2_siftUpComparable_16 : decode cJ2_siftUpComparable 16 = .ok (.aload_n 2, 1) := dk_44 (dk_at dksJ2_siftUpComparable_0 16 rfl rfl)
theorem dJ2_siftUpComparable_17 : decode cJ2_siftUpComparable 17 = .ok (.iload 4, 2) := dk_21 4 (dk_at dksJ2_siftUpComparable_0 17 rfl rfl)
theorem dJ2_siftUpComparable_19 : decode cJ2_siftUpComparable 19 = .ok (.aaload, 1) := dk_50 (dk_at dksJ2_siftUpComparable_0 19 rfl rfl)
theorem dJ2_siftUpComparable_20 : decode cJ2_siftUpComparable 20 = .ok (.astore 5, 2) := dk_58 5 (dk_at dksJ2_siftUpComparable_0 20 rfl rfl)
theorem dJ2_siftUpComparable_22 : decode cJ2_siftUpComparable 22 = .ok (.aload_n 3, 1) := dk_45 (dk_at dksJ2_siftUpComparable_0 22 rfl rfl)
theorem dJ2_siftUpComparable_23 : decode cJ2_siftUpComparable 23 = .ok (.aload 5, 2) := dk_25 5 (dk_at dksJ2_siftUpComparable_1 0 rfl rfl)
theorem dJ2_siftUpComparable_25 : decode cJ2_siftUpComparable 25 = .ok (.invokeinterface 146 2, 5) := by decide +kernel
theorem dJ2_siftUpComparable_30 : decode cJ2_siftUpComparable 30 = .ok (.ifCond .lt 6, 3) := dk_155 0 6 (dk_at dksJ2_siftUpComparable_1 7 rfl rfl)
theorem dJ2_siftUpComparable_33 : decode cJ2_siftUpComparable 33 = .ok (.goto 14, 3) := dk_167 0 14 (dk_at dksJ2_siftUpComparable_1 10 rfl rfl)
theorem dJ2_siftUpComparable_36 : decode cJ2_siftUpComparable 36 = .ok (.aload_n 2, 1) := dk_44 (dk_at dksJ2_siftUpComparable_1 13 rfl rfl)
theorem dJ2_siftUpComparable_37 : decode cJ2_siftUpComparable 37 = .ok (.iload_n 0, 1) := dk_26 (dk_at dksJ2_siftUpComparable_1 14 rfl rfl)
theorem dJ2_siftUpComparable_38 : decode cJ2_siftUpComparable 38 = .ok (.aload 5, 2) := dk_25 5 (dk_at dksJ2_siftUpComparable_1 15 rfl rfl)
theorem dJ2_siftUpComparable_40 : decode cJ2_siftUpComparable 40 = .ok (.aastore, 1) := dk_83 (dk_at dksJ2_siftUpComparable_1 17 rfl rfl)
theorem dJ2_siftUpComparable_41 : decode cJ2_siftUpComparable 41 = .ok (.iload 4, 2) := dk_21 4 (dk_at dksJ2_siftUpComparable_1 18 rfl rfl)
theorem dJ2_siftUpComparable_43 : decode cJ2_siftUpComparable 43 = .ok (.istore_n 0, 1) := dk_59 (dk_at dksJ2_siftUpComparable_1 20 rfl rfl)
theorem dJ2_siftUpComparable_44 : decode cJ2_siftUpComparable 44 = .ok (.goto (-39), 3) := dk_167 255 217 (dk_at dksJ2_siftUpComparable_1 21 rfl rfl)
theorem dJ2_siftUpComparable_47 : decode cJ2_siftUpComparable 47 = .ok (.aload_n 2, 1) := dk_44 (dk_at dksJ2_siftUpComparable_2 0 rfl rfl)
theorem dJ2_siftUpComparable_48 : decode cJ2_siftUpComparable 48 = .ok (.iload_n 0, 1) := dk_26 (dk_at dksJ2_siftUpComparable_2 1 rfl rfl)
theorem dJ2_siftUpComparable_49 : decode cJ2_siftUpComparable 49 = .ok (.aload_n 3, 1) := dk_45 (dk_at dksJ2_siftUpComparable_2 2 rfl rfl)
theorem dJ2_siftUpComparable_50 : decode cJ2_siftUpComparable 50 = .ok (.aastore, 1) := dk_83 (dk_at dksJ2_siftUpComparable_2 3 rfl rfl)
theorem dJ2_siftUpComparable_51 : decode cJ2_siftUpComparable 51 = .ok (.return_, 1) := dk_177 (dk_at dksJ2_siftUpComparable_2 4 rfl rfl)
abbrev cJ2_size : ByteArray := prog_53_method_23_code
def yJ2_size : MethodName := ⟨RJ2, "size", "()I"⟩
theorem dJ2_size_0 : decode cJ2_size 0 = .ok (.aload_n 0, 1) := by decide +kernel
theorem dJ2_size_1 : decode cJ2_size 1 = .ok (.getfield 58, 3) := by decide +kernel
theorem dJ2_size_4 : decode cJ2_size 4 = .ok (.ireturn, 1) := by decide +kernel
abbrev cJ2_poll : ByteArray := prog_53_method_25_code
def yJ2_poll : MethodName := ⟨RJ2, "poll", "()Ljava/lang/Object;"⟩
def dkwJ2_poll_3 : List UInt8 := [43, 29, 25, 5, 184, 0, 129, 44, 176]
abbrev dktJ2_poll_3 : List UInt8 := dkwJ2_poll_3 ++ []
def dkwJ2_poll_2 : List UInt8 := [42, 180, 0, 21, 89, 58, 5, 199, 0, 14, 3, 25, 4, 43, 29, 184, 0, 125, 167, 0, 13, 3, 25, 4]
abbrev dktJ2_poll_2 : List UInt8 := dkwJ2_poll_2 ++ dktJ2_poll_3
def dkwJ2_poll_1 : List UInt8 := [42, 89, 180, 0, 58, 4, 100, 90, 181, 0, 58, 89, 62, 50, 58, 4, 43, 29, 1, 83, 29, 158, 0, 34]
abbrev dktJ2_poll_1 : List UInt8 := dkwJ2_poll_1 ++ dktJ2_poll_2
def dkwJ2_poll_0 : List UInt8 := [42, 180, 0, 17, 89, 76, 3, 50, 89, 77, 198, 0, 69, 42, 89, 180, 0, 93, 4, 96, 181, 0, 93, 43]
abbrev dktJ2_poll_0 : List UInt8 := dkwJ2_poll_0 ++ dktJ2_poll_1
theorem dksJ2_poll_0 : cJ2_poll.data.toList.drop 0 = dktJ2_poll_0 := by decide +kernel
theorem dksJ2_poll_1 : cJ2_poll.data.toList.drop 24 = dktJ2_poll_1 := dk_seg dksJ2_poll_0 24 rfl rfl
theorem dksJ2_poll_2 : cJ2_poll.data.toList.drop 48 = dktJ2_poll_2 := dk_seg dksJ2_poll_1 24 rfl rfl
theorem dksJ2_poll_3 : cJ2_poll.data.toList.drop 72 = dktJ2_poll_3 := dk_seg dksJ2_poll_2 24 rfl rfl
theorem dJ2_poll_0 : decode cJ2_poll 0 = .ok (.aload_n 0, 1) := dk_42 (dk_at dksJ2_poll_0 0 rfl rfl)
theorem dJ2_poll_1 : decode cJ2_poll 1 = .ok (.getfield 17, 3) := dk_180 0 17 (dk_at dksJ2_poll_0 1 rfl rfl)
theorem dJ2_poll_4 : decode cJ2_poll 4 = .ok (.dup, 1) := dk_89 (dk_at dksJ2_poll_0 4 rfl rfl)
theorem dJ2_poll_5 : decode cJ2_poll 5 = .ok (.astore_n 1, 1) := dk_76 (dk_at dksJ2_poll_0 5 rfl rfl)
theorem dJ2_poll_6 : decode cJ2_poll 6 = .ok (.iconst 0, 1) := dk_3 (dk_at dksJ2_poll_0 6 rfl rfl)
theorem dJ2_poll_7 : decode cJ2_poll 7 = .ok (.aaload, 1) := dk_50 (dk_at dksJ2_poll_0 7 rfl rfl)
theorem dJ2_poll_8 : decode cJ2_poll 8 = .ok (.dup, 1) := dk_89 (dk_at dksJ2_poll_0 8 rfl rfl)
theorem dJ2_poll_9 : decode cJ2_poll 9 = .ok (.astore_n 2, 1) := dk_77 (dk_at dksJ2_poll_0 9 rfl rfl)
theorem dJ2_poll_10 : decode cJ2_poll 10 = .ok (.ifnull 69, 3) := dk_198 0 69 (dk_at dksJ2_poll_0 10 rfl rfl)
theorem dJ2_poll_13 : decode cJ2_poll 13 = .ok (.aload_n 0, 1) := dk_42 (dk_at dksJ2_poll_0 13 rfl rfl)
theorem dJ2_poll_14 : decode cJ2_poll 14 = .ok (.dup, 1) := dk_89 (dk_at dksJ2_poll_0 14 rfl rfl)
theorem dJ2_poll_15 : decode cJ2_poll 15 = .ok (.getfield 93, 3) := dk_180 0 93 (dk_at dksJ2_poll_0 15 rfl rfl)
theorem dJ2_poll_18 : decode cJ2_poll 18 = .ok (.iconst 1, 1) := dk_4 (dk_at dksJ2_poll_0 18 rfl rfl)
theorem dJ2_poll_19 : decode cJ2_poll 19 = .ok (.iadd, 1) := dk_96 (dk_at dksJ2_poll_0 19 rfl rfl)
theorem dJ2_poll_20 : decode cJ2_poll 20 = .ok (.putfield 93, 3) := dk_181 0 93 (dk_at dksJ2_poll_0 20 rfl rfl)
theorem dJ2_poll_23 : decode cJ2_poll 23 = .ok (.aload_n 1, 1) := dk_43 (dk_at dksJ2_poll_0 23 rfl rfl)
theorem dJ2_poll_24 : decode cJ2_poll 24 = .ok (.aload_n 0, 1) := dk_42 (dk_at dksJ2_poll_1 0 rfl rfl)
theorem dJ2_poll_25 : decode cJ2_poll 25 = .ok (.dup, 1) := dk_89 (dk_at dksJ2_poll_1 1 rfl rfl)
theorem dJ2_poll_26 : decode cJ2_poll 26 = .ok (.getfield 58, 3) := dk_180 0 58 (dk_at dksJ2_poll_1 2 rfl rfl)
theorem dJ2_poll_29 : decode cJ2_poll 29 = .ok (.iconst 1, 1) := dk_4 (dk_at dksJ2_poll_1 5 rfl rfl)
theorem dJ2_poll_30 : decode cJ2_poll 30 = .ok (.isub, 1) := dk_100 (dk_at dksJ2_poll_1 6 rfl rfl)
theorem dJ2_poll_31 : decode cJ2_poll 31 = .ok (.dup_x1, 1) := dk_90 (dk_at dksJ2_poll_1 7 rfl rfl)
theorem dJ2_poll_32 : decode cJ2_poll 32 = .ok (.putfield 58, 3) := dk_181 0 58 (dk_at dksJ2_poll_1 8 rfl rfl)
theorem dJ2_poll_35 : decode cJ2_poll 35 = .ok (.dup, 1) := dk_89 (dk_at dksJ2_poll_1 11 rfl rfl)
theorem dJ2_poll_36 : decode cJ2_poll 36 = .ok (.istore_n 3, 1) := dk_62 (dk_at dksJ2_poll_1 12 rfl rfl)
theorem dJ2_poll_37 : decode cJ2_poll 37 = .ok (.aaload, 1) := dk_50 (dk_at dksJ2_poll_1 13 rfl rfl)
theorem dJ2_poll_38 : decode cJ2_poll 38 = .ok (.astore 4, 2) := dk_58 4 (dk_at dksJ2_poll_1 14 rfl rfl)
theorem dJ2_poll_40 : decode cJ2_poll 40 = .ok (.aload_n 1, 1) := dk_43 (dk_at dksJ2_poll_1 16 rfl rfl)
theorem dJ2_poll_41 : decode cJ2_poll 41 = .ok (.iload_n 3, 1) := dk_29 (dk_at dksJ2_poll_1 17 rfl rfl)
theorem dJ2_poll_42 : decode cJ2_poll 42 = .ok (.aconst_null, 1) := dk_1 (dk_at dksJ2_poll_1 18 rfl rfl)
theorem dJ2_poll_43 : decode cJ2_poll 43 = .ok (.aastore, 1) := dk_83 (dk_at dksJ2_poll_1 19 rfl rfl)
theorem dJ2_poll_44 : decode cJ2_poll 44 = .ok (.iload_n 3, 1) := dk_29 (dk_at dksJ2_poll_1 20 rfl rfl)
theorem dJ2_poll_45 : decode cJ2_poll 45 = .ok (.ifCond .le 34, 3) := dk_158 0 34 (dk_at dksJ2_poll_1 21 rfl rfl)
theorem dJ2_poll_48 : decode cJ2_poll 48 = .ok (.aload_n 0, 1) := dk_42 (dk_at dksJ2_poll_2 0 rfl rfl)
theorem dJ2_poll_49 : decode cJ2_poll 49 = .ok (.getfield 21, 3) := dk_180 0 21 (dk_at dksJ2_poll_2 1 rfl rfl)
theorem dJ2_poll_52 : decode cJ2_poll 52 = .ok (.dup, 1) := dk_89 (dk_at dksJ2_poll_2 4 rfl rfl)
theorem dJ2_poll_53 : decode cJ2_poll 53 = .ok (.astore 5, 2) := dk_58 5 (dk_at dksJ2_poll_2 5 rfl rfl)
theorem dJ2_poll_55 : decode cJ2_poll 55 = .ok (.ifnonnull 14, 3) := dk_199 0 14 (dk_at dksJ2_poll_2 7 rfl rfl)
theorem dJ2_poll_58 : decode cJ2_poll 58 = .ok (.iconst 0, 1) := dk_3 (dk_at dksJ2_poll_2 10 rfl rfl)
theorem dJ2_poll_59 : decode cJ2_poll 59 = .ok (.aload 4, 2) := dk_25 4 (dk_at dksJ2_poll_2 11 rfl rfl)
theorem dJ2_poll_61 : decode cJ2_poll 61 = .ok (.aload_n 1, 1) := dk_43 (dk_at dksJ2_poll_2 13 rfl rfl)
theorem dJ2_poll_62 : decode cJ2_poll 62 = .ok (.iload_n 3, 1) := dk_29 (dk_at dksJ2_poll_2 14 rfl rfl)
theorem dJ2_poll_63 : decode cJ2_poll 63 = .ok (.invokestatic 125, 3) := dk_184 0 125 (dk_at dksJ2_poll_2 15 rfl rfl)
theorem dJ2_poll_66 : decode cJ2_poll 66 = .ok (.goto 13, 3) := dk_167 0 13 (dk_at dksJ2_poll_2 18 rfl rfl)
theorem dJ2_poll_69 : decode cJ2_poll 69 = .ok (.iconst 0, 1) := dk_3 (dk_at dksJ2_poll_2 21 rfl rfl)
theorem dJ2_poll_70 : decode cJ2_poll 70 = .ok (.aload 4, 2) := dk_25 4 (dk_at dksJ2_poll_2 22 rfl rfl)
theorem dJ2_poll_72 : decode cJ2_poll 72 = .ok (.aload_n 1, 1) := dk_43 (dk_at dksJ2_poll_3 0 rfl rfl)
theorem dJ2_poll_73 : decode cJ2_poll 73 = .ok (.iload_n 3, 1) := dk_29 (dk_at dksJ2_poll_3 1 rfl rfl)
theorem dJ2_poll_74 : decode cJ2_poll 74 = .ok (.aload 5, 2) := dk_25 5 (dk_at dksJ2_poll_3 2 rfl rfl)
theorem dJ2_poll_76 : decode cJ2_poll 76 = .ok (.invokestatic 129, 3) := dk_184 0 129 (dk_at dksJ2_poll_3 4 rfl rfl)
theorem dJ2_poll_79 : decode cJ2_poll 79 = .ok (.aload_n 2, 1) := dk_44 (dk_at dksJ2_poll_3 7 rfl rfl)
theorem dJ2_poll_80 : decode cJ2_poll 80 = .ok (.areturn, 1) := dk_176 (dk_at dksJ2_poll_3 8 rfl rfl)
abbrev cJ2_siftDownComparable : ByteArray := prog_53_method_31_code
def yJ2_siftDownComparable : MethodName := ⟨RJ2, "siftDownComparable", "(ILjava/lang/Object;[Ljava/lang/Object;I)V"⟩
def dkwJ2_siftDownComparable_4 : List UInt8 := [25, 4, 83, 177]
abbrev dktJ2_siftDownComparable_4 : List UInt8 := dkwJ2_siftDownComparable_4 ++ []
def dkwJ2_siftDownComparable_3 : List UInt8 := [185, 0, 146, 2, 0, 157, 0, 6, 167, 0, 14, 44, 26, 25, 7, 83, 21, 6, 59, 167, 255, 176, 44, 26]
abbrev dktJ2_siftDownComparable_3 : List UInt8 := dkwJ2_siftDownComparable_3 ++ dktJ2_siftDownComparable_4
def dkwJ2_siftDownComparable_2 : List UInt8 := [21, 8, 50, 185, 0, 146, 2, 0, 158, 0, 12, 44, 21, 8, 89, 54, 6, 50, 58, 7, 25, 4, 25, 7]
abbrev dktJ2_siftDownComparable_2 : List UInt8 := dkwJ2_siftDownComparable_2 ++ dktJ2_siftDownComparable_3
def dkwJ2_siftDownComparable_1 : List UInt8 := [44, 21, 6, 50, 58, 7, 21, 6, 4, 96, 54, 8, 21, 8, 29, 162, 0, 29, 25, 7, 192, 0, 144, 44]
abbrev dktJ2_siftDownComparable_1 : List UInt8 := dkwJ2_siftDownComparable_1 ++ dktJ2_siftDownComparable_2
def dkwJ2_siftDownComparable_0 : List UInt8 := [43, 192, 0, 144, 58, 4, 29, 4, 124, 54, 5, 26, 21, 5, 162, 0, 80, 26, 4, 120, 4, 96, 54, 6]
abbrev dktJ2_siftDownComparable_0 : List UInt8 := dkwJ2_siftDownComparable_0 ++ dktJ2_siftDownComparable_1
theorem dksJ2_siftDownComparable_0 : cJ2_siftDownComparable.data.toList.drop 0 = dktJ2_siftDownComparable_0 := by decide +kernel
theorem dksJ2_siftDownComparable_1 : cJ2_siftDownComparable.data.toList.drop 24 = dktJ2_siftDownComparable_1 := dk_seg dksJ2_siftDownComparable_0 24 rfl rfl
theorem dksJ2_siftDownComparable_2 : cJ2_siftDownComparable.data.toList.drop 48 = dktJ2_siftDownComparable_2 := dk_seg dksJ2_siftDownComparable_1 24 rfl rfl
theorem dksJ2_siftDownComparable_3 : cJ2_siftDownComparable.data.toList.drop 72 = dktJ2_siftDownComparable_3 := dk_seg dksJ2_siftDownComparable_2 24 rfl rfl
theorem dksJ2_siftDownComparable_4 : cJ2_siftDownComparable.data.toList.drop 96 = dktJ2_siftDownComparable_4 := dk_seg dksJ2_siftDownComparable_3 24 rfl rfl
theorem dJ2_siftDownComparable_0 : decode cJ2_siftDownComparable 0 = .ok (.aload_n 1, 1) := dk_43 (dk_at dksJ2_siftDownComparable_0 0 rfl rfl)
theorem dJ2_siftDownComparable_1 : decode cJ2_siftDownComparable 1 = .ok (.checkcast 144, 3) := dk_192 0 144 (dk_at dksJ2_siftDownComparable_0 1 rfl rfl)
theorem dJ2_siftDownComparable_4 : decode cJ2_siftDownComparable 4 = .ok (.astore 4, 2) := dk_58 4 (dk_at dksJ2_siftDownComparable_0 4 rfl rfl)
theorem dJ2_siftDownComparable_6 : decode cJ2_siftDownComparable 6 = .ok (.iload_n 3, 1) := dk_29 (dk_at dksJ2_siftDownComparable_0 6 rfl rfl)
theorem dJ2_siftDownComparable_7 : decode cJ2_siftDownComparable 7 = .ok (.iconst 1, 1) := dk_4 (dk_at dksJ2_siftDownComparable_0 7 rfl rfl)
theorem dJ2_siftDownComparable_8 : decode cJ2_siftDownComparable 8 = .ok (.iushr, 1) := dk_124 (dk_at dksJ2_siftDownComparable_0 8 rfl rfl)
theorem dJ2_siftDownComparable_9 : decode cJ2_siftDownComparable 9 = .ok (.istore 5, 2) := dk_54 5 (dk_at dksJ2_siftDownComparable_0 9 rfl rfl)
theorem dJ2_siftDownComparable_11 : decode cJ2_siftDownComparable 11 = .ok (.iload_n 0, 1) := dk_26 (dk_at dksJ2_siftDownComparable_0 11 rfl rfl)
theorem dJ2_siftDownComparable_12 : decode cJ2_siftDownComparable 12 = .ok (.iload 5, 2) := dk_21 5 (dk_at dksJ2_siftDownComparable_0 12 rfl rfl)
theorem dJ2_siftDownComparable_14 : decode cJ2_siftDownComparable 14 = .ok (.if_icmp .ge 80, 3) := dk_162 0 80 (dk_at dksJ2_siftDownComparable_0 14 rfl rfl)
theorem dJ2_siftDownComparable_17 : decode cJ2_siftDownComparable 17 = .ok (.iload_n 0, 1) := dk_26 (dk_at dksJ2_siftDownComparable_0 17 rfl rfl)
theorem dJ2_siftDownComparable_18 : decode cJ2_siftDownComparable 18 = .ok (.iconst 1, 1) := dk_4 (dk_at dksJ2_siftDownComparable_0 18 rfl rfl)
theorem dJ2_siftDownComparable_19 : decode cJ2_siftDownComparable 19 = .ok (.ishl, 1) := dk_120 (dk_at dksJ2_siftDownComparable_0 19 rfl rfl)
theorem dJ2_siftDownComparable_20 : decode cJ2_siftDownComparable 20 = .ok (.iconst 1, 1) := dk_4 (dk_at dksJ2_siftDownComparable_0 20 rfl rfl)
theorem dJ2_siftDownComparable_21 : decode cJ2_siftDownComparable 21 = .ok (.iadd, 1) := dk_96 (dk_at dksJ2_siftDownComparable_0 21 rfl rfl)
theorem dJ2_siftDownComparable_22 : decode cJ2_siftDownComparable 22 = .ok (.istore 6, 2) := dk_54 6 (dk_at dksJ2_siftDownComparable_0 22 rfl rfl)
theorem dJ2_siftDownComparable_24 : decode cJ2_siftDownComparable 24 = .ok (.aload_n 2, 1) := dk_44 (dk_at dksJ2_siftDownComparable_1 0 rfl rfl)
theorem dJ2_siftDownComparable_25 : decode cJ2_siftDownComparable 25 = .ok (.iload 6, 2) := dk_21 6 (dk_at dksJ2_siftDownComparable_1 1 rfl rfl)
theorem dJ2_siftDownComparable_27 : decode cJ2_siftDownComparable 27 = .ok (.aaload, 1) := dk_50 (dk_at dksJ2_siftDownComparable_1 3 rfl rfl)
theorem dJ2_siftDownComparable_28 : decode cJ2_siftDownComparable 28 = .ok (.astore 7, 2) := dk_58 7 (dk_at dksJ2_siftDownComparable_1 4 rfl rfl)
theorem dJ2_siftDownComparable_30 : decode cJ2_siftDownComparable 30 = .ok (.iload 6, 2) := dk_21 6 (dk_at dksJ2_siftDownComparable_1 6 rfl rfl)
theorem dJ2_siftDownComparable_32 : decode cJ2_siftDownComparable 32 = .ok (.iconst 1, 1) := dk_4 (dk_at dksJ2_siftDownComparable_1 8 rfl rfl)
theorem dJ2_siftDownComparable_33 : decode cJ2_siftDownComparable 33 = .ok (.iadd, 1) := dk_96 (dk_at dksJ2_siftDownComparable_1 9 rfl rfl)
theorem dJ2_siftDownComparable_34 : decode cJ2_siftDownComparable 34 = .ok (.istore 8, 2) := dk_54 8 (dk_at dksJ2_siftDownComparable_1 10 rfl rfl)
theorem dJ2_siftDownComparable_36 : decode cJ2_siftDownComparable 36 = .ok (.iload 8, 2) := dk_21 8 (dk_at dksJ2_siftDownComparable_1 12 rfl rfl)
theorem dJ2_siftDownComparable_38 : decode cJ2_siftDownComparable 38 = .ok (.iload_n 3, 1) := dk_29 (dk_at dksJ2_siftDownComparable_1 14 rfl rfl)
theorem dJ2_siftDownComparable_39 : decode cJ2_siftDownComparable 39 = .ok (.if_icmp .ge 29, 3) := dk_162 0 29 (dk_at dksJ2_siftDownComparable_1 15 rfl rfl)
theorem dJ2_siftDownComparable_42 : decode cJ2_siftDownComparable 42 = .ok (.aload 7, 2) := dk_25 7 (dk_at dksJ2_siftDownComparable_1 18 rfl rfl)
theorem dJ2_siftDownComparable_44 : decode cJ2_siftDownComparable 44 = .ok (.checkcast 144, 3) := dk_192 0 144 (dk_at dksJ2_siftDownComparable_1 20 rfl rfl)
theorem dJ2_siftDownComparable_47 : decode cJ2_siftDownComparable 47 = .ok (.aload_n 2, 1) := dk_44 (dk_at dksJ2_siftDownComparable_1 23 rfl rfl)
theorem dJ2_siftDownComparable_48 : decode cJ2_siftDownComparable 48 = .ok (.iload 8, 2) := dk_21 8 (dk_at dksJ2_siftDownComparable_2 0 rfl rfl)
theorem dJ2_siftDownComparable_50 : decode cJ2_siftDownComparable 50 = .ok (.aaload, 1) := dk_50 (dk_at dksJ2_siftDownComparable_2 2 rfl rfl)
theorem dJ2_siftDownComparable_51 : decode cJ2_siftDownComparable 51 = .ok (.invokeinterface 146 2, 5) := by decide +kernel
theorem dJ2_siftDownComparable_56 : decode cJ2_siftDownComparable 56 = .ok (.ifCond .le 12, 3) := dk_158 0 12 (dk_at dksJ2_siftDownComparable_2 8 rfl rfl)
theorem dJ2_siftDownComparable_59 : decode cJ2_siftDownComparable 59 = .ok (.aload_n 2, 1) := dk_44 (dk_at dksJ2_siftDownComparable_2 11 rfl rfl)
theorem dJ2_siftDownComparable_60 : decode cJ2_siftDownComparable 60 = .ok (.iload 8, 2) := dk_21 8 (dk_at dksJ2_siftDownComparable_2 12 rfl rfl)
theorem dJ2_siftDownComparable_62 : decode cJ2_siftDownComparable 62 = .ok (.dup, 1) := dk_89 (dk_at dksJ2_siftDownComparable_2 14 rfl rfl)
theorem dJ2_siftDownComparable_63 : decode cJ2_siftDownComparable 63 = .ok (.istore 6, 2) := dk_54 6 (dk_at dksJ2_siftDownComparable_2 15 rfl rfl)
theorem dJ2_siftDownComparable_65 : decode cJ2_siftDownComparable 65 = .ok (.aaload, 1) := dk_50 (dk_at dksJ2_siftDownComparable_2 17 rfl rfl)
theorem dJ2_siftDownComparable_66 : decode cJ2_siftDownComparable 66 = .ok (.astore 7, 2) := dk_58 7 (dk_at dksJ2_siftDownComparable_2 18 rfl rfl)
theorem dJ2_siftDownComparable_68 : decode cJ2_siftDownComparable 68 = .ok (.aload 4, 2) := dk_25 4 (dk_at dksJ2_siftDownComparable_2 20 rfl rfl)
theorem dJ2_siftDownComparable_70 : decode cJ2_siftDownComparable 70 = .ok (.aload 7, 2) := dk_25 7 (dk_at dksJ2_siftDownComparable_2 22 rfl rfl)
theorem dJ2_siftDownComparable_72 : decode cJ2_siftDownComparable 72 = .ok (.invokeinterface 146 2, 5) := by decide +kernel
theorem dJ2_siftDownComparable_77 : decode cJ2_siftDownComparable 77 = .ok (.ifCond .gt 6, 3) := dk_157 0 6 (dk_at dksJ2_siftDownComparable_3 5 rfl rfl)
theorem dJ2_siftDownComparable_80 : decode cJ2_siftDownComparable 80 = .ok (.goto 14, 3) := dk_167 0 14 (dk_at dksJ2_siftDownComparable_3 8 rfl rfl)
theorem dJ2_siftDownComparable_83 : decode cJ2_siftDownComparable 83 = .ok (.aload_n 2, 1) := dk_44 (dk_at dksJ2_siftDownComparable_3 11 rfl rfl)
theorem dJ2_siftDownComparable_84 : decode cJ2_siftDownComparable 84 = .ok (.iload_n 0, 1) := dk_26 (dk_at dksJ2_siftDownComparable_3 12 rfl rfl)
theorem dJ2_siftDownComparable_85 : decode cJ2_siftDownComparable 85 = .ok (.aload 7, 2) := dk_25 7 (dk_at dksJ2_siftDownComparable_3 13 rfl rfl)
theorem dJ2_siftDownComparable_87 : decode cJ2_siftDownComparable 87 = .ok (.aastore, 1) := dk_83 (dk_at dksJ2_siftDownComparable_3 15 rfl rfl)
theorem dJ2_siftDownComparable_88 : decode cJ2_siftDownComparable 88 = .ok (.iload 6, 2) := dk_21 6 (dk_at dksJ2_siftDownComparable_3 16 rfl rfl)
theorem dJ2_siftDownComparable_90 : decode cJ2_siftDownComparable 90 = .ok (.istore_n 0, 1) := dk_59 (dk_at dksJ2_siftDownComparable_3 18 rfl rfl)
theorem dJ2_siftDownComparable_91 : decode cJ2_siftDownComparable 91 = .ok (.goto (-80), 3) := dk_167 255 176 (dk_at dksJ2_siftDownComparable_3 19 rfl rfl)
theorem dJ2_siftDownComparable_94 : decode cJ2_siftDownComparable 94 = .ok (.aload_n 2, 1) := dk_44 (dk_at dksJ2_siftDownComparable_3 22 rfl rfl)
theorem dJ2_siftDownComparable_95 : decode cJ2_siftDownComparable 95 = .ok (.iload_n 0, 1) := dk_26 (dk_at dksJ2_siftDownComparable_3 23 rfl rfl)
theorem dJ2_siftDownComparable_96 : decode cJ2_siftDownComparable 96 = .ok (.aload 4, 2) := dk_25 4 (dk_at dksJ2_siftDownComparable_4 0 rfl rfl)
theorem dJ2_siftDownComparable_98 : decode cJ2_siftDownComparable 98 = .ok (.aastore, 1) := dk_83 (dk_at dksJ2_siftDownComparable_4 2 rfl rfl)
theorem dJ2_siftDownComparable_99 : decode cJ2_siftDownComparable 99 = .ok (.return_, 1) := dk_177 (dk_at dksJ2_siftDownComparable_4 3 rfl rfl)
abbrev cJ2_siftDownUsingComparator : ByteArray := prog_53_method_32_code
def yJ2_siftDownUsingComparator : MethodName := ⟨RJ2, "siftDownUsingComparator", "(ILjava/lang/Object;[Ljava/lang/Object;ILjava/util/Comparator;)V"⟩
def dkwJ2_siftDownUsingComparator_4 : List UInt8 := [43, 83, 177]
abbrev dktJ2_siftDownUsingComparator_4 : List UInt8 := dkwJ2_siftDownUsingComparator_4 ++ []
def dkwJ2_siftDownUsingComparator_3 : List UInt8 := [185, 0, 149, 3, 0, 157, 0, 6, 167, 0, 14, 44, 26, 25, 7, 83, 21, 6, 59, 167, 255, 176, 44, 26]
abbrev dktJ2_siftDownUsingComparator_3 : List UInt8 := dkwJ2_siftDownUsingComparator_3 ++ dktJ2_siftDownUsingComparator_4
def dkwJ2_siftDownUsingComparator_2 : List UInt8 := [185, 0, 149, 3, 0, 158, 0, 12, 44, 21, 8, 89, 54, 6, 50, 58, 7, 25, 4, 43, 25, 7]
abbrev dktJ2_siftDownUsingComparator_2 : List UInt8 := dkwJ2_siftDownUsingComparator_2 ++ dktJ2_siftDownUsingComparator_3
def dkwJ2_siftDownUsingComparator_1 : List UInt8 := [21, 6, 4, 96, 54, 8, 21, 8, 29, 162, 0, 28, 25, 4, 25, 7, 44, 21, 8, 50]
abbrev dktJ2_siftDownUsingComparator_1 : List UInt8 := dkwJ2_siftDownUsingComparator_1 ++ dktJ2_siftDownUsingComparator_2
def dkwJ2_siftDownUsingComparator_0 : List UInt8 := [29, 4, 124, 54, 5, 26, 21, 5, 162, 0, 80, 26, 4, 120, 4, 96, 54, 6, 44, 21, 6, 50, 58, 7]
abbrev dktJ2_siftDownUsingComparator_0 : List UInt8 := dkwJ2_siftDownUsingComparator_0 ++ dktJ2_siftDownUsingComparator_1
theorem dksJ2_siftDownUsingComparator_0 : cJ2_siftDownUsingComparator.data.toList.drop 0 = dktJ2_siftDownUsingComparator_0 := by decide +kernel
theorem dksJ2_siftDownUsingComparator_1 : cJ2_siftDownUsingComparator.data.toList.drop 24 = dktJ2_siftDownUsingComparator_1 := dk_seg dksJ2_siftDownUsingComparator_0 24 rfl rfl
theorem dksJ2_siftDownUsingComparator_2 : cJ2_siftDownUsingComparator.data.toList.drop 44 = dktJ2_siftDownUsingComparator_2 := dk_seg dksJ2_siftDownUsingComparator_1 20 rfl rfl
theorem dksJ2_siftDownUsingComparator_3 : cJ2_siftDownUsingComparator.data.toList.drop 66 = dktJ2_siftDownUsingComparator_3 := dk_seg dksJ2_siftDownUsingComparator_2 22 rfl rfl
theorem dksJ2_siftDownUsingComparator_4 : cJ2_siftDownUsingComparator.data.toList.drop 90 = dktJ2_siftDownUsingComparator_4 := dk_seg dksJ2_siftDownUsingComparator_3 24 rfl rfl
theorem dJ2_siftDownUsingComparator_0 : decode cJ2_siftDownUsingComparator 0 = .ok (.iload_n 3, 1) := dk_29 (dk_at dksJ2_siftDownUsingComparator_0 0 rfl rfl)
theorem dJ2_siftDownUsingComparator_1 : decode cJ2_siftDownUsingComparator 1 = .ok (.iconst 1, 1) := dk_4 (dk_at dksJ2_siftDownUsingComparator_0 1 rfl rfl)
theorem dJ2_siftDownUsingComparator_2 : decode cJ2_siftDownUsingComparator 2 = .ok (.iushr, 1) := dk_124 (dk_at dksJ2_siftDownUsingComparator_0 2 rfl rfl)
theorem dJ2_siftDownUsingComparator_3 : decode cJ2_siftDownUsingComparator 3 = .ok (.istore 5, 2) := dk_54 5 (dk_at dksJ2_siftDownUsingComparator_0 3 rfl rfl)
theorem dJ2_siftDownUsingComparator_5 : decode cJ2_siftDownUsingComparator 5 = .ok (.iload_n 0, 1) := dk_26 (dk_at dksJ2_siftDownUsingComparator_0 5 rfl rfl)
theorem dJ2_siftDownUsingComparator_6 : decode cJ2_siftDownUsingComparator 6 = .ok (.iload 5, 2) := dk_21 5 (dk_at dksJ2_siftDownUsingComparator_0 6 rfl rfl)
theorem dJ2_siftDownUsingComparator_8 : decode cJ2_siftDownUsingComparator 8 = .ok (.if_icmp .ge 80, 3) := dk_162 0 80 (dk_at dksJ2_siftDownUsingComparator_0 8 rfl rfl)
theorem dJ2_siftDownUsingComparator_11 : decode cJ2_siftDownUsingComparator 11 = .ok (.iload_n 0, 1) := dk_26 (dk_at dksJ2_siftDownUsingComparator_0 11 rfl rfl)
theorem dJ2_siftDownUsingComparator_12 : decode cJ2_siftDownUsingComparator 12 = .ok (.iconst 1, 1) := dk_4 (dk_at dksJ2_siftDownUsingComparator_0 12 rfl rfl)
theorem dJ2_siftDownUsingComparator_13 : decode cJ2_siftDownUsingComparator 13 = .ok (.ishl, 1) := dk_120 (dk_at dksJ2_siftDownUsingComparator_0 13 rfl rfl)
theorem dJ2_siftDownUsingComparator_14 : decode cJ2_siftDownUsingComparator 14 = .ok (.iconst 1, 1) := dk_4 (dk_at dksJ2_siftDownUsingComparator_0 14 rfl rfl)
theorem dJ2_siftDownUsingComparator_15 : decode cJ2_siftDownUsingComparator 15 = .ok (.iadd, 1) := dk_96 (dk_at dksJ2_siftDownUsingComparator_0 15 rfl rfl)
theorem dJ2_siftDownUsingComparator_16 : decode cJ2_siftDownUsingComparator 16 = .ok (.istore 6, 2) := dk_54 6 (dk_at dksJ2_siftDownUsingComparator_0 16 rfl rfl)
theorem dJ2_siftDownUsingComparator_18 : decode cJ2_siftDownUsingComparator 18 = .ok (.aload_n 2, 1) := dk_44 (dk_at dksJ2_siftDownUsingComparator_0 18 rfl rfl)
theorem dJ2_siftDownUsingComparator_19 : decode cJ2_siftDownUsingComparator 19 = .ok (.iload 6, 2) := dk_21 6 (dk_at dksJ2_siftDownUsingComparator_0 19 rfl rfl)
theorem dJ2_siftDownUsingComparator_21 : decode cJ2_siftDownUsingComparator 21 = .ok (.aaload, 1) := dk_50 (dk_at dksJ2_siftDownUsingComparator_0 21 rfl rfl)
theorem dJ2_siftDownUsingComparator_22 : decode cJ2_siftDownUsingComparator 22 = .ok (.astore 7, 2) := dk_58 7 (dk_at dksJ2_siftDownUsingComparator_0 22 rfl rfl)
theorem dJ2_siftDownUsingComparator_24 : decode cJ2_siftDownUsingComparator 24 = .ok (.iload 6, 2) := dk_21 6 (dk_at dksJ2_siftDownUsingComparator_1 0 rfl rfl)
theorem dJ2_siftDownUsingComparator_26 : decode cJ2_siftDownUsingComparator 26 = .ok (.iconst 1, 1) := dk_4 (dk_at dksJ2_siftDownUsingComparator_1 2 rfl rfl)
theorem dJ2_siftDownUsingComparator_27 : decode cJ2_siftDownUsingComparator 27 = .ok (.iadd, 1) := dk_96 (dk_at dksJ2_siftDownUsingComparator_1 3 rfl rfl)
theorem dJ2_siftDownUsingComparator_28 : decode cJ2_siftDownUsingComparator 28 = .ok (.istore 8, 2) := dk_54 8 (dk_at dksJ2_siftDownUsingComparator_1 4 rfl rfl)
theorem dJ2_siftDownUsingComparator_30 : decode cJ2_siftDownUsingComparator 30 = .ok (.iload 8, 2) := dk_21 8 (dk_at dksJ2_siftDownUsingComparator_1 6 rfl rfl)
theorem dJ2_siftDownUsingComparator_32 : decode cJ2_siftDownUsingComparator 32 = .ok (.iload_n 3, 1) := dk_29 (dk_at dksJ2_siftDownUsingComparator_1 8 rfl rfl)
theorem dJ2_siftDownUsingComparator_33 : decode cJ2_siftDownUsingComparator 33 = .ok (.if_icmp .ge 28, 3) := dk_162 0 28 (dk_at dksJ2_siftDownUsingComparator_1 9 rfl rfl)
theorem dJ2_siftDownUsingComparator_36 : decode cJ2_siftDownUsingComparator 36 = .ok (.aload 4, 2) := dk_25 4 (dk_at dksJ2_siftDownUsingComparator_1 12 rfl rfl)
theorem dJ2_siftDownUsingComparator_38 : decode cJ2_siftDownUsingComparator 38 = .ok (.aload 7, 2) := dk_25 7 (dk_at dksJ2_siftDownUsingComparator_1 14 rfl rfl)
theorem dJ2_siftDownUsingComparator_40 : decode cJ2_siftDownUsingComparator 40 = .ok (.aload_n 2, 1) := dk_44 (dk_at dksJ2_siftDownUsingComparator_1 16 rfl rfl)
theorem dJ2_siftDownUsingComparator_41 : decode cJ2_siftDownUsingComparator 41 = .ok (.iload 8, 2) := dk_21 8 (dk_at dksJ2_siftDownUsingComparator_1 17 rfl rfl)
theorem dJ2_siftDownUsingComparator_43 : decode cJ2_siftDownUsingComparator 43 = .ok (.aaload, 1) := dk_50 (dk_at dksJ2_siftDownUsingComparator_1 19 rfl rfl)
theorem dJ2_siftDownUsingComparator_44 : decode cJ2_siftDownUsingComparator 44 = .ok (.invokeinterface 149 3, 5) := by decide +kernel
theorem dJ2_siftDownUsingComparator_49 : decode cJ2_siftDownUsingComparator 49 = .ok (.ifCond .le 12, 3) := dk_158 0 12 (dk_at dksJ2_siftDownUsingComparator_2 5 rfl rfl)
theorem dJ2_siftDownUsingComparator_52 : decode cJ2_siftDownUsingComparator 52 = .ok (.aload_n 2, 1) := dk_44 (dk_at dksJ2_siftDownUsingComparator_2 8 rfl rfl)
theorem dJ2_siftDownUsingComparator_53 : decode cJ2_siftDownUsingComparator 53 = .ok (.iload 8, 2) := dk_21 8 (dk_at dksJ2_siftDownUsingComparator_2 9 rfl rfl)
theorem dJ2_siftDownUsingComparator_55 : decode cJ2_siftDownUsingComparator 55 = .ok (.dup, 1) := dk_89 (dk_at dksJ2_siftDownUsingComparator_2 11 rfl rfl)
theorem dJ2_siftDownUsingComparator_56 : decode cJ2_siftDownUsingComparator 56 = .ok (.istore 6, 2) := dk_54 6 (dk_at dksJ2_siftDownUsingComparator_2 12 rfl rfl)
theorem dJ2_siftDownUsingComparator_58 : decode cJ2_siftDownUsingComparator 58 = .ok (.aaload, 1) := dk_50 (dk_at dksJ2_siftDownUsingComparator_2 14 rfl rfl)
theorem dJ2_siftDownUsingComparator_59 : decode cJ2_siftDownUsingComparator 59 = .ok (.astore 7, 2) := dk_58 7 (dk_at dksJ2_siftDownUsingComparator_2 15 rfl rfl)
theorem dJ2_siftDownUsingComparator_61 : decode cJ2_siftDownUsingComparator 61 = .ok (.aload 4, 2) := dk_25 4 (dk_at dksJ2_siftDownUsingComparator_2 17 rfl rfl)
theorem dJ2_siftDownUsingComparator_63 : decode cJ2_siftDownUsingComparator 63 = .ok (.aload_n 1, 1) := dk_43 (dk_at dksJ2_siftDownUsingComparator_2 19 rfl rfl)
theorem dJ2_siftDownUsingComparator_64 : decode cJ2_siftDownUsingComparator 64 = .ok (.aload 7, 2) := dk_25 7 (dk_at dksJ2_siftDownUsingComparator_2 20 rfl rfl)
theorem dJ2_siftDownUsingComparator_66 : decode cJ2_siftDownUsingComparator 66 = .ok (.invokeinterface 149 3, 5) := by decide +kernel
theorem dJ2_siftDownUsingComparator_71 : decode cJ2_siftDownUsingComparator 71 = .ok (.ifCond .gt 6, 3) := dk_157 0 6 (dk_at dksJ2_siftDownUsingComparator_3 5 rfl rfl)
theorem dJ2_siftDownUsingComparator_74 : decode cJ2_siftDownUsingComparator 74 = .ok (.goto 14, 3) := dk_167 0 14 (dk_at dksJ2_siftDownUsingComparator_3 8 rfl rfl)
theorem dJ2_siftDownUsingComparator_77 : decode cJ2_siftDownUsingComparator 77 = .ok (.aload_n 2, 1) := dk_44 (dk_at dksJ2_siftDownUsingComparator_3 11 rfl rfl)
theorem dJ2_siftDownUsingComparator_78 : decode cJ2_siftDownUsingComparator 78 = .ok (.iload_n 0, 1) := dk_26 (dk_at dksJ2_siftDownUsingComparator_3 12 rfl rfl)
theorem dJ2_siftDownUsingComparator_79 : decode cJ2_siftDownUsingComparator 79 = .ok (.aload 7, 2) := dk_25 7 (dk_at dksJ2_siftDownUsingComparator_3 13 rfl rfl)
theorem dJ2_siftDownUsingComparator_81 : decode cJ2_siftDownUsingComparator 81 = .ok (.aastore, 1) := dk_83 (dk_at dksJ2_siftDownUsingComparator_3 15 rfl rfl)
theorem dJ2_siftDownUsingComparator_82 : decode cJ2_siftDownUsingComparator 82 = .ok (.iload 6, 2) := dk_21 6 (dk_at dksJ2_siftDownUsingComparator_3 16 rfl rfl)
theorem dJ2_siftDownUsingComparator_84 : decode cJ2_siftDownUsingComparator 84 = .ok (.istore_n 0, 1) := dk_59 (dk_at dksJ2_siftDownUsingComparator_3 18 rfl rfl)
theorem dJ2_siftDownUsingComparator_85 : decode cJ2_siftDownUsingComparator 85 = .ok (.goto (-80), 3) := dk_167 255 176 (dk_at dksJ2_siftDownUsingComparator_3 19 rfl rfl)
theorem dJ2_siftDownUsingComparator_88 : decode cJ2_siftDownUsingComparator 88 = .ok (.aload_n 2, 1) := dk_44 (dk_at dksJ2_siftDownUsingComparator_3 22 rfl rfl)
theorem dJ2_siftDownUsingComparator_89 : decode cJ2_siftDownUsingComparator 89 = .ok (.iload_n 0, 1) := dk_26 (dk_at dksJ2_siftDownUsingComparator_3 23 rfl rfl)
theorem dJ2_siftDownUsingComparator_90 : decode cJ2_siftDownUsingComparator 90 = .ok (.aload_n 1, 1) := dk_43 (dk_at dksJ2_siftDownUsingComparator_4 0 rfl rfl)
theorem dJ2_siftDownUsingComparator_91 : decode cJ2_siftDownUsingComparator 91 = .ok (.aastore, 1) := dk_83 (dk_at dksJ2_siftDownUsingComparator_4 1 rfl rfl)
theorem dJ2_siftDownUsingComparator_92 : decode cJ2_siftDownUsingComparator 92 = .ok (.return_, 1) := dk_177 (dk_at dksJ2_siftDownUsingComparator_4 2 rfl rfl)
theorem q97 : (Jvm.Cond.initialized "java/util/PriorityQueue") ∈ lw_all := lw_g (lw_at lw_m1 5 rfl) rfl
theorem q160 : (Jvm.Cond.instantiable "java/util/PriorityQueue" (4 : Nat)) ∈ lw_all := lw_g (lw_at lw_m1 68 rfl) rfl
theorem q162 : (Jvm.Cond.instanceMethod ({ cls := "java/util/PriorityQueue", name := "<init>", desc := "()V" } : Jvm.MethodName)) ∈ lw_all := lw_g (lw_at lw_m1 70 rfl) rfl
theorem q163 : (Jvm.Cond.code ({ cls := "java/util/PriorityQueue", name := "<init>", desc := "()V" } : Jvm.MethodName) prog_53_method_1_code (1 : Nat) (Option.none : Option Jvm.ClassFile.FieldType)) ∈ lw_all := lw_g (lw_at lw_m1 71 rfl) rfl
theorem q164 : (Jvm.Cond.methodLink "java/util/PriorityQueue" (3 : Nat) ({ cls := "java/util/PriorityQueue", name := "<init>", desc := "(ILjava/util/Comparator;)V" } : Jvm.MethodName)) ∈ lw_all := lw_g (lw_at lw_m1 72 rfl) rfl
theorem q165 : (Jvm.Cond.instanceMethod ({ cls := "java/util/PriorityQueue", name := "<init>", desc := "(ILjava/util/Comparator;)V" } : Jvm.MethodName)) ∈ lw_all := lw_g (lw_at lw_m1 73 rfl) rfl
theorem q166 : (Jvm.Cond.code ({ cls := "java/util/PriorityQueue", name := "<init>", desc := "(ILjava/util/Comparator;)V" } : Jvm.MethodName) prog_53_method_4_code (3 : Nat) (Option.none : Option Jvm.ClassFile.FieldType)) ∈ lw_all := lw_g (lw_at lw_m1 74 rfl) rfl
theorem q167 : (Jvm.Cond.methodLink "java/util/PriorityQueue" (7 : Nat) ({ cls := "java/util/AbstractQueue", name := "<init>", desc := "()V" } : Jvm.MethodName)) ∈ lw_all := lw_g (lw_at lw_m1 75 rfl) rfl
theorem q174 : (Jvm.Cond.classLink "java/util/PriorityQueue" (12 : Nat) "java/lang/IllegalArgumentException") ∈ lw_all := lw_g (lw_at lw_m1 82 rfl) rfl
theorem q217 : (Jvm.Cond.methodLink "java/util/PriorityQueue" (14 : Nat) ({ cls := "java/lang/IllegalArgumentException", name := "<init>", desc := "()V" } : Jvm.MethodName)) ∈ lw_all := lw_g (lw_at lw_m1 125 rfl) rfl
theorem q240 : (Jvm.Cond.classLink "java/util/PriorityQueue" (15 : Nat) "java/lang/Object") ∈ lw_all := lw_g (lw_at lw_m1 148 rfl) rfl
theorem q242 : (Jvm.Cond.fieldLink "java/util/PriorityQueue" (17 : Nat) "java/util/PriorityQueue" "queue" "[Ljava/lang/Object;") ∈ lw_all := lw_g (lw_at lw_m1 150 rfl) rfl
theorem q243 : (Jvm.Cond.fieldLink "java/util/PriorityQueue" (58 : Nat) "java/util/PriorityQueue" "size" "I") ∈ lw_all := lw_g (lw_at lw_m1 151 rfl) rfl
theorem q244 : (Jvm.Cond.fieldLink "java/util/PriorityQueue" (21 : Nat) "java/util/PriorityQueue" "comparator" "Ljava/util/Comparator;") ∈ lw_all := lw_g (lw_at lw_m1 152 rfl) rfl
theorem q245 : (Jvm.Cond.fieldLink "java/util/PriorityQueue" (93 : Nat) "java/util/PriorityQueue" "modCount" "I") ∈ lw_all := lw_g (lw_at lw_m1 153 rfl) rfl
theorem q246 : (Jvm.Cond.lays "java/util/PriorityQueue" "java/util/PriorityQueue" "queue" "[Ljava/lang/Object;") ∈ lw_all := lw_g (lw_at lw_m1 154 rfl) rfl
theorem q247 : (Jvm.Cond.soleField "java/util/PriorityQueue" "queue") ∈ lw_all := lw_g (lw_at lw_m1 155 rfl) rfl
theorem q248 : (Jvm.Cond.lays "java/util/PriorityQueue" "java/util/PriorityQueue" "size" "I") ∈ lw_all := lw_g (lw_at lw_m1 156 rfl) rfl
theorem q249 : (Jvm.Cond.soleField "java/util/PriorityQueue" "size") ∈ lw_all := lw_g (lw_at lw_m1 157 rfl) rfl
theorem q250 : (Jvm.Cond.laysFinal "java/util/PriorityQueue" "java/util/PriorityQueue" "comparator" "Ljava/util/Comparator;") ∈ lw_all := lw_g (lw_at lw_m1 158 rfl) rfl
theorem q251 : (Jvm.Cond.soleField "java/util/PriorityQueue" "comparator") ∈ lw_all := lw_g (lw_at lw_m1 159 rfl) rfl
theorem q252 : (Jvm.Cond.lays "java/util/PriorityQueue" "java/util/PriorityQueue" "modCount" "I") ∈ lw_all := lw_g (lw_at lw_m1 160 rfl) rfl
theorem q253 : (Jvm.Cond.soleField "java/util/PriorityQueue" "modCount") ∈ lw_all := lw_g (lw_at lw_m1 161 rfl) rfl
theorem q254 : (Jvm.Cond.superclass "java/util/PriorityQueue" "java/util/AbstractQueue") ∈ lw_all := lw_g (lw_at lw_m1 162 rfl) rfl
theorem q1523 : (Jvm.Cond.instanceMethod ({ cls := "java/util/PriorityQueue", name := "clear", desc := "()V" } : Jvm.MethodName)) ∈ lw_all := lw_g (lw_at lw_m6 231 rfl) rfl
theorem q1524 : (Jvm.Cond.selects "java/util/PriorityQueue" ({ cls := "java/util/PriorityQueue", name := "clear", desc := "()V" } : Jvm.MethodName) ({ cls := "java/util/PriorityQueue", name := "clear", desc := "()V" } : Jvm.MethodName)) ∈ lw_all := lw_g (lw_at lw_m6 232 rfl) rfl
theorem q1525 : (Jvm.Cond.code ({ cls := "java/util/PriorityQueue", name := "clear", desc := "()V" } : Jvm.MethodName) prog_53_method_24_code (4 : Nat) (Option.none : Option Jvm.ClassFile.FieldType)) ∈ lw_all := lw_g (lw_at lw_m6 233 rfl) rfl
theorem q1531 : (Jvm.Cond.instanceMethod ({ cls := "java/util/PriorityQueue", name := "add", desc := "(Ljava/lang/Object;)Z" } : Jvm.MethodName)) ∈ lw_all := lw_g (lw_at lw_m6 239 rfl) rfl
theorem q1532 : (Jvm.Cond.selects "java/util/PriorityQueue" ({ cls := "java/util/PriorityQueue", name := "add", desc := "(Ljava/lang/Object;)Z" } : Jvm.MethodName) ({ cls := "java/util/PriorityQueue", name := "add", desc := "(Ljava/lang/Object;)Z" } : Jvm.MethodName)) ∈ lw_all := lw_g (lw_at lw_m7 0 rfl) rfl
theorem q1533 : (Jvm.Cond.code ({ cls := "java/util/PriorityQueue", name := "add", desc := "(Ljava/lang/Object;)Z" } : Jvm.MethodName) prog_53_method_13_code (2 : Nat) (Option.some Jvm.ClassFile.FieldType.boolean)) ∈ lw_all := lw_g (lw_at lw_m7 1 rfl) rfl
theorem q1534 : (Jvm.Cond.methodLink "java/util/PriorityQueue" (89 : Nat) ({ cls := "java/util/PriorityQueue", name := "offer", desc := "(Ljava/lang/Object;)Z" } : Jvm.MethodName)) ∈ lw_all := lw_g (lw_at lw_m7 2 rfl) rfl
theorem q1535 : (Jvm.Cond.instanceMethod ({ cls := "java/util/PriorityQueue", name := "offer", desc := "(Ljava/lang/Object;)Z" } : Jvm.MethodName)) ∈ lw_all := lw_g (lw_at lw_m7 3 rfl) rfl
theorem q1536 : (Jvm.Cond.selects "java/util/PriorityQueue" ({ cls := "java/util/PriorityQueue", name := "offer", desc := "(Ljava/lang/Object;)Z" } : Jvm.MethodName) ({ cls := "java/util/PriorityQueue", name := "offer", desc := "(Ljava/lang/Object;)Z" } : Jvm.MethodName)) ∈ lw_all := lw_g (lw_at lw_m7 4 rfl) rfl
theorem q1537 : (Jvm.Cond.code ({ cls := "java/util/PriorityQueue", name := "offer", desc := "(Ljava/lang/Object;)Z" } : Jvm.MethodName) prog_53_method_14_code (3 : Nat) (Option.some Jvm.ClassFile.FieldType.boolean)) ∈ lw_all := lw_g (lw_at lw_m7 5 rfl) rfl
theorem q1538 : (Jvm.Cond.methodLink "java/util/PriorityQueue" (96 : Nat) ({ cls := "java/util/PriorityQueue", name := "grow", desc := "(I)V" } : Jvm.MethodName)) ∈ lw_all := lw_g (lw_at lw_m7 6 rfl) rfl
theorem q1539 : (Jvm.Cond.privateMethod ({ cls := "java/util/PriorityQueue", name := "grow", desc := "(I)V" } : Jvm.MethodName)) ∈ lw_tbl := lw_at lw_m7 7 rfl
theorem q1540 : (Jvm.Cond.instanceMethod ({ cls := "java/util/PriorityQueue", name := "grow", desc := "(I)V" } : Jvm.MethodName)) ∈ lw_all := lw_g (lw_at lw_m7 8 rfl) rfl
theorem q1541 : (Jvm.Cond.code ({ cls := "java/util/PriorityQueue", name := "grow", desc := "(I)V" } : Jvm.MethodName) prog_53_method_12_code (4 : Nat) (Option.none : Option Jvm.ClassFile.FieldType)) ∈ lw_all := lw_g (lw_at lw_m7 9 rfl) rfl
theorem q1542 : (Jvm.Cond.methodLink "java/util/PriorityQueue" (80 : Nat) ({ cls := "jdk/internal/util/ArraysSupport", name := "newLength", desc := "(III)I" } : Jvm.MethodName)) ∈ lw_all := lw_g (lw_at lw_m7 10 rfl) rfl
theorem q1543 : (Jvm.Cond.methodLink "java/util/PriorityQueue" (86 : Nat) ({ cls := "java/util/Arrays", name := "copyOf", desc := "([Ljava/lang/Object;I)[Ljava/lang/Object;" } : Jvm.MethodName)) ∈ lw_all := lw_g (lw_at lw_m7 11 rfl) rfl
theorem q1565 : (Jvm.Cond.selects "java/util/PriorityQueue" ({ cls := "java/lang/Object", name := "getClass", desc := "()Ljava/lang/Class;" } : Jvm.MethodName) ({ cls := "java/lang/Object", name := "getClass", desc := "()Ljava/lang/Class;" } : Jvm.MethodName)) ∈ lw_all := lw_g (lw_at lw_m7 33 rfl) rfl
theorem q1580 : (Jvm.Cond.methodLink "java/util/PriorityQueue" (100 : Nat) ({ cls := "java/util/PriorityQueue", name := "siftUp", desc := "(ILjava/lang/Object;)V" } : Jvm.MethodName)) ∈ lw_all := lw_g (lw_at lw_m7 48 rfl) rfl
theorem q1581 : (Jvm.Cond.privateMethod ({ cls := "java/util/PriorityQueue", name := "siftUp", desc := "(ILjava/lang/Object;)V" } : Jvm.MethodName)) ∈ lw_tbl := lw_at lw_m7 49 rfl
theorem q1582 : (Jvm.Cond.instanceMethod ({ cls := "java/util/PriorityQueue", name := "siftUp", desc := "(ILjava/lang/Object;)V" } : Jvm.MethodName)) ∈ lw_all := lw_g (lw_at lw_m7 50 rfl) rfl
theorem q1583 : (Jvm.Cond.code ({ cls := "java/util/PriorityQueue", name := "siftUp", desc := "(ILjava/lang/Object;)V" } : Jvm.MethodName) prog_53_method_27_code (3 : Nat) (Option.none : Option Jvm.ClassFile.FieldType)) ∈ lw_all := lw_g (lw_at lw_m7 51 rfl) rfl
theorem q1584 : (Jvm.Cond.methodLink "java/util/PriorityQueue" (136 : Nat) ({ cls := "java/util/PriorityQueue", name := "siftUpUsingComparator", desc := "(ILjava/lang/Object;[Ljava/lang/Object;Ljava/util/Comparator;)V" } : Jvm.MethodName)) ∈ lw_all := lw_g (lw_at lw_m7 52 rfl) rfl
theorem q1585 : (Jvm.Cond.static ({ cls := "java/util/PriorityQueue", name := "siftUpUsingComparator", desc := "(ILjava/lang/Object;[Ljava/lang/Object;Ljava/util/Comparator;)V" } : Jvm.MethodName)) ∈ lw_all := lw_g (lw_at lw_m7 53 rfl) rfl
theorem q1586 : (Jvm.Cond.code ({ cls := "java/util/PriorityQueue", name := "siftUpUsingComparator", desc := "(ILjava/lang/Object;[Ljava/lang/Object;Ljava/util/Comparator;)V" } : Jvm.MethodName) prog_53_method_29_code (6 : Nat) (Option.none : Option Jvm.ClassFile.FieldType)) ∈ lw_all := lw_g (lw_at lw_m7 54 rfl) rfl
theorem q1587 : (Jvm.Cond.interfaceEntry "java/util/PriorityQueue" (149 : Nat)) ∈ lw_tbl := lw_at lw_m7 55 rfl
theorem q1588 : (Jvm.Cond.methodLink "java/util/PriorityQueue" (149 : Nat) ({ cls := "java/util/Comparator", name := "compare", desc := "(Ljava/lang/Object;Ljava/lang/Object;)I" } : Jvm.MethodName)) ∈ lw_all := lw_g (lw_at lw_m7 56 rfl) rfl
theorem q1589 : (Jvm.Cond.methodLink "java/util/PriorityQueue" (140 : Nat) ({ cls := "java/util/PriorityQueue", name := "siftUpComparable", desc := "(ILjava/lang/Object;[Ljava/lang/Object;)V" } : Jvm.MethodName)) ∈ lw_all := lw_g (lw_at lw_m7 57 rfl) rfl
theorem q1590 : (Jvm.Cond.static ({ cls := "java/util/PriorityQueue", name := "siftUpComparable", desc := "(ILjava/lang/Object;[Ljava/lang/Object;)V" } : Jvm.MethodName)) ∈ lw_all := lw_g (lw_at lw_m7 58 rfl) rfl
theorem q1591 : (Jvm.Cond.code ({ cls := "java/util/PriorityQueue", name := "siftUpComparable", desc := "(ILjava/lang/Object;[Ljava/lang/Object;)V" } : Jvm.MethodName) prog_53_method_28_code (6 : Nat) (Option.none : Option Jvm.ClassFile.FieldType)) ∈ lw_all := lw_g (lw_at lw_m7 59 rfl) rfl
theorem q1592 : (Jvm.Cond.classLink "java/util/PriorityQueue" (144 : Nat) "java/lang/Comparable") ∈ lw_all := lw_g (lw_at lw_m7 60 rfl) rfl
theorem q1593 : (Jvm.Cond.interfaceEntry "java/util/PriorityQueue" (146 : Nat)) ∈ lw_tbl := lw_at lw_m7 61 rfl
theorem q1594 : (Jvm.Cond.methodLink "java/util/PriorityQueue" (146 : Nat) ({ cls := "java/lang/Comparable", name := "compareTo", desc := "(Ljava/lang/Object;)I" } : Jvm.MethodName)) ∈ lw_all := lw_g (lw_at lw_m7 62 rfl) rfl
theorem q1596 : (Jvm.Cond.sameMethod "java/util/PriorityQueue" "java/util/AbstractCollection" "isEmpty" "()Z") ∈ lw_all := lw_g (lw_at lw_m7 64 rfl) rfl
theorem q1598 : (Jvm.Cond.selects "java/util/PriorityQueue" ({ cls := "java/util/PriorityQueue", name := "isEmpty", desc := "()Z" } : Jvm.MethodName) ({ cls := "java/util/AbstractCollection", name := "isEmpty", desc := "()Z" } : Jvm.MethodName)) ∈ lw_all := lw_g (lw_at lw_m7 66 rfl) rfl
theorem q1605 : (Jvm.Cond.selects "java/util/PriorityQueue" ({ cls := "java/util/AbstractCollection", name := "size", desc := "()I" } : Jvm.MethodName) ({ cls := "java/util/PriorityQueue", name := "size", desc := "()I" } : Jvm.MethodName)) ∈ lw_all := lw_g (lw_at lw_m7 73 rfl) rfl
theorem q1606 : (Jvm.Cond.instanceMethod ({ cls := "java/util/PriorityQueue", name := "size", desc := "()I" } : Jvm.MethodName)) ∈ lw_all := lw_g (lw_at lw_m7 74 rfl) rfl
theorem q1607 : (Jvm.Cond.code ({ cls := "java/util/PriorityQueue", name := "size", desc := "()I" } : Jvm.MethodName) prog_53_method_23_code (1 : Nat) (Option.some Jvm.ClassFile.FieldType.int)) ∈ lw_all := lw_g (lw_at lw_m7 75 rfl) rfl
theorem q1618 : (Jvm.Cond.instanceMethod ({ cls := "java/util/PriorityQueue", name := "poll", desc := "()Ljava/lang/Object;" } : Jvm.MethodName)) ∈ lw_all := lw_g (lw_at lw_m7 86 rfl) rfl
theorem q1619 : (Jvm.Cond.selects "java/util/PriorityQueue" ({ cls := "java/util/PriorityQueue", name := "poll", desc := "()Ljava/lang/Object;" } : Jvm.MethodName) ({ cls := "java/util/PriorityQueue", name := "poll", desc := "()Ljava/lang/Object;" } : Jvm.MethodName)) ∈ lw_all := lw_g (lw_at lw_m7 87 rfl) rfl
theorem q1620 : (Jvm.Cond.code ({ cls := "java/util/PriorityQueue", name := "poll", desc := "()Ljava/lang/Object;" } : Jvm.MethodName) prog_53_method_25_code (6 : Nat) (Option.some (Jvm.ClassFile.FieldType.object "java/lang/Object"))) ∈ lw_all := lw_g (lw_at lw_m7 88 rfl) rfl
theorem q1621 : (Jvm.Cond.methodLink "java/util/PriorityQueue" (125 : Nat) ({ cls := "java/util/PriorityQueue", name := "siftDownComparable", desc := "(ILjava/lang/Object;[Ljava/lang/Object;I)V" } : Jvm.MethodName)) ∈ lw_all := lw_g (lw_at lw_m7 89 rfl) rfl
theorem q1622 : (Jvm.Cond.static ({ cls := "java/util/PriorityQueue", name := "siftDownComparable", desc := "(ILjava/lang/Object;[Ljava/lang/Object;I)V" } : Jvm.MethodName)) ∈ lw_all := lw_g (lw_at lw_m7 90 rfl) rfl
theorem q1623 : (Jvm.Cond.code ({ cls := "java/util/PriorityQueue", name := "siftDownComparable", desc := "(ILjava/lang/Object;[Ljava/lang/Object;I)V" } : Jvm.MethodName) prog_53_method_31_code (9 : Nat) (Option.none : Option Jvm.ClassFile.FieldType)) ∈ lw_all := lw_g (lw_at lw_m7 91 rfl) rfl
theorem q1624 : (Jvm.Cond.methodLink "java/util/PriorityQueue" (129 : Nat) ({ cls := "java/util/PriorityQueue", name := "siftDownUsingComparator", desc := "(ILjava/lang/Object;[Ljava/lang/Object;ILjava/util/Comparator;)V" } : Jvm.MethodName)) ∈ lw_all := lw_g (lw_at lw_m7 92 rfl) rfl
theorem q1625 : (Jvm.Cond.static ({ cls := "java/util/PriorityQueue", name := "siftDownUsingComparator", desc := "(ILjava/lang/Object;[Ljava/lang/Object;ILjava/util/Comparator;)V" } : Jvm.MethodName)) ∈ lw_all := lw_g (lw_at lw_m7 93 rfl) rfl
theorem q1626 : (Jvm.Cond.code ({ cls := "java/util/PriorityQueue", name := "siftDownUsingComparator", desc := "(ILjava/lang/Object;[Ljava/lang/Object;ILjava/util/Comparator;)V" } : Jvm.MethodName) prog_53_method_32_code (9 : Nat) (Option.none : Option Jvm.ClassFile.FieldType)) ∈ lw_all := lw_g (lw_at lw_m7 94 rfl) rfl
theorem q2536 : (Jvm.Cond.castable "java/util/PriorityQueue" "java/lang/Object") ∈ lw_tbl := lw_at lw_m11 44 rfl
theorem in_J2 : ∀ w ∈ wsJ20, w ∈ lw_all := lw_in wsJ20 [246, 248, 250, 252] (by decide +kernel) (by decide +kernel)
/-! java/lang/Throwable -/
set_option maxRecDepth 100000
def RJ3 : String := "java/lang/Throwable"
def TJ3 : u_T := fun k => match k with
  | 0 => ("java/lang/Throwable", "cause", "Ljava/lang/Throwable;", false)
  | 1 => ("java/lang/Throwable", "stackTrace", "[Ljava/lang/StackTraceElement;", false)
  | 2 => ("java/lang/Throwable", "suppressedExceptions", "Ljava/util/List;", false)
  | 3 => ("java/lang/Throwable", "detailMessage", "Ljava/lang/String;", false)
  | _ => ("java/lang/Throwable", "backtrace", "Ljava/lang/Object;", false)
def tyJ3 : Nat → FieldType := fun k => match k with
  | 0 => .object "java/lang/Throwable"
  | 1 => .array (.object "java/lang/StackTraceElement")
  | 2 => .object "java/util/List"
  | 3 => .object "java/lang/String"
  | _ => .object "java/lang/Object"
abbrev wsJ30 : List Cond := u_ws RJ3 TJ3 5
theorem nmJ3 : ∀ a, a < 5 → ∀ b, b < 5 → a ≠ b → (TJ3 a).2.1 ≠ (TJ3 b).2.1 := by decide +kernel
theorem tyJ3_ok : ∀ k, k < 5 → parseFieldDescriptor (TJ3 k).2.2.1 = some (tyJ3 k) := by decide +kernel
abbrev cJ3_init : ByteArray := prog_34_method_1_code
def yJ3_init : MethodName := ⟨RJ3, "<init>", "()V"⟩
def dkwJ3_init_1 : List UInt8 := [182, 0, 27, 87, 177]
abbrev dktJ3_init_1 : List UInt8 := dkwJ3_init_1 ++ []
def dkwJ3_init_0 : List UInt8 := [42, 183, 0, 1, 42, 42, 181, 0, 7, 42, 178, 0, 13, 181, 0, 17, 42, 178, 0, 20, 181, 0, 24, 42]
abbrev dktJ3_init_0 : List UInt8 := dkwJ3_init_0 ++ dktJ3_init_1
theorem dksJ3_init_0 : cJ3_init.data.toList.drop 0 = dktJ3_init_0 := by decide +kernel
theorem dksJ3_init_1 : cJ3_init.data.toList.drop 24 = dktJ3_init_1 := dk_seg dksJ3_init_0 24 rfl rfl
theorem dJ3_init_0 : decode cJ3_init 0 = .ok (.aload_n 0, 1) := dk_42 (dk_at dksJ3_init_0 0 rfl rfl)
theorem dJ3_init_1 : decode cJ3_init 1 = .ok (.invokespecial 1, 3) := dk_183 0 1 (dk_at dksJ3_init_0 1 rfl rfl)
theorem dJ3_init_4 : decode cJ3_init 4 = .ok (.aload_n 0, 1) := dk_42 (dk_at dksJ3_init_0 4 rfl rfl)
theorem dJ3_init_5 : decode cJ3_init 5 = .ok (.aload_n 0, 1) := dk_42 (dk_at dksJ3_init_0 5 rfl rfl)
theorem dJ3_init_6 : decode cJ3_init 6 = .ok (.putfield 7, 3) := dk_181 0 7 (dk_at dksJ3_init_0 6 rfl rfl)
theorem dJ3_init_9 : decode cJ3_init 9 = .ok (.aload_n 0, 1) := dk_42 (dk_at dksJ3_init_0 9 rfl rfl)
theorem dJ3_init_10 : decode cJ3_init 10 = .ok (.getstatic 13, 3) := dk_178 0 13 (dk_at dksJ3_init_0 10 rfl rfl)
theorem dJ3_init_13 : decode cJ3_init 13 = .ok (.putfield 17, 3) := dk_181 0 17 (dk_at dksJ3_init_0 13 rfl rfl)
theorem dJ3_init_16 : decode cJ3_init 16 = .ok (.aload_n 0, 1) := dk_42 (dk_at dksJ3_init_0 16 rfl rfl)
theorem dJ3_init_17 : decode cJ3_init 17 = .ok (.getstatic 20, 3) := dk_178 0 20 (dk_at dksJ3_init_0 17 rfl rfl)
theorem dJ3_init_20 : decode cJ3_init 20 = .ok (.putfield 24, 3) := dk_181 0 24 (dk_at dksJ3_init_0 20 rfl rfl)
theorem dJ3_init_23 : decode cJ3_init 23 = .ok (.aload_n 0, 1) := dk_42 (dk_at dksJ3_init_0 23 rfl rfl)
theorem dJ3_init_24 : decode cJ3_init 24 = .ok (.invokevirtual 27, 3) := dk_182 0 27 (dk_at dksJ3_init_1 0 rfl rfl)
theorem dJ3_init_27 : decode cJ3_init 27 = .ok (.pop, 1) := dk_87 (dk_at dksJ3_init_1 3 rfl rfl)
theorem dJ3_init_28 : decode cJ3_init 28 = .ok (.return_, 1) := dk_177 (dk_at dksJ3_init_1 4 rfl rfl)
abbrev cJ3_init_2 : ByteArray := prog_34_method_2_code
def yJ3_init_2 : MethodName := ⟨RJ3, "<init>", "(Ljava/lang/String;)V"⟩
def dkwJ3_init_2_1 : List UInt8 := [182, 0, 27, 87, 42, 43, 181, 0, 31, 177]
abbrev dktJ3_init_2_1 : List UInt8 := dkwJ3_init_2_1 ++ []
def dkwJ3_init_2_0 : List UInt8 := [42, 183, 0, 1, 42, 42, 181, 0, 7, 42, 178, 0, 13, 181, 0, 17, 42, 178, 0, 20, 181, 0, 24, 42]
abbrev dktJ3_init_2_0 : List UInt8 := dkwJ3_init_2_0 ++ dktJ3_init_2_1
theorem dksJ3_init_2_0 : cJ3_init_2.data.toList.drop 0 = dktJ3_init_2_0 := by decide +kernel
theorem dksJ3_init_2_1 : cJ3_init_2.data.toList.drop 24 = dktJ3_init_2_1 := dk_seg dksJ3_init_2_0 24 rfl rfl
theorem dJ3_init_2_0 : decode cJ3_init_2 0 = .ok (.aload_n 0, 1) := dk_42 (dk_at dksJ3_init_2_0 0 rfl rfl)
theorem dJ3_init_2_1 : decode cJ3_init_2 1 = .ok (.invokespecial 1, 3) := dk_183 0 1 (dk_at dksJ3_init_2_0 1 rfl rfl)
theorem dJ3_init_2_4 : decode cJ3_init_2 4 = .ok (.aload_n 0, 1) := dk_42 (dk_at dksJ3_init_2_0 4 rfl rfl)
theorem dJ3_init_2_5 : decode cJ3_init_2 5 = .ok (.aload_n 0, 1) := dk_42 (dk_at dksJ3_init_2_0 5 rfl rfl)
theorem dJ3_init_2_6 : decode cJ3_init_2 6 = .ok (.putfield 7, 3) := dk_181 0 7 (dk_at dksJ3_init_2_0 6 rfl rfl)
theorem dJ3_init_2_9 : decode cJ3_init_2 9 = .ok (.aload_n 0, 1) := dk_42 (dk_at dksJ3_init_2_0 9 rfl rfl)
theorem dJ3_init_2_10 : decode cJ3_init_2 10 = .ok (.getstatic 13, 3) := dk_178 0 13 (dk_at dksJ3_init_2_0 10 rfl rfl)
theorem dJ3_init_2_13 : decode cJ3_init_2 13 = .ok (.putfield 17, 3) := dk_181 0 17 (dk_at dksJ3_init_2_0 13 rfl rfl)
theorem dJ3_init_2_16 : decode cJ3_init_2 16 = .ok (.aload_n 0, 1) := dk_42 (dk_at dksJ3_init_2_0 16 rfl rfl)
theorem dJ3_init_2_17 : decode cJ3_init_2 17 = .ok (.getstatic 20, 3) := dk_178 0 20 (dk_at dksJ3_init_2_0 17 rfl rfl)
theorem dJ3_init_2_20 : decode cJ3_init_2 20 = .ok (.putfield 24, 3) := dk_181 0 24 (dk_at dksJ3_init_2_0 20 rfl rfl)
theorem dJ3_init_2_23 : decode cJ3_init_2 23 = .ok (.aload_n 0, 1) := dk_42 (dk_at dksJ3_init_2_0 23 rfl rfl)
theorem dJ3_init_2_24 : decode cJ3_init_2 24 = .ok (.invokevirtual 27, 3) := dk_182 0 27 (dk_at dksJ3_init_2_1 0 rfl rfl)
theorem dJ3_init_2_27 : decode cJ3_init_2 27 = .ok (.pop, 1) := dk_87 (dk_at dksJ3_init_2_1 3 rfl rfl)
theorem dJ3_init_2_28 : decode cJ3_init_2 28 = .ok (.aload_n 0, 1) := dk_42 (dk_at dksJ3_init_2_1 4 rfl rfl)
theorem dJ3_init_2_29 : decode cJ3_init_2 29 = .ok (.aload_n 1, 1) := dk_43 (dk_at dksJ3_init_2_1 5 rfl rfl)
theorem dJ3_init_2_30 : decode cJ3_init_2 30 = .ok (.putfield 31, 3) := dk_181 0 31 (dk_at dksJ3_init_2_1 6 rfl rfl)
theorem dJ3_init_2_33 : decode cJ3_init_2 33 = .ok (.return_, 1) := dk_177 (dk_at dksJ3_init_2_1 9 rfl rfl)
theorem q98 : (Jvm.Cond.initialized "java/lang/Throwable") ∈ lw_all := lw_g (lw_at lw_m1 6 rfl) rfl
theorem q181 : (Jvm.Cond.declares ({ cls := "java/lang/Throwable", name := "<init>", desc := "()V" } : Jvm.MethodName)) ∈ lw_tbl := lw_at lw_m1 89 rfl
theorem q182 : (Jvm.Cond.declares ({ cls := "java/lang/Throwable", name := "<init>", desc := "(Ljava/lang/String;)V" } : Jvm.MethodName)) ∈ lw_tbl := lw_at lw_m1 90 rfl
theorem q186 : (Jvm.Cond.lays "java/lang/Throwable" "java/lang/Throwable" "cause" "Ljava/lang/Throwable;") ∈ lw_all := lw_g (lw_at lw_m1 94 rfl) rfl
theorem q188 : (Jvm.Cond.lays "java/lang/Throwable" "java/lang/Throwable" "stackTrace" "[Ljava/lang/StackTraceElement;") ∈ lw_all := lw_g (lw_at lw_m1 96 rfl) rfl
theorem q190 : (Jvm.Cond.lays "java/lang/Throwable" "java/lang/Throwable" "suppressedExceptions" "Ljava/util/List;") ∈ lw_all := lw_g (lw_at lw_m1 98 rfl) rfl
theorem q192 : (Jvm.Cond.lays "java/lang/Throwable" "java/lang/Throwable" "detailMessage" "Ljava/lang/String;") ∈ lw_all := lw_g (lw_at lw_m1 100 rfl) rfl
theorem q194 : (Jvm.Cond.lays "java/lang/Throwable" "java/lang/Throwable" "backtrace" "Ljava/lang/Object;") ∈ lw_all := lw_g (lw_at lw_m1 102 rfl) rfl
theorem q195 : (Jvm.Cond.fieldLink "java/lang/Throwable" (198 : Nat) "java/lang/Throwable" "backtrace" "Ljava/lang/Object;") ∈ lw_all := lw_g (lw_at lw_m1 103 rfl) rfl
theorem q196 : (Jvm.Cond.superclass "java/lang/Throwable" "java/lang/Object") ∈ lw_all := lw_g (lw_at lw_m1 104 rfl) rfl
theorem q197 : (Jvm.Cond.instanceMethod ({ cls := "java/lang/Throwable", name := "<init>", desc := "()V" } : Jvm.MethodName)) ∈ lw_all := lw_g (lw_at lw_m1 105 rfl) rfl
theorem q198 : (Jvm.Cond.code ({ cls := "java/lang/Throwable", name := "<init>", desc := "()V" } : Jvm.MethodName) prog_34_method_1_code (1 : Nat) (Option.none : Option Jvm.ClassFile.FieldType)) ∈ lw_all := lw_g (lw_at lw_m1 106 rfl) rfl
theorem q199 : (Jvm.Cond.methodLink "java/lang/Throwable" (1 : Nat) ({ cls := "java/lang/Object", name := "<init>", desc := "()V" } : Jvm.MethodName)) ∈ lw_all := lw_g (lw_at lw_m1 107 rfl) rfl
theorem q200 : (Jvm.Cond.fieldLink "java/lang/Throwable" (13 : Nat) "java/lang/Throwable" "UNASSIGNED_STACK" "[Ljava/lang/StackTraceElement;") ∈ lw_all := lw_g (lw_at lw_m1 108 rfl) rfl
theorem q201 : (Jvm.Cond.laysStatic "java/lang/Throwable" "UNASSIGNED_STACK" "[Ljava/lang/StackTraceElement;") ∈ lw_tbl := lw_at lw_m1 109 rfl
theorem q202 : (Jvm.Cond.fieldLink "java/lang/Throwable" (20 : Nat) "java/lang/Throwable" "SUPPRESSED_SENTINEL" "Ljava/util/List;") ∈ lw_all := lw_g (lw_at lw_m1 110 rfl) rfl
theorem q203 : (Jvm.Cond.laysStatic "java/lang/Throwable" "SUPPRESSED_SENTINEL" "Ljava/util/List;") ∈ lw_tbl := lw_at lw_m1 111 rfl
theorem q204 : (Jvm.Cond.methodLink "java/lang/Throwable" (27 : Nat) ({ cls := "java/lang/Throwable", name := "fillInStackTrace", desc := "()Ljava/lang/Throwable;" } : Jvm.MethodName)) ∈ lw_all := lw_g (lw_at lw_m1 112 rfl) rfl
theorem q205 : (Jvm.Cond.instanceMethod ({ cls := "java/lang/Throwable", name := "fillInStackTrace", desc := "()Ljava/lang/Throwable;" } : Jvm.MethodName)) ∈ lw_all := lw_g (lw_at lw_m1 113 rfl) rfl
theorem q206 : (Jvm.Cond.sameMethod "java/lang/Throwable" "java/lang/Throwable" "fillInStackTrace" "()Ljava/lang/Throwable;") ∈ lw_all := lw_g (lw_at lw_m1 114 rfl) rfl
theorem q211 : (Jvm.Cond.codeSync ({ cls := "java/lang/Throwable", name := "fillInStackTrace", desc := "()Ljava/lang/Throwable;" } : Jvm.MethodName) prog_34_method_18_code (1 : Nat) (Option.some (Jvm.ClassFile.FieldType.object "java/lang/Throwable"))) ∈ lw_all := lw_g (lw_at lw_m1 119 rfl) rfl
theorem q212 : (Jvm.Cond.methodLink "java/lang/Throwable" (202 : Nat) ({ cls := "java/lang/Throwable", name := "fillInStackTrace", desc := "(I)Ljava/lang/Throwable;" } : Jvm.MethodName)) ∈ lw_all := lw_g (lw_at lw_m1 120 rfl) rfl
theorem q213 : (Jvm.Cond.privateMethod ({ cls := "java/lang/Throwable", name := "fillInStackTrace", desc := "(I)Ljava/lang/Throwable;" } : Jvm.MethodName)) ∈ lw_tbl := lw_at lw_m1 121 rfl
theorem q214 : (Jvm.Cond.instanceMethod ({ cls := "java/lang/Throwable", name := "fillInStackTrace", desc := "(I)Ljava/lang/Throwable;" } : Jvm.MethodName)) ∈ lw_all := lw_g (lw_at lw_m1 122 rfl) rfl
theorem q215 : (Jvm.Cond.instantiable "java/lang/Throwable" (6 : Nat)) ∈ lw_all := lw_g (lw_at lw_m1 123 rfl) rfl
theorem q216 : (Jvm.Cond.native ({ cls := "java/lang/Throwable", name := "fillInStackTrace", desc := "(I)Ljava/lang/Throwable;" } : Jvm.MethodName)) ∈ lw_all := lw_g (lw_at lw_m1 124 rfl) rfl
theorem q227 : (Jvm.Cond.fieldLink "java/lang/Throwable" (198 : Nat) "java/lang/Throwable" "backtrace" "Ljava/lang/Object;") ∈ lw_all := lw_g (lw_at lw_m1 135 rfl) rfl
theorem q228 : (Jvm.Cond.fieldLink "java/lang/Throwable" (31 : Nat) "java/lang/Throwable" "detailMessage" "Ljava/lang/String;") ∈ lw_all := lw_g (lw_at lw_m1 136 rfl) rfl
theorem q229 : (Jvm.Cond.fieldLink "java/lang/Throwable" (7 : Nat) "java/lang/Throwable" "cause" "Ljava/lang/Throwable;") ∈ lw_all := lw_g (lw_at lw_m1 137 rfl) rfl
theorem q230 : (Jvm.Cond.fieldLink "java/lang/Throwable" (17 : Nat) "java/lang/Throwable" "stackTrace" "[Ljava/lang/StackTraceElement;") ∈ lw_all := lw_g (lw_at lw_m1 138 rfl) rfl
theorem q231 : (Jvm.Cond.fieldLink "java/lang/Throwable" (24 : Nat) "java/lang/Throwable" "suppressedExceptions" "Ljava/util/List;") ∈ lw_all := lw_g (lw_at lw_m1 139 rfl) rfl
theorem q232 : (Jvm.Cond.soleField "java/lang/Throwable" "backtrace") ∈ lw_all := lw_g (lw_at lw_m1 140 rfl) rfl
theorem q233 : (Jvm.Cond.soleField "java/lang/Throwable" "detailMessage") ∈ lw_all := lw_g (lw_at lw_m1 141 rfl) rfl
theorem q234 : (Jvm.Cond.soleField "java/lang/Throwable" "cause") ∈ lw_all := lw_g (lw_at lw_m1 142 rfl) rfl
theorem q235 : (Jvm.Cond.soleField "java/lang/Throwable" "stackTrace") ∈ lw_all := lw_g (lw_at lw_m1 143 rfl) rfl
theorem q237 : (Jvm.Cond.soleField "java/lang/Throwable" "depth") ∈ lw_all := lw_g (lw_at lw_m1 145 rfl) rfl
theorem q238 : (Jvm.Cond.soleField "java/lang/Throwable" "suppressedExceptions") ∈ lw_all := lw_g (lw_at lw_m1 146 rfl) rfl
theorem q742 : (Jvm.Cond.instanceMethod ({ cls := "java/lang/Throwable", name := "<init>", desc := "(Ljava/lang/String;)V" } : Jvm.MethodName)) ∈ lw_all := lw_g (lw_at lw_m3 170 rfl) rfl
theorem q743 : (Jvm.Cond.code ({ cls := "java/lang/Throwable", name := "<init>", desc := "(Ljava/lang/String;)V" } : Jvm.MethodName) prog_34_method_2_code (2 : Nat) (Option.none : Option Jvm.ClassFile.FieldType)) ∈ lw_all := lw_g (lw_at lw_m3 171 rfl) rfl
theorem q2511 : (Jvm.Cond.sameMethod "java/lang/Throwable" "java/lang/Throwable" "fillInStackTrace" "(I)Ljava/lang/Throwable;") ∈ lw_all := lw_g (lw_at lw_m11 19 rfl) rfl
theorem q2557 : (Jvm.Cond.castable "java/lang/Throwable" "java/lang/Object") ∈ lw_tbl := lw_at lw_m11 65 rfl
theorem in_J3 : ∀ w ∈ wsJ30, w ∈ lw_all := lw_in wsJ30 [186, 188, 190, 192, 194] (by decide +kernel) (by decide +kernel)
/-! java/lang/Exception -/
set_option maxRecDepth 100000
def RJ4 : String := "java/lang/Exception"
abbrev cJ4_init : ByteArray := prog_17_method_1_code
def yJ4_init : MethodName := ⟨RJ4, "<init>", "()V"⟩
theorem dJ4_init_0 : decode cJ4_init 0 = .ok (.aload_n 0, 1) := by decide +kernel
theorem dJ4_init_1 : decode cJ4_init 1 = .ok (.invokespecial 1, 3) := by decide +kernel
theorem dJ4_init_4 : decode cJ4_init 4 = .ok (.return_, 1) := by decide +kernel
abbrev cJ4_init_2 : ByteArray := prog_17_method_2_code
def yJ4_init_2 : MethodName := ⟨RJ4, "<init>", "(Ljava/lang/String;)V"⟩
def dkwJ4_init_2_0 : List UInt8 := [42, 43, 183, 0, 7, 177]
abbrev dktJ4_init_2_0 : List UInt8 := dkwJ4_init_2_0 ++ []
theorem dksJ4_init_2_0 : cJ4_init_2.data.toList.drop 0 = dktJ4_init_2_0 := by decide +kernel
theorem dJ4_init_2_0 : decode cJ4_init_2 0 = .ok (.aload_n 0, 1) := dk_42 (dk_at dksJ4_init_2_0 0 rfl rfl)
theorem dJ4_init_2_1 : decode cJ4_init_2 1 = .ok (.aload_n 1, 1) := dk_43 (dk_at dksJ4_init_2_0 1 rfl rfl)
theorem dJ4_init_2_2 : decode cJ4_init_2 2 = .ok (.invokespecial 7, 3) := dk_183 0 7 (dk_at dksJ4_init_2_0 2 rfl rfl)
theorem dJ4_init_2_5 : decode cJ4_init_2 5 = .ok (.return_, 1) := dk_177 (dk_at dksJ4_init_2_0 5 rfl rfl)
theorem q99 : (Jvm.Cond.initialized "java/lang/Exception") ∈ lw_all := lw_g (lw_at lw_m1 7 rfl) rfl
theorem q179 : (Jvm.Cond.declares ({ cls := "java/lang/Exception", name := "<init>", desc := "()V" } : Jvm.MethodName)) ∈ lw_tbl := lw_at lw_m1 87 rfl
theorem q180 : (Jvm.Cond.declares ({ cls := "java/lang/Exception", name := "<init>", desc := "(Ljava/lang/String;)V" } : Jvm.MethodName)) ∈ lw_tbl := lw_at lw_m1 88 rfl
theorem q224 : (Jvm.Cond.instanceMethod ({ cls := "java/lang/Exception", name := "<init>", desc := "()V" } : Jvm.MethodName)) ∈ lw_all := lw_g (lw_at lw_m1 132 rfl) rfl
theorem q225 : (Jvm.Cond.code ({ cls := "java/lang/Exception", name := "<init>", desc := "()V" } : Jvm.MethodName) prog_17_method_1_code (1 : Nat) (Option.none : Option Jvm.ClassFile.FieldType)) ∈ lw_all := lw_g (lw_at lw_m1 133 rfl) rfl
theorem q226 : (Jvm.Cond.methodLink "java/lang/Exception" (1 : Nat) ({ cls := "java/lang/Throwable", name := "<init>", desc := "()V" } : Jvm.MethodName)) ∈ lw_all := lw_g (lw_at lw_m1 134 rfl) rfl
theorem q739 : (Jvm.Cond.instanceMethod ({ cls := "java/lang/Exception", name := "<init>", desc := "(Ljava/lang/String;)V" } : Jvm.MethodName)) ∈ lw_all := lw_g (lw_at lw_m3 167 rfl) rfl
theorem q740 : (Jvm.Cond.code ({ cls := "java/lang/Exception", name := "<init>", desc := "(Ljava/lang/String;)V" } : Jvm.MethodName) prog_17_method_2_code (2 : Nat) (Option.none : Option Jvm.ClassFile.FieldType)) ∈ lw_all := lw_g (lw_at lw_m3 168 rfl) rfl
theorem q741 : (Jvm.Cond.methodLink "java/lang/Exception" (7 : Nat) ({ cls := "java/lang/Throwable", name := "<init>", desc := "(Ljava/lang/String;)V" } : Jvm.MethodName)) ∈ lw_all := lw_g (lw_at lw_m3 169 rfl) rfl
/-! java/lang/RuntimeException -/
set_option maxRecDepth 100000
def RJ5 : String := "java/lang/RuntimeException"
abbrev cJ5_init : ByteArray := prog_27_method_1_code
def yJ5_init : MethodName := ⟨RJ5, "<init>", "()V"⟩
theorem dJ5_init_0 : decode cJ5_init 0 = .ok (.aload_n 0, 1) := by decide +kernel
theorem dJ5_init_1 : decode cJ5_init 1 = .ok (.invokespecial 1, 3) := by decide +kernel
theorem dJ5_init_4 : decode cJ5_init 4 = .ok (.return_, 1) := by decide +kernel
abbrev cJ5_init_2 : ByteArray := prog_27_method_2_code
def yJ5_init_2 : MethodName := ⟨RJ5, "<init>", "(Ljava/lang/String;)V"⟩
def dkwJ5_init_2_0 : List UInt8 := [42, 43, 183, 0, 7, 177]
abbrev dktJ5_init_2_0 : List UInt8 := dkwJ5_init_2_0 ++ []
theorem dksJ5_init_2_0 : cJ5_init_2.data.toList.drop 0 = dktJ5_init_2_0 := by decide +kernel
theorem dJ5_init_2_0 : decode cJ5_init_2 0 = .ok (.aload_n 0, 1) := dk_42 (dk_at dksJ5_init_2_0 0 rfl rfl)
theorem dJ5_init_2_1 : decode cJ5_init_2 1 = .ok (.aload_n 1, 1) := dk_43 (dk_at dksJ5_init_2_0 1 rfl rfl)
theorem dJ5_init_2_2 : decode cJ5_init_2 2 = .ok (.invokespecial 7, 3) := dk_183 0 7 (dk_at dksJ5_init_2_0 2 rfl rfl)
theorem dJ5_init_2_5 : decode cJ5_init_2 5 = .ok (.return_, 1) := dk_177 (dk_at dksJ5_init_2_0 5 rfl rfl)
theorem q100 : (Jvm.Cond.initialized "java/lang/RuntimeException") ∈ lw_all := lw_g (lw_at lw_m1 8 rfl) rfl
theorem q177 : (Jvm.Cond.declares ({ cls := "java/lang/RuntimeException", name := "<init>", desc := "()V" } : Jvm.MethodName)) ∈ lw_tbl := lw_at lw_m1 85 rfl
theorem q178 : (Jvm.Cond.declares ({ cls := "java/lang/RuntimeException", name := "<init>", desc := "(Ljava/lang/String;)V" } : Jvm.MethodName)) ∈ lw_tbl := lw_at lw_m1 86 rfl
theorem q221 : (Jvm.Cond.instanceMethod ({ cls := "java/lang/RuntimeException", name := "<init>", desc := "()V" } : Jvm.MethodName)) ∈ lw_all := lw_g (lw_at lw_m1 129 rfl) rfl
theorem q222 : (Jvm.Cond.code ({ cls := "java/lang/RuntimeException", name := "<init>", desc := "()V" } : Jvm.MethodName) prog_27_method_1_code (1 : Nat) (Option.none : Option Jvm.ClassFile.FieldType)) ∈ lw_all := lw_g (lw_at lw_m1 130 rfl) rfl
theorem q223 : (Jvm.Cond.methodLink "java/lang/RuntimeException" (1 : Nat) ({ cls := "java/lang/Exception", name := "<init>", desc := "()V" } : Jvm.MethodName)) ∈ lw_all := lw_g (lw_at lw_m1 131 rfl) rfl
theorem q736 : (Jvm.Cond.instanceMethod ({ cls := "java/lang/RuntimeException", name := "<init>", desc := "(Ljava/lang/String;)V" } : Jvm.MethodName)) ∈ lw_all := lw_g (lw_at lw_m3 164 rfl) rfl
theorem q737 : (Jvm.Cond.code ({ cls := "java/lang/RuntimeException", name := "<init>", desc := "(Ljava/lang/String;)V" } : Jvm.MethodName) prog_27_method_2_code (2 : Nat) (Option.none : Option Jvm.ClassFile.FieldType)) ∈ lw_all := lw_g (lw_at lw_m3 165 rfl) rfl
theorem q738 : (Jvm.Cond.methodLink "java/lang/RuntimeException" (7 : Nat) ({ cls := "java/lang/Exception", name := "<init>", desc := "(Ljava/lang/String;)V" } : Jvm.MethodName)) ∈ lw_all := lw_g (lw_at lw_m3 166 rfl) rfl
/-! java/lang/IllegalArgumentException -/
set_option maxRecDepth 100000
def RJ6 : String := "java/lang/IllegalArgumentException"
def TJ6 : u_T := fun k => match k with
  | 0 => ("java/lang/Throwable", "cause", "Ljava/lang/Throwable;", false)
  | 1 => ("java/lang/Throwable", "stackTrace", "[Ljava/lang/StackTraceElement;", false)
  | 2 => ("java/lang/Throwable", "suppressedExceptions", "Ljava/util/List;", false)
  | 3 => ("java/lang/Throwable", "detailMessage", "Ljava/lang/String;", false)
  | 4 => ("java/lang/Throwable", "backtrace", "Ljava/lang/Object;", false)
  | _ => ("java/lang/Throwable", "depth", "I", false)
def tyJ6 : Nat → FieldType := fun k => match k with
  | 0 => .object "java/lang/Throwable"
  | 1 => .array (.object "java/lang/StackTraceElement")
  | 2 => .object "java/util/List"
  | 3 => .object "java/lang/String"
  | 4 => .object "java/lang/Object"
  | _ => .int
abbrev wsJ60 : List Cond := u_ws RJ6 TJ6 6
theorem nmJ6 : ∀ a, a < 6 → ∀ b, b < 6 → a ≠ b → (TJ6 a).2.1 ≠ (TJ6 b).2.1 := by decide +kernel
theorem tyJ6_ok : ∀ k, k < 6 → parseFieldDescriptor (TJ6 k).2.2.1 = some (tyJ6 k) := by decide +kernel
abbrev cJ6_init : ByteArray := prog_18_method_1_code
def yJ6_init : MethodName := ⟨RJ6, "<init>", "()V"⟩
theorem dJ6_init_0 : decode cJ6_init 0 = .ok (.aload_n 0, 1) := by decide +kernel
theorem dJ6_init_1 : decode cJ6_init 1 = .ok (.invokespecial 1, 3) := by decide +kernel
theorem dJ6_init_4 : decode cJ6_init 4 = .ok (.return_, 1) := by decide +kernel
abbrev cJ6_init_2 : ByteArray := prog_18_method_2_code
def yJ6_init_2 : MethodName := ⟨RJ6, "<init>", "(Ljava/lang/String;)V"⟩
def dkwJ6_init_2_0 : List UInt8 := [42, 43, 183, 0, 7, 177]
abbrev dktJ6_init_2_0 : List UInt8 := dkwJ6_init_2_0 ++ []
theorem dksJ6_init_2_0 : cJ6_init_2.data.toList.drop 0 = dktJ6_init_2_0 := by decide +kernel
theorem dJ6_init_2_0 : decode cJ6_init_2 0 = .ok (.aload_n 0, 1) := dk_42 (dk_at dksJ6_init_2_0 0 rfl rfl)
theorem dJ6_init_2_1 : decode cJ6_init_2 1 = .ok (.aload_n 1, 1) := dk_43 (dk_at dksJ6_init_2_0 1 rfl rfl)
theorem dJ6_init_2_2 : decode cJ6_init_2 2 = .ok (.invokespecial 7, 3) := dk_183 0 7 (dk_at dksJ6_init_2_0 2 rfl rfl)
theorem dJ6_init_2_5 : decode cJ6_init_2 5 = .ok (.return_, 1) := dk_177 (dk_at dksJ6_init_2_0 5 rfl rfl)
theorem q101 : (Jvm.Cond.initialized "java/lang/IllegalArgumentException") ∈ lw_all := lw_g (lw_at lw_m1 9 rfl) rfl
theorem q175 : (Jvm.Cond.instantiable "java/lang/IllegalArgumentException" (6 : Nat)) ∈ lw_all := lw_g (lw_at lw_m1 83 rfl) rfl
theorem q176 : (Jvm.Cond.castable "java/lang/IllegalArgumentException" "java/lang/IllegalArgumentException") ∈ lw_tbl := lw_at lw_m1 84 rfl
theorem q183 : (Jvm.Cond.selects "java/lang/IllegalArgumentException" ({ cls := "java/lang/Throwable", name := "fillInStackTrace", desc := "(I)Ljava/lang/Throwable;" } : Jvm.MethodName) ({ cls := "java/lang/Throwable", name := "fillInStackTrace", desc := "(I)Ljava/lang/Throwable;" } : Jvm.MethodName)) ∈ lw_all := lw_g (lw_at lw_m1 91 rfl) rfl
theorem q184 : (Jvm.Cond.selects "java/lang/IllegalArgumentException" ({ cls := "java/lang/Throwable", name := "fillInStackTrace", desc := "()Ljava/lang/Throwable;" } : Jvm.MethodName) ({ cls := "java/lang/Throwable", name := "fillInStackTrace", desc := "()Ljava/lang/Throwable;" } : Jvm.MethodName)) ∈ lw_all := lw_g (lw_at lw_m1 92 rfl) rfl
theorem q185 : (Jvm.Cond.lays "java/lang/IllegalArgumentException" "java/lang/Throwable" "cause" "Ljava/lang/Throwable;") ∈ lw_all := lw_g (lw_at lw_m1 93 rfl) rfl
theorem q187 : (Jvm.Cond.lays "java/lang/IllegalArgumentException" "java/lang/Throwable" "stackTrace" "[Ljava/lang/StackTraceElement;") ∈ lw_all := lw_g (lw_at lw_m1 95 rfl) rfl
theorem q189 : (Jvm.Cond.lays "java/lang/IllegalArgumentException" "java/lang/Throwable" "suppressedExceptions" "Ljava/util/List;") ∈ lw_all := lw_g (lw_at lw_m1 97 rfl) rfl
theorem q191 : (Jvm.Cond.lays "java/lang/IllegalArgumentException" "java/lang/Throwable" "detailMessage" "Ljava/lang/String;") ∈ lw_all := lw_g (lw_at lw_m1 99 rfl) rfl
theorem q193 : (Jvm.Cond.lays "java/lang/IllegalArgumentException" "java/lang/Throwable" "backtrace" "Ljava/lang/Object;") ∈ lw_all := lw_g (lw_at lw_m1 101 rfl) rfl
theorem q218 : (Jvm.Cond.instanceMethod ({ cls := "java/lang/IllegalArgumentException", name := "<init>", desc := "()V" } : Jvm.MethodName)) ∈ lw_all := lw_g (lw_at lw_m1 126 rfl) rfl
theorem q219 : (Jvm.Cond.code ({ cls := "java/lang/IllegalArgumentException", name := "<init>", desc := "()V" } : Jvm.MethodName) prog_18_method_1_code (1 : Nat) (Option.none : Option Jvm.ClassFile.FieldType)) ∈ lw_all := lw_g (lw_at lw_m1 127 rfl) rfl
theorem q220 : (Jvm.Cond.methodLink "java/lang/IllegalArgumentException" (1 : Nat) ({ cls := "java/lang/RuntimeException", name := "<init>", desc := "()V" } : Jvm.MethodName)) ∈ lw_all := lw_g (lw_at lw_m1 128 rfl) rfl
theorem q236 : (Jvm.Cond.lays "java/lang/IllegalArgumentException" "java/lang/Throwable" "depth" "I") ∈ lw_all := lw_g (lw_at lw_m1 144 rfl) rfl
theorem q239 : (Jvm.Cond.superclass "java/lang/IllegalArgumentException" "java/lang/RuntimeException") ∈ lw_all := lw_g (lw_at lw_m1 147 rfl) rfl
theorem q733 : (Jvm.Cond.instanceMethod ({ cls := "java/lang/IllegalArgumentException", name := "<init>", desc := "(Ljava/lang/String;)V" } : Jvm.MethodName)) ∈ lw_all := lw_g (lw_at lw_m3 161 rfl) rfl
theorem q734 : (Jvm.Cond.code ({ cls := "java/lang/IllegalArgumentException", name := "<init>", desc := "(Ljava/lang/String;)V" } : Jvm.MethodName) prog_18_method_2_code (2 : Nat) (Option.none : Option Jvm.ClassFile.FieldType)) ∈ lw_all := lw_g (lw_at lw_m3 162 rfl) rfl
theorem q735 : (Jvm.Cond.methodLink "java/lang/IllegalArgumentException" (7 : Nat) ({ cls := "java/lang/RuntimeException", name := "<init>", desc := "(Ljava/lang/String;)V" } : Jvm.MethodName)) ∈ lw_all := lw_g (lw_at lw_m3 163 rfl) rfl
theorem q1557 : (Jvm.Cond.selects "java/lang/IllegalArgumentException" ({ cls := "java/lang/Object", name := "getClass", desc := "()Ljava/lang/Class;" } : Jvm.MethodName) ({ cls := "java/lang/Object", name := "getClass", desc := "()Ljava/lang/Class;" } : Jvm.MethodName)) ∈ lw_all := lw_g (lw_at lw_m7 25 rfl) rfl
theorem q2537 : (Jvm.Cond.castable "java/lang/IllegalArgumentException" "java/lang/Object") ∈ lw_tbl := lw_at lw_m11 45 rfl
theorem in_J6 : ∀ w ∈ wsJ60, w ∈ lw_all := lw_in wsJ60 [185, 187, 189, 191, 193, 236] (by decide +kernel) (by decide +kernel)
/-! java/util/AbstractMap -/
set_option maxRecDepth 100000
def RJ7 : String := "java/util/AbstractMap"
abbrev cJ7_init : ByteArray := prog_39_method_1_code
def yJ7_init : MethodName := ⟨RJ7, "<init>", "()V"⟩
theorem dJ7_init_0 : decode cJ7_init 0 = .ok (.aload_n 0, 1) := by decide +kernel
theorem dJ7_init_1 : decode cJ7_init 1 = .ok (.invokespecial 1, 3) := by decide +kernel
theorem dJ7_init_4 : decode cJ7_init 4 = .ok (.return_, 1) := by decide +kernel
abbrev cJ7_isEmpty : ByteArray := prog_39_method_3_code
def yJ7_isEmpty : MethodName := ⟨RJ7, "isEmpty", "()Z"⟩
def dkwJ7_isEmpty_0 : List UInt8 := [42, 182, 0, 19, 154, 0, 7, 4, 167, 0, 4, 3, 172]
abbrev dktJ7_isEmpty_0 : List UInt8 := dkwJ7_isEmpty_0 ++ []
theorem dksJ7_isEmpty_0 : cJ7_isEmpty.data.toList.drop 0 = dktJ7_isEmpty_0 := by decide +kernel
theorem dJ7_isEmpty_0 : decode cJ7_isEmpty 0 = .ok (.aload_n 0, 1) := dk_42 (dk_at dksJ7_isEmpty_0 0 rfl rfl)
theorem dJ7_isEmpty_1 : decode cJ7_isEmpty 1 = .ok (.invokevirtual 19, 3) := dk_182 0 19 (dk_at dksJ7_isEmpty_0 1 rfl rfl)
theorem dJ7_isEmpty_4 : decode cJ7_isEmpty 4 = .ok (.ifCond .ne 7, 3) := dk_154 0 7 (dk_at dksJ7_isEmpty_0 4 rfl rfl)
theorem dJ7_isEmpty_7 : decode cJ7_isEmpty 7 = .ok (.iconst 1, 1) := dk_4 (dk_at dksJ7_isEmpty_0 7 rfl rfl)
theorem dJ7_isEmpty_8 : decode cJ7_isEmpty 8 = .ok (.goto 4, 3) := dk_167 0 4 (dk_at dksJ7_isEmpty_0 8 rfl rfl)
theorem dJ7_isEmpty_11 : decode cJ7_isEmpty 11 = .ok (.iconst 0, 1) := dk_3 (dk_at dksJ7_isEmpty_0 11 rfl rfl)
theorem dJ7_isEmpty_12 : decode cJ7_isEmpty 12 = .ok (.ireturn, 1) := dk_172 (dk_at dksJ7_isEmpty_0 12 rfl rfl)
theorem q102 : (Jvm.Cond.initialized "java/util/AbstractMap") ∈ lw_all := lw_g (lw_at lw_m1 10 rfl) rfl
theorem q261 : (Jvm.Cond.instanceMethod ({ cls := "java/util/AbstractMap", name := "<init>", desc := "()V" } : Jvm.MethodName)) ∈ lw_all := lw_g (lw_at lw_m1 169 rfl) rfl
theorem q262 : (Jvm.Cond.code ({ cls := "java/util/AbstractMap", name := "<init>", desc := "()V" } : Jvm.MethodName) prog_39_method_1_code (1 : Nat) (Option.none : Option Jvm.ClassFile.FieldType)) ∈ lw_all := lw_g (lw_at lw_m1 170 rfl) rfl
theorem q263 : (Jvm.Cond.methodLink "java/util/AbstractMap" (1 : Nat) ({ cls := "java/lang/Object", name := "<init>", desc := "()V" } : Jvm.MethodName)) ∈ lw_all := lw_g (lw_at lw_m1 171 rfl) rfl
theorem q286 : (Jvm.Cond.soleField "java/util/AbstractMap" "keySet") ∈ lw_all := lw_g (lw_at lw_m1 194 rfl) rfl
theorem q288 : (Jvm.Cond.soleField "java/util/AbstractMap" "values") ∈ lw_all := lw_g (lw_at lw_m1 196 rfl) rfl
theorem q1647 : (Jvm.Cond.instanceMethod ({ cls := "java/util/AbstractMap", name := "isEmpty", desc := "()Z" } : Jvm.MethodName)) ∈ lw_all := lw_g (lw_at lw_m7 115 rfl) rfl
theorem q1648 : (Jvm.Cond.publicMethod ({ cls := "java/util/AbstractMap", name := "isEmpty", desc := "()Z" } : Jvm.MethodName)) ∈ lw_tbl := lw_at lw_m7 116 rfl
theorem q1649 : (Jvm.Cond.code ({ cls := "java/util/AbstractMap", name := "isEmpty", desc := "()Z" } : Jvm.MethodName) prog_39_method_3_code (1 : Nat) (Option.some Jvm.ClassFile.FieldType.boolean)) ∈ lw_all := lw_g (lw_at lw_m7 117 rfl) rfl
theorem q1650 : (Jvm.Cond.methodLink "java/util/AbstractMap" (19 : Nat) ({ cls := "java/util/AbstractMap", name := "size", desc := "()I" } : Jvm.MethodName)) ∈ lw_all := lw_g (lw_at lw_m7 118 rfl) rfl
theorem q1651 : (Jvm.Cond.instanceMethod ({ cls := "java/util/AbstractMap", name := "size", desc := "()I" } : Jvm.MethodName)) ∈ lw_all := lw_g (lw_at lw_m7 119 rfl) rfl
theorem q1652 : (Jvm.Cond.sameMethod "java/util/AbstractMap" "java/util/AbstractMap" "size" "()I") ∈ lw_all := lw_g (lw_at lw_m7 120 rfl) rfl
theorem q1654 : (Jvm.Cond.declares ({ cls := "java/util/AbstractMap", name := "size", desc := "()I" } : Jvm.MethodName)) ∈ lw_tbl := lw_at lw_m7 122 rfl
/-! java/util/TreeMap -/
set_option maxRecDepth 100000
def RJ8 : String := "java/util/TreeMap"
def TJ8 : u_T := fun k => match k with
  | 0 => ("java/util/AbstractMap", "keySet", "Ljava/util/Set;", false)
  | 1 => ("java/util/AbstractMap", "values", "Ljava/util/Collection;", false)
  | 2 => ("java/util/TreeMap", "comparator", "Ljava/util/Comparator;", true)
  | 3 => ("java/util/TreeMap", "root", "Ljava/util/TreeMap$Entry;", false)
  | 4 => ("java/util/TreeMap", "size", "I", false)
  | 5 => ("java/util/TreeMap", "modCount", "I", false)
  | 6 => ("java/util/TreeMap", "entrySet", "Ljava/util/TreeMap$EntrySet;", false)
  | 7 => ("java/util/TreeMap", "navigableKeySet", "Ljava/util/TreeMap$KeySet;", false)
  | _ => ("java/util/TreeMap", "descendingMap", "Ljava/util/NavigableMap;", false)
def tyJ8 : Nat → FieldType := fun k => match k with
  | 0 => .object "java/util/Set"
  | 1 => .object "java/util/Collection"
  | 2 => .object "java/util/Comparator"
  | 3 => .object "java/util/TreeMap$Entry"
  | 4 => .int
  | 5 => .int
  | 6 => .object "java/util/TreeMap$EntrySet"
  | 7 => .object "java/util/TreeMap$KeySet"
  | _ => .object "java/util/NavigableMap"
abbrev wsJ80 : List Cond := u_ws RJ8 TJ8 9
theorem nmJ8 : ∀ a, a < 9 → ∀ b, b < 9 → a ≠ b → (TJ8 a).2.1 ≠ (TJ8 b).2.1 := by decide +kernel
theorem tyJ8_ok : ∀ k, k < 9 → parseFieldDescriptor (TJ8 k).2.2.1 = some (tyJ8 k) := by decide +kernel
abbrev cJ8_init : ByteArray := prog_62_method_1_code
def yJ8_init : MethodName := ⟨RJ8, "<init>", "()V"⟩
def dkwJ8_init_0 : List UInt8 := [42, 183, 0, 1, 42, 3, 181, 0, 7, 42, 3, 181, 0, 13, 42, 1, 181, 0, 16, 177]
abbrev dktJ8_init_0 : List UInt8 := dkwJ8_init_0 ++ []
theorem dksJ8_init_0 : cJ8_init.data.toList.drop 0 = dktJ8_init_0 := by decide +kernel
theorem dJ8_init_0 : decode cJ8_init 0 = .ok (.aload_n 0, 1) := dk_42 (dk_at dksJ8_init_0 0 rfl rfl)
theorem dJ8_init_1 : decode cJ8_init 1 = .ok (.invokespecial 1, 3) := dk_183 0 1 (dk_at dksJ8_init_0 1 rfl rfl)
theorem dJ8_init_4 : decode cJ8_init 4 = .ok (.aload_n 0, 1) := dk_42 (dk_at dksJ8_init_0 4 rfl rfl)
theorem dJ8_init_5 : decode cJ8_init 5 = .ok (.iconst 0, 1) := dk_3 (dk_at dksJ8_init_0 5 rfl rfl)
theorem dJ8_init_6 : decode cJ8_init 6 = .ok (.putfield 7, 3) := dk_181 0 7 (dk_at dksJ8_init_0 6 rfl rfl)
theorem dJ8_init_9 : decode cJ8_init 9 = .ok (.aload_n 0, 1) := dk_42 (dk_at dksJ8_init_0 9 rfl rfl)
theorem dJ8_init_10 : decode cJ8_init 10 = .ok (.iconst 0, 1) := dk_3 (dk_at dksJ8_init_0 10 rfl rfl)
theorem dJ8_init_11 : decode cJ8_init 11 = .ok (.putfield 13, 3) := dk_181 0 13 (dk_at dksJ8_init_0 11 rfl rfl)
theorem dJ8_init_14 : decode cJ8_init 14 = .ok (.aload_n 0, 1) := dk_42 (dk_at dksJ8_init_0 14 rfl rfl)
theorem dJ8_init_15 : decode cJ8_init 15 = .ok (.aconst_null, 1) := dk_1 (dk_at dksJ8_init_0 15 rfl rfl)
theorem dJ8_init_16 : decode cJ8_init 16 = .ok (.putfield 16, 3) := dk_181 0 16 (dk_at dksJ8_init_0 16 rfl rfl)
theorem dJ8_init_19 : decode cJ8_init 19 = .ok (.return_, 1) := dk_177 (dk_at dksJ8_init_0 19 rfl rfl)
abbrev cJ8_size : ByteArray := prog_62_method_5_code
def yJ8_size : MethodName := ⟨RJ8, "size", "()I"⟩
theorem dJ8_size_0 : decode cJ8_size 0 = .ok (.aload_n 0, 1) := by decide +kernel
theorem dJ8_size_1 : decode cJ8_size 1 = .ok (.getfield 7, 3) := by decide +kernel
theorem dJ8_size_4 : decode cJ8_size 4 = .ok (.ireturn, 1) := by decide +kernel
abbrev cJ8_clear : ByteArray := prog_62_method_35_code
def yJ8_clear : MethodName := ⟨RJ8, "clear", "()V"⟩
def dkwJ8_clear_0 : List UInt8 := [42, 89, 180, 0, 13, 4, 96, 181, 0, 13, 42, 3, 181, 0, 7, 42, 1, 181, 0, 101, 177]
abbrev dktJ8_clear_0 : List UInt8 := dkwJ8_clear_0 ++ []
theorem dksJ8_clear_0 : cJ8_clear.data.toList.drop 0 = dktJ8_clear_0 := by decide +kernel
theorem dJ8_clear_0 : decode cJ8_clear 0 = .ok (.aload_n 0, 1) := dk_42 (dk_at dksJ8_clear_0 0 rfl rfl)
theorem dJ8_clear_1 : decode cJ8_clear 1 = .ok (.dup, 1) := dk_89 (dk_at dksJ8_clear_0 1 rfl rfl)
theorem dJ8_clear_2 : decode cJ8_clear 2 = .ok (.getfield 13, 3) := dk_180 0 13 (dk_at dksJ8_clear_0 2 rfl rfl)
theorem dJ8_clear_5 : decode cJ8_clear 5 = .ok (.iconst 1, 1) := dk_4 (dk_at dksJ8_clear_0 5 rfl rfl)
theorem dJ8_clear_6 : decode cJ8_clear 6 = .ok (.iadd, 1) := dk_96 (dk_at dksJ8_clear_0 6 rfl rfl)
theorem dJ8_clear_7 : decode cJ8_clear 7 = .ok (.putfield 13, 3) := dk_181 0 13 (dk_at dksJ8_clear_0 7 rfl rfl)
theorem dJ8_clear_10 : decode cJ8_clear 10 = .ok (.aload_n 0, 1) := dk_42 (dk_at dksJ8_clear_0 10 rfl rfl)
theorem dJ8_clear_11 : decode cJ8_clear 11 = .ok (.iconst 0, 1) := dk_3 (dk_at dksJ8_clear_0 11 rfl rfl)
theorem dJ8_clear_12 : decode cJ8_clear 12 = .ok (.putfield 7, 3) := dk_181 0 7 (dk_at dksJ8_clear_0 12 rfl rfl)
theorem dJ8_clear_15 : decode cJ8_clear 15 = .ok (.aload_n 0, 1) := dk_42 (dk_at dksJ8_clear_0 15 rfl rfl)
theorem dJ8_clear_16 : decode cJ8_clear 16 = .ok (.aconst_null, 1) := dk_1 (dk_at dksJ8_clear_0 16 rfl rfl)
theorem dJ8_clear_17 : decode cJ8_clear 17 = .ok (.putfield 101, 3) := dk_181 0 101 (dk_at dksJ8_clear_0 17 rfl rfl)
theorem dJ8_clear_20 : decode cJ8_clear 20 = .ok (.return_, 1) := dk_177 (dk_at dksJ8_clear_0 20 rfl rfl)
abbrev cJ8_keySet : ByteArray := prog_62_method_49_code
def yJ8_keySet : MethodName := ⟨RJ8, "keySet", "()Ljava/util/Set;"⟩
theorem dJ8_keySet_0 : decode cJ8_keySet 0 = .ok (.aload_n 0, 1) := by decide +kernel
theorem dJ8_keySet_1 : decode cJ8_keySet 1 = .ok (.invokevirtual 219, 3) := by decide +kernel
theorem dJ8_keySet_4 : decode cJ8_keySet 4 = .ok (.areturn, 1) := by decide +kernel
abbrev cJ8_navigableKeySet : ByteArray := prog_62_method_50_code
def yJ8_navigableKeySet : MethodName := ⟨RJ8, "navigableKeySet", "()Ljava/util/NavigableSet;"⟩
def dkwJ8_navigableKeySet_1 : List UInt8 := [181, 0, 191, 176]
abbrev dktJ8_navigableKeySet_1 : List UInt8 := dkwJ8_navigableKeySet_1 ++ []
def dkwJ8_navigableKeySet_0 : List UInt8 := [42, 180, 0, 191, 76, 43, 198, 0, 7, 43, 167, 0, 16, 42, 187, 0, 222, 89, 42, 183, 0, 224, 90]
abbrev dktJ8_navigableKeySet_0 : List UInt8 := dkwJ8_navigableKeySet_0 ++ dktJ8_navigableKeySet_1
theorem dksJ8_navigableKeySet_0 : cJ8_navigableKeySet.data.toList.drop 0 = dktJ8_navigableKeySet_0 := by decide +kernel
theorem dksJ8_navigableKeySet_1 : cJ8_navigableKeySet.data.toList.drop 23 = dktJ8_navigableKeySet_1 := dk_seg dksJ8_navigableKeySet_0 23 rfl rfl
theorem dJ8_navigableKeySet_0 : decode cJ8_navigableKeySet 0 = .ok (.aload_n 0, 1) := dk_42 (dk_at dksJ8_navigableKeySet_0 0 rfl rfl)
theorem dJ8_navigableKeySet_1 : decode cJ8_navigableKeySet 1 = .ok (.getfield 191, 3) := dk_180 0 191 (dk_at dksJ8_navigableKeySet_0 1 rfl rfl)
theorem dJ8_navigableKeySet_4 : decode cJ8_navigableKeySet 4 = .ok (.astore_n 1, 1) := dk_76 (dk_at dksJ8_navigableKeySet_0 4 rfl rfl)
theorem dJ8_navigableKeySet_5 : decode cJ8_navigableKeySet 5 = .ok (.aload_n 1, 1) := dk_43 (dk_at dksJ8_navigableKeySet_0 5 rfl rfl)
theorem dJ8_navigableKeySet_6 : decode cJ8_navigableKeySet 6 = .ok (.ifnull 7, 3) := dk_198 0 7 (dk_at dksJ8_navigableKeySet_0 6 rfl rfl)
theorem dJ8_navigableKeySet_9 : decode cJ8_navigableKeySet 9 = .ok (.aload_n 1, 1) := dk_43 (dk_at dksJ8_navigableKeySet_0 9 rfl rfl)
theorem dJ8_navigableKeySet_10 : decode cJ8_navigableKeySet 10 = .ok (.goto 16, 3) := dk_167 0 16 (dk_at dksJ8_navigableKeySet_0 10 rfl rfl)
theorem dJ8_navigableKeySet_13 : decode cJ8_navigableKeySet 13 = .ok (.aload_n 0, 1) := dk_42 (dk_at dksJ8_navigableKeySet_0 13 rfl rfl)
theorem dJ8_navigableKeySet_14 : decode cJ8_navigableKeySet 14 = .ok (.new 222, 3) := dk_187 0 222 (dk_at dksJ8_navigableKeySet_0 14 rfl rfl)
theorem dJ8_navigableKeySet_17 : decode cJ8_navigableKeySet 17 = .ok (.dup, 1) := dk_89 (dk_at dksJ8_navigableKeySet_0 17 rfl rfl)
theorem dJ8_navigableKeySet_18 : decode cJ8_navigableKeySet 18 = .ok (.aload_n 0, 1) := dk_42 (dk_at dksJ8_navigableKeySet_0 18 rfl rfl)
theorem dJ8_navigableKeySet_19 : decode cJ8_navigableKeySet 19 = .ok (.invokespecial 224, 3) := dk_183 0 224 (dk_at dksJ8_navigableKeySet_0 19 rfl rfl)
theorem dJ8_navigableKeySet_22 : decode cJ8_navigableKeySet 22 = .ok (.dup_x1, 1) := dk_90 (dk_at dksJ8_navigableKeySet_0 22 rfl rfl)
theorem dJ8_navigableKeySet_23 : decode cJ8_navigableKeySet 23 = .ok (.putfield 191, 3) := dk_181 0 191 (dk_at dksJ8_navigableKeySet_1 0 rfl rfl)
theorem dJ8_navigableKeySet_26 : decode cJ8_navigableKeySet 26 = .ok (.areturn, 1) := dk_176 (dk_at dksJ8_navigableKeySet_1 3 rfl rfl)
abbrev cJ8_getFirstEntry : ByteArray := prog_62_method_72_code
def yJ8_getFirstEntry : MethodName := ⟨RJ8, "getFirstEntry", "()Ljava/util/TreeMap$Entry;"⟩
def dkwJ8_getFirstEntry_1 : List UInt8 := [43, 176]
abbrev dktJ8_getFirstEntry_1 : List UInt8 := dkwJ8_getFirstEntry_1 ++ []
def dkwJ8_getFirstEntry_0 : List UInt8 := [42, 180, 0, 101, 76, 43, 198, 0, 18, 43, 180, 0, 111, 198, 0, 11, 43, 180, 0, 111, 76, 167, 255, 244]
abbrev dktJ8_getFirstEntry_0 : List UInt8 := dkwJ8_getFirstEntry_0 ++ dktJ8_getFirstEntry_1
theorem dksJ8_getFirstEntry_0 : cJ8_getFirstEntry.data.toList.drop 0 = dktJ8_getFirstEntry_0 := by decide +kernel
theorem dksJ8_getFirstEntry_1 : cJ8_getFirstEntry.data.toList.drop 24 = dktJ8_getFirstEntry_1 := dk_seg dksJ8_getFirstEntry_0 24 rfl rfl
theorem dJ8_getFirstEntry_0 : decode cJ8_getFirstEntry 0 = .ok (.aload_n 0, 1) := dk_42 (dk_at dksJ8_getFirstEntry_0 0 rfl rfl)
theorem dJ8_getFirstEntry_1 : decode cJ8_getFirstEntry 1 = .ok (.getfield 101, 3) := dk_180 0 101 (dk_at dksJ8_getFirstEntry_0 1 rfl rfl)
theorem dJ8_getFirstEntry_4 : decode cJ8_getFirstEntry 4 = .ok (.astore_n 1, 1) := dk_76 (dk_at dksJ8_getFirstEntry_0 4 rfl rfl)
theorem dJ8_getFirstEntry_5 : decode cJ8_getFirstEntry 5 = .ok (.aload_n 1, 1) := dk_43 (dk_at dksJ8_getFirstEntry_0 5 rfl rfl)
theorem dJ8_getFirstEntry_6 : decode cJ8_getFirstEntry 6 = .ok (.ifnull 18, 3) := dk_198 0 18 (dk_at dksJ8_getFirstEntry_0 6 rfl rfl)
theorem dJ8_getFirstEntry_9 : decode cJ8_getFirstEntry 9 = .ok (.aload_n 1, 1) := dk_43 (dk_at dksJ8_getFirstEntry_0 9 rfl rfl)
theorem dJ8_getFirstEntry_10 : decode cJ8_getFirstEntry 10 = .ok (.getfield 111, 3) := dk_180 0 111 (dk_at dksJ8_getFirstEntry_0 10 rfl rfl)
theorem dJ8_getFirstEntry_13 : decode cJ8_getFirstEntry 13 = .ok (.ifnull 11, 3) := dk_198 0 11 (dk_at dksJ8_getFirstEntry_0 13 rfl rfl)
theorem dJ8_getFirstEntry_16 : decode cJ8_getFirstEntry 16 = .ok (.aload_n 1, 1) := dk_43 (dk_at dksJ8_getFirstEntry_0 16 rfl rfl)
theorem dJ8_getFirstEntry_17 : decode cJ8_getFirstEntry 17 = .ok (.getfield 111, 3) := dk_180 0 111 (dk_at dksJ8_getFirstEntry_0 17 rfl rfl)
theorem dJ8_getFirstEntry_20 : decode cJ8_getFirstEntry 20 = .ok (.astore_n 1, 1) := dk_76 (dk_at dksJ8_getFirstEntry_0 20 rfl rfl)
theorem dJ8_getFirstEntry_21 : decode cJ8_getFirstEntry 21 = .ok (.goto (-12), 3) := dk_167 255 244 (dk_at dksJ8_getFirstEntry_0 21 rfl rfl)
theorem dJ8_getFirstEntry_24 : decode cJ8_getFirstEntry 24 = .ok (.aload_n 1, 1) := dk_43 (dk_at dksJ8_getFirstEntry_1 0 rfl rfl)
theorem dJ8_getFirstEntry_25 : decode cJ8_getFirstEntry 25 = .ok (.areturn, 1) := dk_176 (dk_at dksJ8_getFirstEntry_1 1 rfl rfl)
abbrev cJ8_keyIterator : ByteArray := prog_62_method_65_code
def yJ8_keyIterator : MethodName := ⟨RJ8, "keyIterator", "()Ljava/util/Iterator;"⟩
def dkwJ8_keyIterator_0 : List UInt8 := [187, 1, 13, 89, 42, 42, 182, 0, 54, 183, 1, 15, 176]
abbrev dktJ8_keyIterator_0 : List UInt8 := dkwJ8_keyIterator_0 ++ []
theorem dksJ8_keyIterator_0 : cJ8_keyIterator.data.toList.drop 0 = dktJ8_keyIterator_0 := by decide +kernel
theorem dJ8_keyIterator_0 : decode cJ8_keyIterator 0 = .ok (.new 269, 3) := dk_187 1 13 (dk_at dksJ8_keyIterator_0 0 rfl rfl)
theorem dJ8_keyIterator_3 : decode cJ8_keyIterator 3 = .ok (.dup, 1) := dk_89 (dk_at dksJ8_keyIterator_0 3 rfl rfl)
theorem dJ8_keyIterator_4 : decode cJ8_keyIterator 4 = .ok (.aload_n 0, 1) := dk_42 (dk_at dksJ8_keyIterator_0 4 rfl rfl)
theorem dJ8_keyIterator_5 : decode cJ8_keyIterator 5 = .ok (.aload_n 0, 1) := dk_42 (dk_at dksJ8_keyIterator_0 5 rfl rfl)
theorem dJ8_keyIterator_6 : decode cJ8_keyIterator 6 = .ok (.invokevirtual 54, 3) := dk_182 0 54 (dk_at dksJ8_keyIterator_0 6 rfl rfl)
theorem dJ8_keyIterator_9 : decode cJ8_keyIterator 9 = .ok (.invokespecial 271, 3) := dk_183 1 15 (dk_at dksJ8_keyIterator_0 9 rfl rfl)
theorem dJ8_keyIterator_12 : decode cJ8_keyIterator 12 = .ok (.areturn, 1) := dk_176 (dk_at dksJ8_keyIterator_0 12 rfl rfl)
abbrev cJ8_successor : ByteArray := prog_62_method_74_code
def yJ8_successor : MethodName := ⟨RJ8, "successor", "(Ljava/util/TreeMap$Entry;)Ljava/util/TreeMap$Entry;"⟩
def dkwJ8_successor_2 : List UInt8 := [44, 43, 180, 0, 114, 166, 0, 13, 43, 77, 43, 180, 0, 124, 76, 167, 255, 237, 43, 176]
abbrev dktJ8_successor_2 : List UInt8 := dkwJ8_successor_2 ++ []
def dkwJ8_successor_1 : List UInt8 := [198, 0, 11, 43, 180, 0, 111, 76, 167, 255, 244, 43, 176, 42, 180, 0, 124, 76, 42, 77, 43, 198, 0, 21]
abbrev dktJ8_successor_1 : List UInt8 := dkwJ8_successor_1 ++ dktJ8_successor_2
def dkwJ8_successor_0 : List UInt8 := [42, 199, 0, 5, 1, 176, 42, 180, 0, 114, 198, 0, 25, 42, 180, 0, 114, 76, 43, 180, 0, 111]
abbrev dktJ8_successor_0 : List UInt8 := dkwJ8_successor_0 ++ dktJ8_successor_1
theorem dksJ8_successor_0 : cJ8_successor.data.toList.drop 0 = dktJ8_successor_0 := by decide +kernel
theorem dksJ8_successor_1 : cJ8_successor.data.toList.drop 22 = dktJ8_successor_1 := dk_seg dksJ8_successor_0 22 rfl rfl
theorem dksJ8_successor_2 : cJ8_successor.data.toList.drop 46 = dktJ8_successor_2 := dk_seg dksJ8_successor_1 24 rfl rfl
theorem dJ8_successor_0 : decode cJ8_successor 0 = .ok (.aload_n 0, 1) := dk_42 (dk_at dksJ8_successor_0 0 rfl rfl)
theorem dJ8_successor_1 : decode cJ8_successor 1 = .ok (.ifnonnull 5, 3) := dk_199 0 5 (dk_at dksJ8_successor_0 1 rfl rfl)
theorem dJ8_successor_4 : decode cJ8_successor 4 = .ok (.aconst_null, 1) := dk_1 (dk_at dksJ8_successor_0 4 rfl rfl)
theorem dJ8_successor_5 : decode cJ8_successor 5 = .ok (.areturn, 1) := dk_176 (dk_at dksJ8_successor_0 5 rfl rfl)
theorem dJ8_successor_6 : decode cJ8_successor 6 = .ok (.aload_n 0, 1) := dk_42 (dk_at dksJ8_successor_0 6 rfl rfl)
theorem dJ8_successor_7 : decode cJ8_successor 7 = .ok (.getfield 114, 3) := dk_180 0 114 (dk_at dksJ8_successor_0 7 rfl rfl)
theorem dJ8_successor_10 : decode cJ8_successor 10 = .ok (.ifnull 25, 3) := dk_198 0 25 (dk_at dksJ8_successor_0 10 rfl rfl)
theorem dJ8_successor_13 : decode cJ8_successor 13 = .ok (.aload_n 0, 1) := dk_42 (dk_at dksJ8_successor_0 13 rfl rfl)
theorem dJ8_successor_14 : decode cJ8_successor 14 = .ok (.getfield 114, 3) := dk_180 0 114 (dk_at dksJ8_successor_0 14 rfl rfl)
theorem dJ8_successor_17 : decode cJ8_successor 17 = .ok (.astore_n 1, 1) := dk_76 (dk_at dksJ8_successor_0 17 rfl rfl)
theorem dJ8_successor_18 : decode cJ8_successor 18 = .ok (.aload_n 1, 1) := dk_43 (dk_at dksJ8_successor_0 18 rfl rfl)
theorem dJ8_successor_19 : decode cJ8_successor 19 = .ok (.getfield 111, 3) := dk_180 0 111 (dk_at dksJ8_successor_0 19 rfl rfl)
theorem dJ8_successor_22 : decode cJ8_successor 22 = .ok (.ifnull 11, 3) := dk_198 0 11 (dk_at dksJ8_successor_1 0 rfl rfl)
theorem dJ8_successor_25 : decode cJ8_successor 25 = .ok (.aload_n 1, 1) := dk_43 (dk_at dksJ8_successor_1 3 rfl rfl)
theorem dJ8_successor_26 : decode cJ8_successor 26 = .ok (.getfield 111, 3) := dk_180 0 111 (dk_at dksJ8_successor_1 4 rfl rfl)
theorem dJ8_successor_29 : decode cJ8_successor 29 = .ok (.astore_n 1, 1) := dk_76 (dk_at dksJ8_successor_1 7 rfl rfl)
theorem dJ8_successor_30 : decode cJ8_successor 30 = .ok (.goto (-12), 3) := dk_167 255 244 (dk_at dksJ8_successor_1 8 rfl rfl)
theorem dJ8_successor_33 : decode cJ8_successor 33 = .ok (.aload_n 1, 1) := dk_43 (dk_at dksJ8_successor_1 11 rfl rfl)
theorem dJ8_successor_34 : decode cJ8_successor 34 = .ok (.areturn, 1) := dk_176 (dk_at dksJ8_successor_1 12 rfl rfl)
theorem dJ8_successor_35 : decode cJ8_successor 35 = .ok (.aload_n 0, 1) := dk_42 (dk_at dksJ8_successor_1 13 rfl rfl)
theorem dJ8_successor_36 : decode cJ8_successor 36 = .ok (.getfield 124, 3) := dk_180 0 124 (dk_at dksJ8_successor_1 14 rfl rfl)
theorem dJ8_successor_39 : decode cJ8_successor 39 = .ok (.astore_n 1, 1) := dk_76 (dk_at dksJ8_successor_1 17 rfl rfl)
theorem dJ8_successor_40 : decode cJ8_successor 40 = .ok (.aload_n 0, 1) := dk_42 (dk_at dksJ8_successor_1 18 rfl rfl)
theorem dJ8_successor_41 : decode cJ8_successor 41 = .ok (.astore_n 2, 1) := dk_77 (dk_at dksJ8_successor_1 19 rfl rfl)
theorem dJ8_successor_42 : decode cJ8_successor 42 = .ok (.aload_n 1, 1) := dk_43 (dk_at dksJ8_successor_1 20 rfl rfl)
theorem dJ8_successor_43 : decode cJ8_successor 43 = .ok (.ifnull 21, 3) := dk_198 0 21 (dk_at dksJ8_successor_1 21 rfl rfl)
theorem dJ8_successor_46 : decode cJ8_successor 46 = .ok (.aload_n 2, 1) := dk_44 (dk_at dksJ8_successor_2 0 rfl rfl)
theorem dJ8_successor_47 : decode cJ8_successor 47 = .ok (.aload_n 1, 1) := dk_43 (dk_at dksJ8_successor_2 1 rfl rfl)
theorem dJ8_successor_48 : decode cJ8_successor 48 = .ok (.getfield 114, 3) := dk_180 0 114 (dk_at dksJ8_successor_2 2 rfl rfl)
theorem dJ8_successor_51 : decode cJ8_successor 51 = .ok (.if_acmp .ne 13, 3) := dk_166 0 13 (dk_at dksJ8_successor_2 5 rfl rfl)
theorem dJ8_successor_54 : decode cJ8_successor 54 = .ok (.aload_n 1, 1) := dk_43 (dk_at dksJ8_successor_2 8 rfl rfl)
theorem dJ8_successor_55 : decode cJ8_successor 55 = .ok (.astore_n 2, 1) := dk_77 (dk_at dksJ8_successor_2 9 rfl rfl)
theorem dJ8_successor_56 : decode cJ8_successor 56 = .ok (.aload_n 1, 1) := dk_43 (dk_at dksJ8_successor_2 10 rfl rfl)
theorem dJ8_successor_57 : decode cJ8_successor 57 = .ok (.getfield 124, 3) := dk_180 0 124 (dk_at dksJ8_successor_2 11 rfl rfl)
theorem dJ8_successor_60 : decode cJ8_successor 60 = .ok (.astore_n 1, 1) := dk_76 (dk_at dksJ8_successor_2 14 rfl rfl)
theorem dJ8_successor_61 : decode cJ8_successor 61 = .ok (.goto (-19), 3) := dk_167 255 237 (dk_at dksJ8_successor_2 15 rfl rfl)
theorem dJ8_successor_64 : decode cJ8_successor 64 = .ok (.aload_n 1, 1) := dk_43 (dk_at dksJ8_successor_2 18 rfl rfl)
theorem dJ8_successor_65 : decode cJ8_successor 65 = .ok (.areturn, 1) := dk_176 (dk_at dksJ8_successor_2 19 rfl rfl)
abbrev cJ8_get : ByteArray := prog_62_method_8_code
def yJ8_get : MethodName := ⟨RJ8, "get", "(Ljava/lang/Object;)Ljava/lang/Object;"⟩
def dkwJ8_get_0 : List UInt8 := [42, 43, 182, 0, 50, 77, 44, 199, 0, 7, 1, 167, 0, 7, 44, 180, 0, 58, 176]
abbrev dktJ8_get_0 : List UInt8 := dkwJ8_get_0 ++ []
theorem dksJ8_get_0 : cJ8_get.data.toList.drop 0 = dktJ8_get_0 := by decide +kernel
theorem dJ8_get_0 : decode cJ8_get 0 = .ok (.aload_n 0, 1) := dk_42 (dk_at dksJ8_get_0 0 rfl rfl)
theorem dJ8_get_1 : decode cJ8_get 1 = .ok (.aload_n 1, 1) := dk_43 (dk_at dksJ8_get_0 1 rfl rfl)
theorem dJ8_get_2 : decode cJ8_get 2 = .ok (.invokevirtual 50, 3) := dk_182 0 50 (dk_at dksJ8_get_0 2 rfl rfl)
theorem dJ8_get_5 : decode cJ8_get 5 = .ok (.astore_n 2, 1) := dk_77 (dk_at dksJ8_get_0 5 rfl rfl)
theorem dJ8_get_6 : decode cJ8_get 6 = .ok (.aload_n 2, 1) := dk_44 (dk_at dksJ8_get_0 6 rfl rfl)
theorem dJ8_get_7 : decode cJ8_get 7 = .ok (.ifnonnull 7, 3) := dk_199 0 7 (dk_at dksJ8_get_0 7 rfl rfl)
theorem dJ8_get_10 : decode cJ8_get 10 = .ok (.aconst_null, 1) := dk_1 (dk_at dksJ8_get_0 10 rfl rfl)
theorem dJ8_get_11 : decode cJ8_get 11 = .ok (.goto 7, 3) := dk_167 0 7 (dk_at dksJ8_get_0 11 rfl rfl)
theorem dJ8_get_14 : decode cJ8_get 14 = .ok (.aload_n 2, 1) := dk_44 (dk_at dksJ8_get_0 14 rfl rfl)
theorem dJ8_get_15 : decode cJ8_get 15 = .ok (.getfield 58, 3) := dk_180 0 58 (dk_at dksJ8_get_0 15 rfl rfl)
theorem dJ8_get_18 : decode cJ8_get 18 = .ok (.areturn, 1) := dk_176 (dk_at dksJ8_get_0 18 rfl rfl)
abbrev cJ8_getEntry : ByteArray := prog_62_method_15_code
def yJ8_getEntry : MethodName := ⟨RJ8, "getEntry", "(Ljava/lang/Object;)Ljava/util/TreeMap$Entry;"⟩
def dkwJ8_getEntry_3 : List UInt8 := [45, 176, 167, 255, 212, 1, 176]
abbrev dktJ8_getEntry_3 : List UInt8 := dkwJ8_getEntry_3 ++ []
def dkwJ8_getEntry_2 : List UInt8 := [156, 0, 11, 45, 180, 0, 111, 78, 167, 0, 18, 21, 4, 158, 0, 11, 45, 180, 0, 114, 78, 167, 0, 5]
abbrev dktJ8_getEntry_2 : List UInt8 := dkwJ8_getEntry_2 ++ dktJ8_getEntry_3
def dkwJ8_getEntry_1 : List UInt8 := [180, 0, 101, 78, 45, 198, 0, 46, 44, 45, 180, 0, 105, 185, 0, 107, 2, 0, 54, 4, 21, 4]
abbrev dktJ8_getEntry_1 : List UInt8 := dkwJ8_getEntry_1 ++ dktJ8_getEntry_2
def dkwJ8_getEntry_0 : List UInt8 := [42, 180, 0, 16, 198, 0, 9, 42, 43, 182, 0, 92, 176, 43, 184, 0, 95, 87, 43, 192, 0, 99, 77, 42]
abbrev dktJ8_getEntry_0 : List UInt8 := dkwJ8_getEntry_0 ++ dktJ8_getEntry_1
theorem dksJ8_getEntry_0 : cJ8_getEntry.data.toList.drop 0 = dktJ8_getEntry_0 := by decide +kernel
theorem dksJ8_getEntry_1 : cJ8_getEntry.data.toList.drop 24 = dktJ8_getEntry_1 := dk_seg dksJ8_getEntry_0 24 rfl rfl
theorem dksJ8_getEntry_2 : cJ8_getEntry.data.toList.drop 46 = dktJ8_getEntry_2 := dk_seg dksJ8_getEntry_1 22 rfl rfl
theorem dksJ8_getEntry_3 : cJ8_getEntry.data.toList.drop 70 = dktJ8_getEntry_3 := dk_seg dksJ8_getEntry_2 24 rfl rfl
theorem dJ8_getEntry_0 : decode cJ8_getEntry 0 = .ok (.aload_n 0, 1) := dk_42 (dk_at dksJ8_getEntry_0 0 rfl rfl)
theorem dJ8_getEntry_1 : decode cJ8_getEntry 1 = .ok (.getfield 16, 3) := dk_180 0 16 (dk_at dksJ8_getEntry_0 1 rfl rfl)
theorem dJ8_getEntry_4 : decode cJ8_getEntry 4 = .ok (.ifnull 9, 3) := dk_198 0 9 (dk_at dksJ8_getEntry_0 4 rfl rfl)
theorem dJ8_getEntry_7 : decode cJ8_getEntry 7 = .ok (.aload_n 0, 1) := dk_42 (dk_at dksJ8_getEntry_0 7 rfl rfl)
theorem dJ8_getEntry_8 : decode cJ8_getEntry 8 = .ok (.aload_n 1, 1) := dk_43 (dk_at dksJ8_getEntry_0 8 rfl rfl)
theorem dJ8_getEntry_9 : decode cJ8_getEntry 9 = .ok (.invokevirtual 92, 3) := dk_182 0 92 (dk_at dksJ8_getEntry_0 9 rfl rfl)
theorem dJ8_getEntry_12 : decode cJ8_getEntry 12 = .ok (.areturn, 1) := dk_176 (dk_at dksJ8_getEntry_0 12 rfl rfl)
theorem dJ8_getEntry_13 : decode cJ8_getEntry 13 = .ok (.aload_n 1, 1) := dk_43 (dk_at dksJ8_getEntry_0 13 rfl rfl)
theorem dJ8_getEntry_14 : decode cJ8_getEntry 14 = .ok (.invokestatic 95, 3) := dk_184 0 95 (dk_at dksJ8_getEntry_0 14 rfl rfl)
theorem dJ8_getEntry_17 : decode cJ8_getEntry 17 = .ok (.pop, 1) := dk_87 (dk_at dksJ8_getEntry_0 17 rfl rfl)
theorem dJ8_getEntry_18 : decode cJ8_getEntry 18 = .ok (.aload_n 1, 1) := dk_43 (dk_at dksJ8_getEntry_0 18 rfl rfl)
theorem dJ8_getEntry_19 : decode cJ8_getEntry 19 = .ok (.checkcast 99, 3) := dk_192 0 99 (dk_at dksJ8_getEntry_0 19 rfl rfl)
theorem dJ8_getEntry_22 : decode cJ8_getEntry 22 = .ok (.astore_n 2, 1) := dk_77 (dk_at dksJ8_getEntry_0 22 rfl rfl)
theorem dJ8_getEntry_23 : decode cJ8_getEntry 23 = .ok (.aload_n 0, 1) := dk_42 (dk_at dksJ8_getEntry_0 23 rfl rfl)
theorem dJ8_getEntry_24 : decode cJ8_getEntry 24 = .ok (.getfield 101, 3) := dk_180 0 101 (dk_at dksJ8_getEntry_1 0 rfl rfl)
theorem dJ8_getEntry_27 : decode cJ8_getEntry 27 = .ok (.astore_n 3, 1) := dk_78 (dk_at dksJ8_getEntry_1 3 rfl rfl)
theorem dJ8_getEntry_28 : decode cJ8_getEntry 28 = .ok (.aload_n 3, 1) := dk_45 (dk_at dksJ8_getEntry_1 4 rfl rfl)
theorem dJ8_getEntry_29 : decode cJ8_getEntry 29 = .ok (.ifnull 46, 3) := dk_198 0 46 (dk_at dksJ8_getEntry_1 5 rfl rfl)
theorem dJ8_getEntry_32 : decode cJ8_getEntry 32 = .ok (.aload_n 2, 1) := dk_44 (dk_at dksJ8_getEntry_1 8 rfl rfl)
theorem dJ8_getEntry_33 : decode cJ8_getEntry 33 = .ok (.aload_n 3, 1) := dk_45 (dk_at dksJ8_getEntry_1 9 rfl rfl)
theorem dJ8_getEntry_34 : decode cJ8_getEntry 34 = .ok (.getfield 105, 3) := dk_180 0 105 (dk_at dksJ8_getEntry_1 10 rfl rfl)
theorem dJ8_getEntry_37 : decode cJ8_getEntry 37 = .ok (.invokeinterface 107 2, 5) := by decide +kernel
theorem dJ8_getEntry_42 : decode cJ8_getEntry 42 = .ok (.istore 4, 2) := dk_54 4 (dk_at dksJ8_getEntry_1 18 rfl rfl)
theorem dJ8_getEntry_44 : decode cJ8_getEntry 44 = .ok (.iload 4, 2) := dk_21 4 (dk_at dksJ8_getEntry_1 20 rfl rfl)
theorem dJ8_getEntry_46 : decode cJ8_getEntry 46 = .ok (.ifCond .ge 11, 3) := dk_156 0 11 (dk_at dksJ8_getEntry_2 0 rfl rfl)
theorem dJ8_getEntry_49 : decode cJ8_getEntry 49 = .ok (.aload_n 3, 1) := dk_45 (dk_at dksJ8_getEntry_2 3 rfl rfl)
theorem dJ8_getEntry_50 : decode cJ8_getEntry 50 = .ok (.getfield 111, 3) := dk_180 0 111 (dk_at dksJ8_getEntry_2 4 rfl rfl)
theorem dJ8_getEntry_53 : decode cJ8_getEntry 53 = .ok (.astore_n 3, 1) := dk_78 (dk_at dksJ8_getEntry_2 7 rfl rfl)
theorem dJ8_getEntry_54 : decode cJ8_getEntry 54 = .ok (.goto 18, 3) := dk_167 0 18 (dk_at dksJ8_getEntry_2 8 rfl rfl)
theorem dJ8_getEntry_57 : decode cJ8_getEntry 57 = .ok (.iload 4, 2) := dk_21 4 (dk_at dksJ8_getEntry_2 11 rfl rfl)
theorem dJ8_getEntry_59 : decode cJ8_getEntry 59 = .ok (.ifCond .le 11, 3) := dk_158 0 11 (dk_at dksJ8_getEntry_2 13 rfl rfl)
theorem dJ8_getEntry_62 : decode cJ8_getEntry 62 = .ok (.aload_n 3, 1) := dk_45 (dk_at dksJ8_getEntry_2 16 rfl rfl)
theorem dJ8_getEntry_63 : decode cJ8_getEntry 63 = .ok (.getfield 114, 3) := dk_180 0 114 (dk_at dksJ8_getEntry_2 17 rfl rfl)
theorem dJ8_getEntry_66 : decode cJ8_getEntry 66 = .ok (.astore_n 3, 1) := dk_78 (dk_at dksJ8_getEntry_2 20 rfl rfl)
theorem dJ8_getEntry_67 : decode cJ8_getEntry 67 = .ok (.goto 5, 3) := dk_167 0 5 (dk_at dksJ8_getEntry_2 21 rfl rfl)
theorem dJ8_getEntry_70 : decode cJ8_getEntry 70 = .ok (.aload_n 3, 1) := dk_45 (dk_at dksJ8_getEntry_3 0 rfl rfl)
theorem dJ8_getEntry_71 : decode cJ8_getEntry 71 = .ok (.areturn, 1) := dk_176 (dk_at dksJ8_getEntry_3 1 rfl rfl)
theorem dJ8_getEntry_72 : decode cJ8_getEntry 72 = .ok (.goto (-44), 3) := dk_167 255 212 (dk_at dksJ8_getEntry_3 2 rfl rfl)
theorem dJ8_getEntry_75 : decode cJ8_getEntry 75 = .ok (.aconst_null, 1) := dk_1 (dk_at dksJ8_getEntry_3 5 rfl rfl)
theorem dJ8_getEntry_76 : decode cJ8_getEntry 76 = .ok (.areturn, 1) := dk_176 (dk_at dksJ8_getEntry_3 6 rfl rfl)
abbrev cJ8_getEntryUsingComparator : ByteArray := prog_62_method_16_code
def yJ8_getEntryUsingComparator : MethodName := ⟨RJ8, "getEntryUsingComparator", "(Ljava/lang/Object;)Ljava/util/TreeMap$Entry;"⟩
def dkwJ8_getEntryUsingComparator_3 : List UInt8 := [1, 176]
abbrev dktJ8_getEntryUsingComparator_3 : List UInt8 := dkwJ8_getEntryUsingComparator_3 ++ []
def dkwJ8_getEntryUsingComparator_2 : List UInt8 := [167, 0, 21, 21, 5, 158, 0, 13, 25, 4, 180, 0, 114, 58, 4, 167, 0, 6, 25, 4, 176, 167, 255, 204]
abbrev dktJ8_getEntryUsingComparator_2 : List UInt8 := dkwJ8_getEntryUsingComparator_2 ++ dktJ8_getEntryUsingComparator_3
def dkwJ8_getEntryUsingComparator_1 : List UInt8 := [25, 4, 180, 0, 105, 185, 0, 117, 3, 0, 54, 5, 21, 5, 156, 0, 13, 25, 4, 180, 0, 111, 58, 4]
abbrev dktJ8_getEntryUsingComparator_1 : List UInt8 := dkwJ8_getEntryUsingComparator_1 ++ dktJ8_getEntryUsingComparator_2
def dkwJ8_getEntryUsingComparator_0 : List UInt8 := [43, 77, 42, 180, 0, 16, 78, 45, 198, 0, 64, 42, 180, 0, 101, 58, 4, 25, 4, 198, 0, 53, 45, 44]
abbrev dktJ8_getEntryUsingComparator_0 : List UInt8 := dkwJ8_getEntryUsingComparator_0 ++ dktJ8_getEntryUsingComparator_1
theorem dksJ8_getEntryUsingComparator_0 : cJ8_getEntryUsingComparator.data.toList.drop 0 = dktJ8_getEntryUsingComparator_0 := by decide +kernel
theorem dksJ8_getEntryUsingComparator_1 : cJ8_getEntryUsingComparator.data.toList.drop 24 = dktJ8_getEntryUsingComparator_1 := dk_seg dksJ8_getEntryUsingComparator_0 24 rfl rfl
theorem dksJ8_getEntryUsingComparator_2 : cJ8_getEntryUsingComparator.data.toList.drop 48 = dktJ8_getEntryUsingComparator_2 := dk_seg dksJ8_getEntryUsingComparator_1 24 rfl rfl
theorem dksJ8_getEntryUsingComparator_3 : cJ8_getEntryUsingComparator.data.toList.drop 72 = dktJ8_getEntryUsingComparator_3 := dk_seg dksJ8_getEntryUsingComparator_2 24 rfl rfl
theorem dJ8_getEntryUsingComparator_0 : decode cJ8_getEntryUsingComparator 0 = .ok (.aload_n 1, 1) := dk_43 (dk_at dksJ8_getEntryUsingComparator_0 0 rfl rfl)
theorem dJ8_getEntryUsingComparator_1 : decode cJ8_getEntryUsingComparator 1 = .ok (.astore_n 2, 1) := dk_77 (dk_at dksJ8_getEntryUsingComparator_0 1 rfl rfl)
theorem dJ8_getEntryUsingComparator_2 : decode cJ8_getEntryUsingComparator 2 = .ok (.aload_n 0, 1) := dk_42 (dk_at dksJ8_getEntryUsingComparator_0 2 rfl rfl)
theorem dJ8_getEntryUsingComparator_3 : decode cJ8_getEntryUsingComparator 3 = .ok (.getfield 16, 3) := dk_180 0 16 (dk_at dksJ8_getEntryUsingComparator_0 3 rfl rfl)
theorem dJ8_getEntryUsingComparator_6 : decode cJ8_getEntryUsingComparator 6 = .ok (.astore_n 3, 1) := dk_78 (dk_at dksJ8_getEntryUsingComparator_0 6 rfl rfl)
theorem dJ8_getEntryUsingComparator_7 : decode cJ8_getEntryUsingComparator 7 = .ok (.aload_n 3, 1) := dk_45 (dk_at dksJ8_getEntryUsingComparator_0 7 rfl rfl)
theorem dJ8_getEntryUsingComparator_8 : decode cJ8_getEntryUsingComparator 8 = .ok (.ifnull 64, 3) := dk_198 0 64 (dk_at dksJ8_getEntryUsingComparator_0 8 rfl rfl)
theorem dJ8_getEntryUsingComparator_11 : decode cJ8_getEntryUsingComparator 11 = .ok (.aload_n 0, 1) := dk_42 (dk_at dksJ8_getEntryUsingComparator_0 11 rfl rfl)
theorem dJ8_getEntryUsingComparator_12 : decode cJ8_getEntryUsingComparator 12 = .ok (.getfield 101, 3) := dk_180 0 101 (dk_at dksJ8_getEntryUsingComparator_0 12 rfl rfl)
theorem dJ8_getEntryUsingComparator_15 : decode cJ8_getEntryUsingComparator 15 = .ok (.astore 4, 2) := dk_58 4 (dk_at dksJ8_getEntryUsingComparator_0 15 rfl rfl)
theorem dJ8_getEntryUsingComparator_17 : decode cJ8_getEntryUsingComparator 17 = .ok (.aload 4, 2) := dk_25 4 (dk_at dksJ8_getEntryUsingComparator_0 17 rfl rfl)
theorem dJ8_getEntryUsingComparator_19 : decode cJ8_getEntryUsingComparator 19 = .ok (.ifnull 53, 3) := dk_198 0 53 (dk_at dksJ8_getEntryUsingComparator_0 19 rfl rfl)
theorem dJ8_getEntryUsingComparator_22 : decode cJ8_getEntryUsingComparator 22 = .ok (.aload_n 3, 1) := dk_45 (dk_at dksJ8_getEntryUsingComparator_0 22 rfl rfl)
theorem dJ8_getEntryUsingComparator_23 : decode cJ8_getEntryUsingComparator 23 = .ok (.aload_n 2, 1) := dk_44 (dk_at dksJ8_getEntryUsingComparator_0 23 rfl rfl)
theorem dJ8_getEntryUsingComparator_24 : decode cJ8_getEntryUsingComparator 24 = .ok (.aload 4, 2) := dk_25 4 (dk_at dksJ8_getEntryUsingComparator_1 0 rfl rfl)
theorem dJ8_getEntryUsingComparator_26 : decode cJ8_getEntryUsingComparator 26 = .ok (.getfield 105, 3) := dk_180 0 105 (dk_at dksJ8_getEntryUsingComparator_1 2 rfl rfl)
theorem dJ8_getEntryUsingComparator_29 : decode cJ8_getEntryUsingComparator 29 = .ok (.invokeinterface 117 3, 5) := by decide +kernel
theorem dJ8_getEntryUsingComparator_34 : decode cJ8_getEntryUsingComparator 34 = .ok (.istore 5, 2) := dk_54 5 (dk_at dksJ8_getEntryUsingComparator_1 10 rfl rfl)
theorem dJ8_getEntryUsingComparator_36 : decode cJ8_getEntryUsingComparator 36 = .ok (.iload 5, 2) := dk_21 5 (dk_at dksJ8_getEntryUsingComparator_1 12 rfl rfl)
theorem dJ8_getEntryUsingComparator_38 : decode cJ8_getEntryUsingComparator 38 = .ok (.ifCond .ge 13, 3) := dk_156 0 13 (dk_at dksJ8_getEntryUsingComparator_1 14 rfl rfl)
theorem dJ8_getEntryUsingComparator_41 : decode cJ8_getEntryUsingComparator 41 = .ok (.aload 4, 2) := dk_25 4 (dk_at dksJ8_getEntryUsingComparator_1 17 rfl rfl)
theorem dJ8_getEntryUsingComparator_43 : decode cJ8_getEntryUsingComparator 43 = .ok (.getfield 111, 3) := dk_180 0 111 (dk_at dksJ8_getEntryUsingComparator_1 19 rfl rfl)
theorem dJ8_getEntryUsingComparator_46 : decode cJ8_getEntryUsingComparator 46 = .ok (.astore 4, 2) := dk_58 4 (dk_at dksJ8_getEntryUsingComparator_1 22 rfl rfl)
theorem dJ8_getEntryUsingComparator_48 : decode cJ8_getEntryUsingComparator 48 = .ok (.goto 21, 3) := dk_167 0 21 (dk_at dksJ8_getEntryUsingComparator_2 0 rfl rfl)
theorem dJ8_getEntryUsingComparator_51 : decode cJ8_getEntryUsingComparator 51 = .ok (.iload 5, 2) := dk_21 5 (dk_at dksJ8_getEntryUsingComparator_2 3 rfl rfl)
theorem dJ8_getEntryUsingComparator_53 : decode cJ8_getEntryUsingComparator 53 = .ok (.ifCond .le 13, 3) := dk_158 0 13 (dk_at dksJ8_getEntryUsingComparator_2 5 rfl rfl)
theorem dJ8_getEntryUsingComparator_56 : decode cJ8_getEntryUsingComparator 56 = .ok (.aload 4, 2) := dk_25 4 (dk_at dksJ8_getEntryUsingComparator_2 8 rfl rfl)
theorem dJ8_getEntryUsingComparator_58 : decode cJ8_getEntryUsingComparator 58 = .ok (.getfield 114, 3) := dk_180 0 114 (dk_at dksJ8_getEntryUsingComparator_2 10 rfl rfl)
theorem dJ8_getEntryUsingComparator_61 : decode cJ8_getEntryUsingComparator 61 = .ok (.astore 4, 2) := dk_58 4 (dk_at dksJ8_getEntryUsingComparator_2 13 rfl rfl)
theorem dJ8_getEntryUsingComparator_63 : decode cJ8_getEntryUsingComparator 63 = .ok (.goto 6, 3) := dk_167 0 6 (dk_at dksJ8_getEntryUsingComparator_2 15 rfl rfl)
theorem dJ8_getEntryUsingComparator_66 : decode cJ8_getEntryUsingComparator 66 = .ok (.aload 4, 2) := dk_25 4 (dk_at dksJ8_getEntryUsingComparator_2 18 rfl rfl)
theorem dJ8_getEntryUsingComparator_68 : decode cJ8_getEntryUsingComparator 68 = .ok (.areturn, 1) := dk_176 (dk_at dksJ8_getEntryUsingComparator_2 20 rfl rfl)
theorem dJ8_getEntryUsingComparator_69 : decode cJ8_getEntryUsingComparator 69 = .ok (.goto (-52), 3) := dk_167 255 204 (dk_at dksJ8_getEntryUsingComparator_2 21 rfl rfl)
theorem dJ8_getEntryUsingComparator_72 : decode cJ8_getEntryUsingComparator 72 = .ok (.aconst_null, 1) := dk_1 (dk_at dksJ8_getEntryUsingComparator_3 0 rfl rfl)
theorem dJ8_getEntryUsingComparator_73 : decode cJ8_getEntryUsingComparator 73 = .ok (.areturn, 1) := dk_176 (dk_at dksJ8_getEntryUsingComparator_3 1 rfl rfl)
abbrev cJ8_put : ByteArray := prog_62_method_21_code
def yJ8_put : MethodName := ⟨RJ8, "put", "(Ljava/lang/Object;Ljava/lang/Object;)Ljava/lang/Object;"⟩
def dkwJ8_put_0 : List UInt8 := [42, 43, 44, 4, 182, 0, 127, 176]
abbrev dktJ8_put_0 : List UInt8 := dkwJ8_put_0 ++ []
theorem dksJ8_put_0 : cJ8_put.data.toList.drop 0 = dktJ8_put_0 := by decide +kernel
theorem dJ8_put_0 : decode cJ8_put 0 = .ok (.aload_n 0, 1) := dk_42 (dk_at dksJ8_put_0 0 rfl rfl)
theorem dJ8_put_1 : decode cJ8_put 1 = .ok (.aload_n 1, 1) := dk_43 (dk_at dksJ8_put_0 1 rfl rfl)
theorem dJ8_put_2 : decode cJ8_put 2 = .ok (.aload_n 2, 1) := dk_44 (dk_at dksJ8_put_0 2 rfl rfl)
theorem dJ8_put_3 : decode cJ8_put 3 = .ok (.iconst 1, 1) := dk_4 (dk_at dksJ8_put_0 3 rfl rfl)
theorem dJ8_put_4 : decode cJ8_put 4 = .ok (.invokevirtual 127, 3) := dk_182 0 127 (dk_at dksJ8_put_0 4 rfl rfl)
theorem dJ8_put_7 : decode cJ8_put 7 = .ok (.areturn, 1) := dk_176 (dk_at dksJ8_put_0 7 rfl rfl)
abbrev cJ8_put_2 : ByteArray := prog_62_method_31_code
def yJ8_put_2 : MethodName := ⟨RJ8, "put", "(Ljava/lang/Object;Ljava/lang/Object;Z)Ljava/lang/Object;"⟩
def dkwJ8_put_2_9 : List UInt8 := [4, 167, 0, 4, 3, 182, 0, 139, 1, 176]
abbrev dktJ8_put_2_9 : List UInt8 := dkwJ8_put_2_9 ++ []
def dkwJ8_put_2_8 : List UInt8 := [25, 4, 44, 181, 0, 58, 25, 9, 176, 25, 4, 199, 255, 181, 42, 43, 44, 25, 6, 21, 5, 156, 0, 7]
abbrev dktJ8_put_2_8 : List UInt8 := dkwJ8_put_2_8 ++ dktJ8_put_2_9
def dkwJ8_put_2_7 : List UInt8 := [180, 0, 114, 58, 4, 167, 0, 28, 25, 4, 180, 0, 58, 58, 9, 29, 154, 0, 8, 25, 9, 199, 0, 9]
abbrev dktJ8_put_2_7 : List UInt8 := dkwJ8_put_2_7 ++ dktJ8_put_2_8
def dkwJ8_put_2_6 : List UInt8 := [21, 5, 156, 0, 13, 25, 4, 180, 0, 111, 58, 4, 167, 0, 43, 21, 5, 158, 0, 13, 25, 4]
abbrev dktJ8_put_2_6 : List UInt8 := dkwJ8_put_2_6 ++ dktJ8_put_2_7
def dkwJ8_put_2_5 : List UInt8 := [192, 0, 99, 58, 8, 25, 4, 58, 6, 25, 8, 25, 4, 180, 0, 105, 185, 0, 107, 2, 0, 54, 5]
abbrev dktJ8_put_2_5 : List UInt8 := dkwJ8_put_2_5 ++ dktJ8_put_2_6
def dkwJ8_put_2_4 : List UInt8 := [25, 4, 44, 181, 0, 58, 25, 8, 176, 25, 4, 199, 255, 180, 167, 0, 92, 43, 184, 0, 95, 87, 43]
abbrev dktJ8_put_2_4 : List UInt8 := dkwJ8_put_2_4 ++ dktJ8_put_2_5
def dkwJ8_put_2_3 : List UInt8 := [180, 0, 114, 58, 4, 167, 0, 28, 25, 4, 180, 0, 58, 58, 8, 29, 154, 0, 8, 25, 8, 199, 0, 9]
abbrev dktJ8_put_2_3 : List UInt8 := dkwJ8_put_2_3 ++ dktJ8_put_2_4
def dkwJ8_put_2_2 : List UInt8 := [54, 5, 21, 5, 156, 0, 13, 25, 4, 180, 0, 111, 58, 4, 167, 0, 43, 21, 5, 158, 0, 13, 25, 4]
abbrev dktJ8_put_2_2 : List UInt8 := dkwJ8_put_2_2 ++ dktJ8_put_2_3
def dkwJ8_put_2_1 : List UInt8 := [58, 7, 25, 7, 198, 0, 85, 25, 4, 58, 6, 25, 7, 43, 25, 4, 180, 0, 105, 185, 0, 117, 3, 0]
abbrev dktJ8_put_2_1 : List UInt8 := dkwJ8_put_2_1 ++ dktJ8_put_2_2
def dkwJ8_put_2_0 : List UInt8 := [42, 180, 0, 101, 58, 4, 25, 4, 199, 0, 11, 42, 43, 44, 182, 0, 135, 1, 176, 42, 180, 0, 16]
abbrev dktJ8_put_2_0 : List UInt8 := dkwJ8_put_2_0 ++ dktJ8_put_2_1
theorem dksJ8_put_2_0 : cJ8_put_2.data.toList.drop 0 = dktJ8_put_2_0 := by decide +kernel
theorem dksJ8_put_2_1 : cJ8_put_2.data.toList.drop 23 = dktJ8_put_2_1 := dk_seg dksJ8_put_2_0 23 rfl rfl
theorem dksJ8_put_2_2 : cJ8_put_2.data.toList.drop 47 = dktJ8_put_2_2 := dk_seg dksJ8_put_2_1 24 rfl rfl
theorem dksJ8_put_2_3 : cJ8_put_2.data.toList.drop 71 = dktJ8_put_2_3 := dk_seg dksJ8_put_2_2 24 rfl rfl
theorem dksJ8_put_2_4 : cJ8_put_2.data.toList.drop 95 = dktJ8_put_2_4 := dk_seg dksJ8_put_2_3 24 rfl rfl
theorem dksJ8_put_2_5 : cJ8_put_2.data.toList.drop 118 = dktJ8_put_2_5 := dk_seg dksJ8_put_2_4 23 rfl rfl
theorem dksJ8_put_2_6 : cJ8_put_2.data.toList.drop 141 = dktJ8_put_2_6 := dk_seg dksJ8_put_2_5 23 rfl rfl
theorem dksJ8_put_2_7 : cJ8_put_2.data.toList.drop 163 = dktJ8_put_2_7 := dk_seg dksJ8_put_2_6 22 rfl rfl
theorem dksJ8_put_2_8 : cJ8_put_2.data.toList.drop 187 = dktJ8_put_2_8 := dk_seg dksJ8_put_2_7 24 rfl rfl
theorem dksJ8_put_2_9 : cJ8_put_2.data.toList.drop 211 = dktJ8_put_2_9 := dk_seg dksJ8_put_2_8 24 rfl rfl
theorem dJ8_put_2_0 : decode cJ8_put_2 0 = .ok (.aload_n 0, 1) := dk_42 (dk_at dksJ8_put_2_0 0 rfl rfl)
theorem dJ8_put_2_1 : decode cJ8_put_2 1 = .ok (.getfield 101, 3) := dk_180 0 101 (dk_at dksJ8_put_2_0 1 rfl rfl)
theorem dJ8_put_2_4 : decode cJ8_put_2 4 = .ok (.astore 4, 2) := dk_58 4 (dk_at dksJ8_put_2_0 4 rfl rfl)
theorem dJ8_put_2_6 : decode cJ8_put_2 6 = .ok (.aload 4, 2) := dk_25 4 (dk_at dksJ8_put_2_0 6 rfl rfl)
theorem dJ8_put_2_8 : decode cJ8_put_2 8 = .ok (.ifnonnull 11, 3) := dk_199 0 11 (dk_at dksJ8_put_2_0 8 rfl rfl)
theorem dJ8_put_2_11 : decode cJ8_put_2 11 = .ok (.aload_n 0, 1) := dk_42 (dk_at dksJ8_put_2_0 11 rfl rfl)
theorem dJ8_put_2_12 : decode cJ8_put_2 12 = .ok (.aload_n 1, 1) := dk_43 (dk_at dksJ8_put_2_0 12 rfl rfl)
theorem dJ8_put_2_13 : decode cJ8_put_2 13 = .ok (.aload_n 2, 1) := dk_44 (dk_at dksJ8_put_2_0 13 rfl rfl)
theorem dJ8_put_2_14 : decode cJ8_put_2 14 = .ok (.invokevirtual 135, 3) := dk_182 0 135 (dk_at dksJ8_put_2_0 14 rfl rfl)
theorem dJ8_put_2_17 : decode cJ8_put_2 17 = .ok (.aconst_null, 1) := dk_1 (dk_at dksJ8_put_2_0 17 rfl rfl)
theorem dJ8_put_2_18 : decode cJ8_put_2 18 = .ok (.areturn, 1) := dk_176 (dk_at dksJ8_put_2_0 18 rfl rfl)
theorem dJ8_put_2_19 : decode cJ8_put_2 19 = .ok (.aload_n 0, 1) := dk_42 (dk_at dksJ8_put_2_0 19 rfl rfl)
theorem dJ8_put_2_20 : decode cJ8_put_2 20 = .ok (.getfield 16, 3) := dk_180 0 16 (dk_at dksJ8_put_2_0 20 rfl rfl)
theorem dJ8_put_2_23 : decode cJ8_put_2 23 = .ok (.astore 7, 2) := dk_58 7 (dk_at dksJ8_put_2_1 0 rfl rfl)
theorem dJ8_put_2_25 : decode cJ8_put_2 25 = .ok (.aload 7, 2) := dk_25 7 (dk_at dksJ8_put_2_1 2 rfl rfl)
theorem dJ8_put_2_27 : decode cJ8_put_2 27 = .ok (.ifnull 85, 3) := dk_198 0 85 (dk_at dksJ8_put_2_1 4 rfl rfl)
theorem dJ8_put_2_30 : decode cJ8_put_2 30 = .ok (.aload 4, 2) := dk_25 4 (dk_at dksJ8_put_2_1 7 rfl rfl)
theorem dJ8_put_2_32 : decode cJ8_put_2 32 = .ok (.astore 6, 2) := dk_58 6 (dk_at dksJ8_put_2_1 9 rfl rfl)
theorem dJ8_put_2_34 : decode cJ8_put_2 34 = .ok (.aload 7, 2) := dk_25 7 (dk_at dksJ8_put_2_1 11 rfl rfl)
theorem dJ8_put_2_36 : decode cJ8_put_2 36 = .ok (.aload_n 1, 1) := dk_43 (dk_at dksJ8_put_2_1 13 rfl rfl)
theorem dJ8_put_2_37 : decode cJ8_put_2 37 = .ok (.aload 4, 2) := dk_25 4 (dk_at dksJ8_put_2_1 14 rfl rfl)
theorem dJ8_put_2_39 : decode cJ8_put_2 39 = .ok (.getfield 105, 3) := dk_180 0 105 (dk_at dksJ8_put_2_1 16 rfl rfl)
theorem dJ8_put_2_42 : decode cJ8_put_2 42 = .ok (.invokeinterface 117 3, 5) := by decide +kernel
theorem dJ8_put_2_47 : decode cJ8_put_2 47 = .ok (.istore 5, 2) := dk_54 5 (dk_at dksJ8_put_2_2 0 rfl rfl)
theorem dJ8_put_2_49 : decode cJ8_put_2 49 = .ok (.iload 5, 2) := dk_21 5 (dk_at dksJ8_put_2_2 2 rfl rfl)
theorem dJ8_put_2_51 : decode cJ8_put_2 51 = .ok (.ifCond .ge 13, 3) := dk_156 0 13 (dk_at dksJ8_put_2_2 4 rfl rfl)
theorem dJ8_put_2_54 : decode cJ8_put_2 54 = .ok (.aload 4, 2) := dk_25 4 (dk_at dksJ8_put_2_2 7 rfl rfl)
theorem dJ8_put_2_56 : decode cJ8_put_2 56 = .ok (.getfield 111, 3) := dk_180 0 111 (dk_at dksJ8_put_2_2 9 rfl rfl)
theorem dJ8_put_2_59 : decode cJ8_put_2 59 = .ok (.astore 4, 2) := dk_58 4 (dk_at dksJ8_put_2_2 12 rfl rfl)
theorem dJ8_put_2_61 : decode cJ8_put_2 61 = .ok (.goto 43, 3) := dk_167 0 43 (dk_at dksJ8_put_2_2 14 rfl rfl)
theorem dJ8_put_2_64 : decode cJ8_put_2 64 = .ok (.iload 5, 2) := dk_21 5 (dk_at dksJ8_put_2_2 17 rfl rfl)
theorem dJ8_put_2_66 : decode cJ8_put_2 66 = .ok (.ifCond .le 13, 3) := dk_158 0 13 (dk_at dksJ8_put_2_2 19 rfl rfl)
theorem dJ8_put_2_69 : decode cJ8_put_2 69 = .ok (.aload 4, 2) := dk_25 4 (dk_at dksJ8_put_2_2 22 rfl rfl)
theorem dJ8_put_2_71 : decode cJ8_put_2 71 = .ok (.getfield 114, 3) := dk_180 0 114 (dk_at dksJ8_put_2_3 0 rfl rfl)
theorem dJ8_put_2_74 : decode cJ8_put_2 74 = .ok (.astore 4, 2) := dk_58 4 (dk_at dksJ8_put_2_3 3 rfl rfl)
theorem dJ8_put_2_76 : decode cJ8_put_2 76 = .ok (.goto 28, 3) := dk_167 0 28 (dk_at dksJ8_put_2_3 5 rfl rfl)
theorem dJ8_put_2_79 : decode cJ8_put_2 79 = .ok (.aload 4, 2) := dk_25 4 (dk_at dksJ8_put_2_3 8 rfl rfl)
theorem dJ8_put_2_81 : decode cJ8_put_2 81 = .ok (.getfield 58, 3) := dk_180 0 58 (dk_at dksJ8_put_2_3 10 rfl rfl)
theorem dJ8_put_2_84 : decode cJ8_put_2 84 = .ok (.astore 8, 2) := dk_58 8 (dk_at dksJ8_put_2_3 13 rfl rfl)
theorem dJ8_put_2_86 : decode cJ8_put_2 86 = .ok (.iload_n 3, 1) := dk_29 (dk_at dksJ8_put_2_3 15 rfl rfl)
theorem dJ8_put_2_87 : decode cJ8_put_2 87 = .ok (.ifCond .ne 8, 3) := dk_154 0 8 (dk_at dksJ8_put_2_3 16 rfl rfl)
theorem dJ8_put_2_90 : decode cJ8_put_2 90 = .ok (.aload 8, 2) := dk_25 8 (dk_at dksJ8_put_2_3 19 rfl rfl)
theorem dJ8_put_2_92 : decode cJ8_put_2 92 = .ok (.ifnonnull 9, 3) := dk_199 0 9 (dk_at dksJ8_put_2_3 21 rfl rfl)
theorem dJ8_put_2_95 : decode cJ8_put_2 95 = .ok (.aload 4, 2) := dk_25 4 (dk_at dksJ8_put_2_4 0 rfl rfl)
theorem dJ8_put_2_97 : decode cJ8_put_2 97 = .ok (.aload_n 2, 1) := dk_44 (dk_at dksJ8_put_2_4 2 rfl rfl)
theorem dJ8_put_2_98 : decode cJ8_put_2 98 = .ok (.putfield 58, 3) := dk_181 0 58 (dk_at dksJ8_put_2_4 3 rfl rfl)
theorem dJ8_put_2_101 : decode cJ8_put_2 101 = .ok (.aload 8, 2) := dk_25 8 (dk_at dksJ8_put_2_4 6 rfl rfl)
theorem dJ8_put_2_103 : decode cJ8_put_2 103 = .ok (.areturn, 1) := dk_176 (dk_at dksJ8_put_2_4 8 rfl rfl)
theorem dJ8_put_2_104 : decode cJ8_put_2 104 = .ok (.aload 4, 2) := dk_25 4 (dk_at dksJ8_put_2_4 9 rfl rfl)
theorem dJ8_put_2_106 : decode cJ8_put_2 106 = .ok (.ifnonnull (-76), 3) := dk_199 255 180 (dk_at dksJ8_put_2_4 11 rfl rfl)
theorem dJ8_put_2_109 : decode cJ8_put_2 109 = .ok (.goto 92, 3) := dk_167 0 92 (dk_at dksJ8_put_2_4 14 rfl rfl)
theorem dJ8_put_2_112 : decode cJ8_put_2 112 = .ok (.aload_n 1, 1) := dk_43 (dk_at dksJ8_put_2_4 17 rfl rfl)
theorem dJ8_put_2_113 : decode cJ8_put_2 113 = .ok (.invokestatic 95, 3) := dk_184 0 95 (dk_at dksJ8_put_2_4 18 rfl rfl)
theorem dJ8_put_2_116 : decode cJ8_put_2 116 = .ok (.pop, 1) := dk_87 (dk_at dksJ8_put_2_4 21 rfl rfl)
theorem dJ8_put_2_117 : decode cJ8_put_2 117 = .ok (.aload_n 1, 1) := dk_43 (dk_at dksJ8_put_2_4 22 rfl rfl)
theorem dJ8_put_2_118 : decode cJ8_put_2 118 = .ok (.checkcast 99, 3) := dk_192 0 99 (dk_at dksJ8_put_2_5 0 rfl rfl)
theorem dJ8_put_2_121 : decode cJ8_put_2 121 = .ok (.astore 8, 2) := dk_58 8 (dk_at dksJ8_put_2_5 3 rfl rfl)
theorem dJ8_put_2_123 : decode cJ8_put_2 123 = .ok (.aload 4, 2) := dk_25 4 (dk_at dksJ8_put_2_5 5 rfl rfl)
theorem dJ8_put_2_125 : decode cJ8_put_2 125 = .ok (.astore 6, 2) := dk_58 6 (dk_at dksJ8_put_2_5 7 rfl rfl)
theorem dJ8_put_2_127 : decode cJ8_put_2 127 = .ok (.aload 8, 2) := dk_25 8 (dk_at dksJ8_put_2_5 9 rfl rfl)
theorem dJ8_put_2_129 : decode cJ8_put_2 129 = .ok (.aload 4, 2) := dk_25 4 (dk_at dksJ8_put_2_5 11 rfl rfl)
theorem dJ8_put_2_131 : decode cJ8_put_2 131 = .ok (.getfield 105, 3) := dk_180 0 105 (dk_at dksJ8_put_2_5 13 rfl rfl)
theorem dJ8_put_2_134 : decode cJ8_put_2 134 = .ok (.invokeinterface 107 2, 5) := by decide +kernel
theorem dJ8_put_2_139 : decode cJ8_put_2 139 = .ok (.istore 5, 2) := dk_54 5 (dk_at dksJ8_put_2_5 21 rfl rfl)
theorem dJ8_put_2_141 : decode cJ8_put_2 141 = .ok (.iload 5, 2) := dk_21 5 (dk_at dksJ8_put_2_6 0 rfl rfl)
theorem dJ8_put_2_143 : decode cJ8_put_2 143 = .ok (.ifCond .ge 13, 3) := dk_156 0 13 (dk_at dksJ8_put_2_6 2 rfl rfl)
theorem dJ8_put_2_146 : decode cJ8_put_2 146 = .ok (.aload 4, 2) := dk_25 4 (dk_at dksJ8_put_2_6 5 rfl rfl)
theorem dJ8_put_2_148 : decode cJ8_put_2 148 = .ok (.getfield 111, 3) := dk_180 0 111 (dk_at dksJ8_put_2_6 7 rfl rfl)
theorem dJ8_put_2_151 : decode cJ8_put_2 151 = .ok (.astore 4, 2) := dk_58 4 (dk_at dksJ8_put_2_6 10 rfl rfl)
theorem dJ8_put_2_153 : decode cJ8_put_2 153 = .ok (.goto 43, 3) := dk_167 0 43 (dk_at dksJ8_put_2_6 12 rfl rfl)
theorem dJ8_put_2_156 : decode cJ8_put_2 156 = .ok (.iload 5, 2) := dk_21 5 (dk_at dksJ8_put_2_6 15 rfl rfl)
theorem dJ8_put_2_158 : decode cJ8_put_2 158 = .ok (.ifCond .le 13, 3) := dk_158 0 13 (dk_at dksJ8_put_2_6 17 rfl rfl)
theorem dJ8_put_2_161 : decode cJ8_put_2 161 = .ok (.aload 4, 2) := dk_25 4 (dk_at dksJ8_put_2_6 20 rfl rfl)
theorem dJ8_put_2_163 : decode cJ8_put_2 163 = .ok (.getfield 114, 3) := dk_180 0 114 (dk_at dksJ8_put_2_7 0 rfl rfl)
theorem dJ8_put_2_166 : decode cJ8_put_2 166 = .ok (.astore 4, 2) := dk_58 4 (dk_at dksJ8_put_2_7 3 rfl rfl)
theorem dJ8_put_2_168 : decode cJ8_put_2 168 = .ok (.goto 28, 3) := dk_167 0 28 (dk_at dksJ8_put_2_7 5 rfl rfl)
theorem dJ8_put_2_171 : decode cJ8_put_2 171 = .ok (.aload 4, 2) := dk_25 4 (dk_at dksJ8_put_2_7 8 rfl rfl)
theorem dJ8_put_2_173 : decode cJ8_put_2 173 = .ok (.getfield 58, 3) := dk_180 0 58 (dk_at dksJ8_put_2_7 10 rfl rfl)
theorem dJ8_put_2_176 : decode cJ8_put_2 176 = .ok (.astore 9, 2) := dk_58 9 (dk_at dksJ8_put_2_7 13 rfl rfl)
theorem dJ8_put_2_178 : decode cJ8_put_2 178 = .ok (.iload_n 3, 1) := dk_29 (dk_at dksJ8_put_2_7 15 rfl rfl)
theorem dJ8_put_2_179 : decode cJ8_put_2 179 = .ok (.ifCond .ne 8, 3) := dk_154 0 8 (dk_at dksJ8_put_2_7 16 rfl rfl)
theorem dJ8_put_2_182 : decode cJ8_put_2 182 = .ok (.aload 9, 2) := dk_25 9 (dk_at dksJ8_put_2_7 19 rfl rfl)
theorem dJ8_put_2_184 : decode cJ8_put_2 184 = .ok (.ifnonnull 9, 3) := dk_199 0 9 (dk_at dksJ8_put_2_7 21 rfl rfl)
theorem dJ8_put_2_187 : decode cJ8_put_2 187 = .ok (.aload 4, 2) := dk_25 4 (dk_at dksJ8_put_2_8 0 rfl rfl)
theorem dJ8_put_2_189 : decode cJ8_put_2 189 = .ok (.aload_n 2, 1) := dk_44 (dk_at dksJ8_put_2_8 2 rfl rfl)
theorem dJ8_put_2_190 : decode cJ8_put_2 190 = .ok (.putfield 58, 3) := dk_181 0 58 (dk_at dksJ8_put_2_8 3 rfl rfl)
theorem dJ8_put_2_193 : decode cJ8_put_2 193 = .ok (.aload 9, 2) := dk_25 9 (dk_at dksJ8_put_2_8 6 rfl rfl)
theorem dJ8_put_2_195 : decode cJ8_put_2 195 = .ok (.areturn, 1) := dk_176 (dk_at dksJ8_put_2_8 8 rfl rfl)
theorem dJ8_put_2_196 : decode cJ8_put_2 196 = .ok (.aload 4, 2) := dk_25 4 (dk_at dksJ8_put_2_8 9 rfl rfl)
theorem dJ8_put_2_198 : decode cJ8_put_2 198 = .ok (.ifnonnull (-75), 3) := dk_199 255 181 (dk_at dksJ8_put_2_8 11 rfl rfl)
theorem dJ8_put_2_201 : decode cJ8_put_2 201 = .ok (.aload_n 0, 1) := dk_42 (dk_at dksJ8_put_2_8 14 rfl rfl)
theorem dJ8_put_2_202 : decode cJ8_put_2 202 = .ok (.aload_n 1, 1) := dk_43 (dk_at dksJ8_put_2_8 15 rfl rfl)
theorem dJ8_put_2_203 : decode cJ8_put_2 203 = .ok (.aload_n 2, 1) := dk_44 (dk_at dksJ8_put_2_8 16 rfl rfl)
theorem dJ8_put_2_204 : decode cJ8_put_2 204 = .ok (.aload 6, 2) := dk_25 6 (dk_at dksJ8_put_2_8 17 rfl rfl)
theorem dJ8_put_2_206 : decode cJ8_put_2 206 = .ok (.iload 5, 2) := dk_21 5 (dk_at dksJ8_put_2_8 19 rfl rfl)
theorem dJ8_put_2_208 : decode cJ8_put_2 208 = .ok (.ifCond .ge 7, 3) := dk_156 0 7 (dk_at dksJ8_put_2_8 21 rfl rfl)
theorem dJ8_put_2_211 : decode cJ8_put_2 211 = .ok (.iconst 1, 1) := dk_4 (dk_at dksJ8_put_2_9 0 rfl rfl)
theorem dJ8_put_2_212 : decode cJ8_put_2 212 = .ok (.goto 4, 3) := dk_167 0 4 (dk_at dksJ8_put_2_9 1 rfl rfl)
theorem dJ8_put_2_215 : decode cJ8_put_2 215 = .ok (.iconst 0, 1) := dk_3 (dk_at dksJ8_put_2_9 4 rfl rfl)
theorem dJ8_put_2_216 : decode cJ8_put_2 216 = .ok (.invokevirtual 139, 3) := dk_182 0 139 (dk_at dksJ8_put_2_9 5 rfl rfl)
theorem dJ8_put_2_219 : decode cJ8_put_2 219 = .ok (.aconst_null, 1) := dk_1 (dk_at dksJ8_put_2_9 8 rfl rfl)
theorem dJ8_put_2_220 : decode cJ8_put_2 220 = .ok (.areturn, 1) := dk_176 (dk_at dksJ8_put_2_9 9 rfl rfl)
abbrev cJ8_addEntryToEmptyMap : ByteArray := prog_62_method_30_code
def yJ8_addEntryToEmptyMap : MethodName := ⟨RJ8, "addEntryToEmptyMap", "(Ljava/lang/Object;Ljava/lang/Object;)V"⟩
def dkwJ8_addEntryToEmptyMap_1 : List UInt8 := [181, 0, 7, 42, 89, 180, 0, 13, 4, 96, 181, 0, 13, 177]
abbrev dktJ8_addEntryToEmptyMap_1 : List UInt8 := dkwJ8_addEntryToEmptyMap_1 ++ []
def dkwJ8_addEntryToEmptyMap_0 : List UInt8 := [42, 43, 43, 182, 0, 123, 87, 42, 187, 0, 59, 89, 43, 44, 1, 183, 0, 167, 181, 0, 101, 42, 4]
abbrev dktJ8_addEntryToEmptyMap_0 : List UInt8 := dkwJ8_addEntryToEmptyMap_0 ++ dktJ8_addEntryToEmptyMap_1
theorem dksJ8_addEntryToEmptyMap_0 : cJ8_addEntryToEmptyMap.data.toList.drop 0 = dktJ8_addEntryToEmptyMap_0 := by decide +kernel
theorem dksJ8_addEntryToEmptyMap_1 : cJ8_addEntryToEmptyMap.data.toList.drop 23 = dktJ8_addEntryToEmptyMap_1 := dk_seg dksJ8_addEntryToEmptyMap_0 23 rfl rfl
theorem dJ8_addEntryToEmptyMap_0 : decode cJ8_addEntryToEmptyMap 0 = .ok (.aload_n 0, 1) := dk_42 (dk_at dksJ8_addEntryToEmptyMap_0 0 rfl rfl)
theorem dJ8_addEntryToEmptyMap_1 : decode cJ8_addEntryToEmptyMap 1 = .ok (.aload_n 1, 1) := dk_43 (dk_at dksJ8_addEntryToEmptyMap_0 1 rfl rfl)
theorem dJ8_addEntryToEmptyMap_2 : decode cJ8_addEntryToEmptyMap 2 = .ok (.aload_n 1, 1) := dk_43 (dk_at dksJ8_addEntryToEmptyMap_0 2 rfl rfl)
theorem dJ8_addEntryToEmptyMap_3 : decode cJ8_addEntryToEmptyMap 3 = .ok (.invokevirtual 123, 3) := dk_182 0 123 (dk_at dksJ8_addEntryToEmptyMap_0 3 rfl rfl)
theorem dJ8_addEntryToEmptyMap_6 : decode cJ8_addEntryToEmptyMap 6 = .ok (.pop, 1) := dk_87 (dk_at dksJ8_addEntryToEmptyMap_0 6 rfl rfl)
theorem dJ8_addEntryToEmptyMap_7 : decode cJ8_addEntryToEmptyMap 7 = .ok (.aload_n 0, 1) := dk_42 (dk_at dksJ8_addEntryToEmptyMap_0 7 rfl rfl)
theorem dJ8_addEntryToEmptyMap_8 : decode cJ8_addEntryToEmptyMap 8 = .ok (.new 59, 3) := dk_187 0 59 (dk_at dksJ8_addEntryToEmptyMap_0 8 rfl rfl)
theorem dJ8_addEntryToEmptyMap_11 : decode cJ8_addEntryToEmptyMap 11 = .ok (.dup, 1) := dk_89 (dk_at dksJ8_addEntryToEmptyMap_0 11 rfl rfl)
theorem dJ8_addEntryToEmptyMap_12 : decode cJ8_addEntryToEmptyMap 12 = .ok (.aload_n 1, 1) := dk_43 (dk_at dksJ8_addEntryToEmptyMap_0 12 rfl rfl)
theorem dJ8_addEntryToEmptyMap_13 : decode cJ8_addEntryToEmptyMap 13 = .ok (.aload_n 2, 1) := dk_44 (dk_at dksJ8_addEntryToEmptyMap_0 13 rfl rfl)
theorem dJ8_addEntryToEmptyMap_14 : decode cJ8_addEntryToEmptyMap 14 = .ok (.aconst_null, 1) := dk_1 (dk_at dksJ8_addEntryToEmptyMap_0 14 rfl rfl)
theorem dJ8_addEntryToEmptyMap_15 : decode cJ8_addEntryToEmptyMap 15 = .ok (.invokespecial 167, 3) := dk_183 0 167 (dk_at dksJ8_addEntryToEmptyMap_0 15 rfl rfl)
theorem dJ8_addEntryToEmptyMap_18 : decode cJ8_addEntryToEmptyMap 18 = .ok (.putfield 101, 3) := dk_181 0 101 (dk_at dksJ8_addEntryToEmptyMap_0 18 rfl rfl)
theorem dJ8_addEntryToEmptyMap_21 : decode cJ8_addEntryToEmptyMap 21 = .ok (.aload_n 0, 1) := dk_42 (dk_at dksJ8_addEntryToEmptyMap_0 21 rfl rfl)
theorem dJ8_addEntryToEmptyMap_22 : decode cJ8_addEntryToEmptyMap 22 = .ok (.iconst 1, 1) := dk_4 (dk_at dksJ8_addEntryToEmptyMap_0 22 rfl rfl)
theorem dJ8_addEntryToEmptyMap_23 : decode cJ8_addEntryToEmptyMap 23 = .ok (.putfield 7, 3) := dk_181 0 7 (dk_at dksJ8_addEntryToEmptyMap_1 0 rfl rfl)
theorem dJ8_addEntryToEmptyMap_26 : decode cJ8_addEntryToEmptyMap 26 = .ok (.aload_n 0, 1) := dk_42 (dk_at dksJ8_addEntryToEmptyMap_1 3 rfl rfl)
theorem dJ8_addEntryToEmptyMap_27 : decode cJ8_addEntryToEmptyMap 27 = .ok (.dup, 1) := dk_89 (dk_at dksJ8_addEntryToEmptyMap_1 4 rfl rfl)
theorem dJ8_addEntryToEmptyMap_28 : decode cJ8_addEntryToEmptyMap 28 = .ok (.getfield 13, 3) := dk_180 0 13 (dk_at dksJ8_addEntryToEmptyMap_1 5 rfl rfl)
theorem dJ8_addEntryToEmptyMap_31 : decode cJ8_addEntryToEmptyMap 31 = .ok (.iconst 1, 1) := dk_4 (dk_at dksJ8_addEntryToEmptyMap_1 8 rfl rfl)
theorem dJ8_addEntryToEmptyMap_32 : decode cJ8_addEntryToEmptyMap 32 = .ok (.iadd, 1) := dk_96 (dk_at dksJ8_addEntryToEmptyMap_1 9 rfl rfl)
theorem dJ8_addEntryToEmptyMap_33 : decode cJ8_addEntryToEmptyMap 33 = .ok (.putfield 13, 3) := dk_181 0 13 (dk_at dksJ8_addEntryToEmptyMap_1 10 rfl rfl)
theorem dJ8_addEntryToEmptyMap_36 : decode cJ8_addEntryToEmptyMap 36 = .ok (.return_, 1) := dk_177 (dk_at dksJ8_addEntryToEmptyMap_1 13 rfl rfl)
abbrev cJ8_compare : ByteArray := prog_62_method_67_code
def yJ8_compare : MethodName := ⟨RJ8, "compare", "(Ljava/lang/Object;Ljava/lang/Object;)I"⟩
def dkwJ8_compare_1 : List UInt8 := [43, 44, 185, 0, 117, 3, 0, 172]
abbrev dktJ8_compare_1 : List UInt8 := dkwJ8_compare_1 ++ []
def dkwJ8_compare_0 : List UInt8 := [42, 180, 0, 16, 199, 0, 16, 43, 192, 0, 99, 44, 185, 0, 107, 2, 0, 167, 0, 14, 42, 180, 0, 16]
abbrev dktJ8_compare_0 : List UInt8 := dkwJ8_compare_0 ++ dktJ8_compare_1
theorem dksJ8_compare_0 : cJ8_compare.data.toList.drop 0 = dktJ8_compare_0 := by decide +kernel
theorem dksJ8_compare_1 : cJ8_compare.data.toList.drop 24 = dktJ8_compare_1 := dk_seg dksJ8_compare_0 24 rfl rfl
theorem dJ8_compare_0 : decode cJ8_compare 0 = .ok (.aload_n 0, 1) := dk_42 (dk_at dksJ8_compare_0 0 rfl rfl)
theorem dJ8_compare_1 : decode cJ8_compare 1 = .ok (.getfield 16, 3) := dk_180 0 16 (dk_at dksJ8_compare_0 1 rfl rfl)
theorem dJ8_compare_4 : decode cJ8_compare 4 = .ok (.ifnonnull 16, 3) := dk_199 0 16 (dk_at dksJ8_compare_0 4 rfl rfl)
theorem dJ8_compare_7 : decode cJ8_compare 7 = .ok (.aload_n 1, 1) := dk_43 (dk_at dksJ8_compare_0 7 rfl rfl)
theorem dJ8_compare_8 : decode cJ8_compare 8 = .ok (.checkcast 99, 3) := dk_192 0 99 (dk_at dksJ8_compare_0 8 rfl rfl)
theorem dJ8_compare_11 : decode cJ8_compare 11 = .ok (.aload_n 2, 1) := dk_44 (dk_at dksJ8_compare_0 11 rfl rfl)
theorem dJ8_compare_12 : decode cJ8_compare 12 = .ok (.invokeinterface 107 2, 5) := by decide +kernel
theorem dJ8_compare_17 : decode cJ8_compare 17 = .ok (.goto 14, 3) := dk_167 0 14 (dk_at dksJ8_compare_0 17 rfl rfl)
theorem dJ8_compare_20 : decode cJ8_compare 20 = .ok (.aload_n 0, 1) := dk_42 (dk_at dksJ8_compare_0 20 rfl rfl)
theorem dJ8_compare_21 : decode cJ8_compare 21 = .ok (.getfield 16, 3) := dk_180 0 16 (dk_at dksJ8_compare_0 21 rfl rfl)
theorem dJ8_compare_24 : decode cJ8_compare 24 = .ok (.aload_n 1, 1) := dk_43 (dk_at dksJ8_compare_1 0 rfl rfl)
theorem dJ8_compare_25 : decode cJ8_compare 25 = .ok (.aload_n 2, 1) := dk_44 (dk_at dksJ8_compare_1 1 rfl rfl)
theorem dJ8_compare_26 : decode cJ8_compare 26 = .ok (.invokeinterface 117 3, 5) := by decide +kernel
theorem dJ8_compare_31 : decode cJ8_compare 31 = .ok (.ireturn, 1) := dk_172 (dk_at dksJ8_compare_1 7 rfl rfl)
abbrev cJ8_addEntry : ByteArray := prog_62_method_29_code
def yJ8_addEntry : MethodName := ⟨RJ8, "addEntry", "(Ljava/lang/Object;Ljava/lang/Object;Ljava/util/TreeMap$Entry;Z)V"⟩
def dkwJ8_addEntry_2 : List UInt8 := [181, 0, 7, 42, 89, 180, 0, 13, 4, 96, 181, 0, 13, 177]
abbrev dktJ8_addEntry_2 : List UInt8 := dkwJ8_addEntry_2 ++ []
def dkwJ8_addEntry_1 : List UInt8 := [167, 0, 9, 45, 25, 5, 181, 0, 114, 42, 25, 5, 182, 0, 170, 42, 89, 180, 0, 7, 4, 96]
abbrev dktJ8_addEntry_1 : List UInt8 := dkwJ8_addEntry_1 ++ dktJ8_addEntry_2
def dkwJ8_addEntry_0 : List UInt8 := [187, 0, 59, 89, 43, 44, 45, 183, 0, 167, 58, 5, 21, 4, 153, 0, 12, 45, 25, 5, 181, 0, 111]
abbrev dktJ8_addEntry_0 : List UInt8 := dkwJ8_addEntry_0 ++ dktJ8_addEntry_1
theorem dksJ8_addEntry_0 : cJ8_addEntry.data.toList.drop 0 = dktJ8_addEntry_0 := by decide +kernel
theorem dksJ8_addEntry_1 : cJ8_addEntry.data.toList.drop 23 = dktJ8_addEntry_1 := dk_seg dksJ8_addEntry_0 23 rfl rfl
theorem dksJ8_addEntry_2 : cJ8_addEntry.data.toList.drop 45 = dktJ8_addEntry_2 := dk_seg dksJ8_addEntry_1 22 rfl rfl
theorem dJ8_addEntry_0 : decode cJ8_addEntry 0 = .ok (.new 59, 3) := dk_187 0 59 (dk_at dksJ8_addEntry_0 0 rfl rfl)
theorem dJ8_addEntry_3 : decode cJ8_addEntry 3 = .ok (.dup, 1) := dk_89 (dk_at dksJ8_addEntry_0 3 rfl rfl)
theorem dJ8_addEntry_4 : decode cJ8_addEntry 4 = .ok (.aload_n 1, 1) := dk_43 (dk_at dksJ8_addEntry_0 4 rfl rfl)
theorem dJ8_addEntry_5 : decode cJ8_addEntry 5 = .ok (.aload_n 2, 1) := dk_44 (dk_at dksJ8_addEntry_0 5 rfl rfl)
theorem dJ8_addEntry_6 : decode cJ8_addEntry 6 = .ok (.aload_n 3, 1) := dk_45 (dk_at dksJ8_addEntry_0 6 rfl rfl)
theorem dJ8_addEntry_7 : decode cJ8_addEntry 7 = .ok (.invokespecial 167, 3) := dk_183 0 167 (dk_at dksJ8_addEntry_0 7 rfl rfl)
theorem dJ8_addEntry_10 : decode cJ8_addEntry 10 = .ok (.astore 5, 2) := dk_58 5 (dk_at dksJ8_addEntry_0 10 rfl rfl)
theorem dJ8_addEntry_12 : decode cJ8_addEntry 12 = .ok (.iload 4, 2) := dk_21 4 (dk_at dksJ8_addEntry_0 12 rfl rfl)
theorem dJ8_addEntry_14 : decode cJ8_addEntry 14 = .ok (.ifCond .eq 12, 3) := dk_153 0 12 (dk_at dksJ8_addEntry_0 14 rfl rfl)
theorem dJ8_addEntry_17 : decode cJ8_addEntry 17 = .ok (.aload_n 3, 1) := dk_45 (dk_at dksJ8_addEntry_0 17 rfl rfl)
theorem dJ8_addEntry_18 : decode cJ8_addEntry 18 = .ok (.aload 5, 2) := dk_25 5 (dk_at dksJ8_addEntry_0 18 rfl rfl)
theorem dJ8_addEntry_20 : decode cJ8_addEntry 20 = .ok (.putfield 111, 3) := dk_181 0 111 (dk_at dksJ8_addEntry_0 20 rfl rfl)
theorem dJ8_addEntry_23 : decode cJ8_addEntry 23 = .ok (.goto 9, 3) := dk_167 0 9 (dk_at dksJ8_addEntry_1 0 rfl rfl)
theorem dJ8_addEntry_26 : decode cJ8_addEntry 26 = .ok (.aload_n 3, 1) := dk_45 (dk_at dksJ8_addEntry_1 3 rfl rfl)
theorem dJ8_addEntry_27 : decode cJ8_addEntry 27 = .ok (.aload 5, 2) := dk_25 5 (dk_at dksJ8_addEntry_1 4 rfl rfl)
theorem dJ8_addEntry_29 : decode cJ8_addEntry 29 = .ok (.putfield 114, 3) := dk_181 0 114 (dk_at dksJ8_addEntry_1 6 rfl rfl)
theorem dJ8_addEntry_32 : decode cJ8_addEntry 32 = .ok (.aload_n 0, 1) := dk_42 (dk_at dksJ8_addEntry_1 9 rfl rfl)
theorem dJ8_addEntry_33 : decode cJ8_addEntry 33 = .ok (.aload 5, 2) := dk_25 5 (dk_at dksJ8_addEntry_1 10 rfl rfl)
theorem dJ8_addEntry_35 : decode cJ8_addEntry 35 = .ok (.invokevirtual 170, 3) := dk_182 0 170 (dk_at dksJ8_addEntry_1 12 rfl rfl)
theorem dJ8_addEntry_38 : decode cJ8_addEntry 38 = .ok (.aload_n 0, 1) := dk_42 (dk_at dksJ8_addEntry_1 15 rfl rfl)
theorem dJ8_addEntry_39 : decode cJ8_addEntry 39 = .ok (.dup, 1) := dk_89 (dk_at dksJ8_addEntry_1 16 rfl rfl)
theorem dJ8_addEntry_40 : decode cJ8_addEntry 40 = .ok (.getfield 7, 3) := dk_180 0 7 (dk_at dksJ8_addEntry_1 17 rfl rfl)
theorem dJ8_addEntry_43 : decode cJ8_addEntry 43 = .ok (.iconst 1, 1) := dk_4 (dk_at dksJ8_addEntry_1 20 rfl rfl)
theorem dJ8_addEntry_44 : decode cJ8_addEntry 44 = .ok (.iadd, 1) := dk_96 (dk_at dksJ8_addEntry_1 21 rfl rfl)
theorem dJ8_addEntry_45 : decode cJ8_addEntry 45 = .ok (.putfield 7, 3) := dk_181 0 7 (dk_at dksJ8_addEntry_2 0 rfl rfl)
theorem dJ8_addEntry_48 : decode cJ8_addEntry 48 = .ok (.aload_n 0, 1) := dk_42 (dk_at dksJ8_addEntry_2 3 rfl rfl)
theorem dJ8_addEntry_49 : decode cJ8_addEntry 49 = .ok (.dup, 1) := dk_89 (dk_at dksJ8_addEntry_2 4 rfl rfl)
theorem dJ8_addEntry_50 : decode cJ8_addEntry 50 = .ok (.getfield 13, 3) := dk_180 0 13 (dk_at dksJ8_addEntry_2 5 rfl rfl)
theorem dJ8_addEntry_53 : decode cJ8_addEntry 53 = .ok (.iconst 1, 1) := dk_4 (dk_at dksJ8_addEntry_2 8 rfl rfl)
theorem dJ8_addEntry_54 : decode cJ8_addEntry 54 = .ok (.iadd, 1) := dk_96 (dk_at dksJ8_addEntry_2 9 rfl rfl)
theorem dJ8_addEntry_55 : decode cJ8_addEntry 55 = .ok (.putfield 13, 3) := dk_181 0 13 (dk_at dksJ8_addEntry_2 10 rfl rfl)
theorem dJ8_addEntry_58 : decode cJ8_addEntry 58 = .ok (.return_, 1) := dk_177 (dk_at dksJ8_addEntry_2 13 rfl rfl)
abbrev cJ8_fixAfterInsertion : ByteArray := prog_62_method_83_code
def yJ8_fixAfterInsertion : MethodName := ⟨RJ8, "fixAfterInsertion", "(Ljava/util/TreeMap$Entry;)V"⟩
def dkwJ8_fixAfterInsertion_11 : List UInt8 := [42, 180, 0, 101, 4, 181, 1, 34, 177]
abbrev dktJ8_fixAfterInsertion_11 : List UInt8 := dkwJ8_fixAfterInsertion_11 ++ []
def dkwJ8_fixAfterInsertion_10 : List UInt8 := [184, 1, 38, 184, 1, 38, 3, 184, 1, 51, 42, 43, 184, 1, 38, 184, 1, 38, 182, 1, 55, 167, 255, 6]
abbrev dktJ8_fixAfterInsertion_10 : List UInt8 := dkwJ8_fixAfterInsertion_10 ++ dktJ8_fixAfterInsertion_11
def dkwJ8_fixAfterInsertion_9 : List UInt8 := [166, 0, 13, 43, 184, 1, 38, 76, 42, 43, 182, 1, 58, 43, 184, 1, 38, 4, 184, 1, 51, 43]
abbrev dktJ8_fixAfterInsertion_9 : List UInt8 := dkwJ8_fixAfterInsertion_9 ++ dktJ8_fixAfterInsertion_10
def dkwJ8_fixAfterInsertion_8 : List UInt8 := [184, 1, 51, 43, 184, 1, 38, 184, 1, 38, 76, 167, 0, 54, 43, 43, 184, 1, 38, 184, 1, 41]
abbrev dktJ8_fixAfterInsertion_8 : List UInt8 := dkwJ8_fixAfterInsertion_8 ++ dktJ8_fixAfterInsertion_9
def dkwJ8_fixAfterInsertion_7 : List UInt8 := [154, 0, 38, 43, 184, 1, 38, 4, 184, 1, 51, 44, 4, 184, 1, 51, 43, 184, 1, 38, 184, 1, 38, 3]
abbrev dktJ8_fixAfterInsertion_7 : List UInt8 := dkwJ8_fixAfterInsertion_7 ++ dktJ8_fixAfterInsertion_8
def dkwJ8_fixAfterInsertion_6 : List UInt8 := [184, 1, 38, 182, 1, 58, 167, 255, 113, 43, 184, 1, 38, 184, 1, 38, 184, 1, 41, 77, 44, 184, 1, 47]
abbrev dktJ8_fixAfterInsertion_6 : List UInt8 := dkwJ8_fixAfterInsertion_6 ++ dktJ8_fixAfterInsertion_7
def dkwJ8_fixAfterInsertion_5 : List UInt8 := [43, 184, 1, 38, 4, 184, 1, 51, 43, 184, 1, 38, 184, 1, 38, 3, 184, 1, 51, 42, 43, 184, 1, 38]
abbrev dktJ8_fixAfterInsertion_5 : List UInt8 := dkwJ8_fixAfterInsertion_5 ++ dktJ8_fixAfterInsertion_6
def dkwJ8_fixAfterInsertion_4 : List UInt8 := [167, 0, 54, 43, 43, 184, 1, 38, 184, 1, 44, 166, 0, 13, 43, 184, 1, 38, 76, 42, 43, 182, 1, 55]
abbrev dktJ8_fixAfterInsertion_4 : List UInt8 := dkwJ8_fixAfterInsertion_4 ++ dktJ8_fixAfterInsertion_5
def dkwJ8_fixAfterInsertion_3 : List UInt8 := [184, 1, 51, 43, 184, 1, 38, 184, 1, 38, 3, 184, 1, 51, 43, 184, 1, 38, 184, 1, 38, 76]
abbrev dktJ8_fixAfterInsertion_3 : List UInt8 := dkwJ8_fixAfterInsertion_3 ++ dktJ8_fixAfterInsertion_4
def dkwJ8_fixAfterInsertion_2 : List UInt8 := [184, 1, 38, 184, 1, 44, 77, 44, 184, 1, 47, 154, 0, 38, 43, 184, 1, 38, 4, 184, 1, 51, 44, 4]
abbrev dktJ8_fixAfterInsertion_2 : List UInt8 := dkwJ8_fixAfterInsertion_2 ++ dktJ8_fixAfterInsertion_3
def dkwJ8_fixAfterInsertion_1 : List UInt8 := [154, 0, 234, 43, 184, 1, 38, 43, 184, 1, 38, 184, 1, 38, 184, 1, 41, 166, 0, 110, 43, 184, 1, 38]
abbrev dktJ8_fixAfterInsertion_1 : List UInt8 := dkwJ8_fixAfterInsertion_1 ++ dktJ8_fixAfterInsertion_2
def dkwJ8_fixAfterInsertion_0 : List UInt8 := [43, 3, 181, 1, 34, 43, 198, 0, 252, 43, 42, 180, 0, 101, 165, 0, 244, 43, 180, 0, 124, 180, 1, 34]
abbrev dktJ8_fixAfterInsertion_0 : List UInt8 := dkwJ8_fixAfterInsertion_0 ++ dktJ8_fixAfterInsertion_1
theorem dksJ8_fixAfterInsertion_0 : cJ8_fixAfterInsertion.data.toList.drop 0 = dktJ8_fixAfterInsertion_0 := by decide +kernel
theorem dksJ8_fixAfterInsertion_1 : cJ8_fixAfterInsertion.data.toList.drop 24 = dktJ8_fixAfterInsertion_1 := dk_seg dksJ8_fixAfterInsertion_0 24 rfl rfl
theorem dksJ8_fixAfterInsertion_2 : cJ8_fixAfterInsertion.data.toList.drop 48 = dktJ8_fixAfterInsertion_2 := dk_seg dksJ8_fixAfterInsertion_1 24 rfl rfl
theorem dksJ8_fixAfterInsertion_3 : cJ8_fixAfterInsertion.data.toList.drop 72 = dktJ8_fixAfterInsertion_3 := dk_seg dksJ8_fixAfterInsertion_2 24 rfl rfl
theorem dksJ8_fixAfterInsertion_4 : cJ8_fixAfterInsertion.data.toList.drop 94 = dktJ8_fixAfterInsertion_4 := dk_seg dksJ8_fixAfterInsertion_3 22 rfl rfl
theorem dksJ8_fixAfterInsertion_5 : cJ8_fixAfterInsertion.data.toList.drop 118 = dktJ8_fixAfterInsertion_5 := dk_seg dksJ8_fixAfterInsertion_4 24 rfl rfl
theorem dksJ8_fixAfterInsertion_6 : cJ8_fixAfterInsertion.data.toList.drop 142 = dktJ8_fixAfterInsertion_6 := dk_seg dksJ8_fixAfterInsertion_5 24 rfl rfl
theorem dksJ8_fixAfterInsertion_7 : cJ8_fixAfterInsertion.data.toList.drop 166 = dktJ8_fixAfterInsertion_7 := dk_seg dksJ8_fixAfterInsertion_6 24 rfl rfl
theorem dksJ8_fixAfterInsertion_8 : cJ8_fixAfterInsertion.data.toList.drop 190 = dktJ8_fixAfterInsertion_8 := dk_seg dksJ8_fixAfterInsertion_7 24 rfl rfl
theorem dksJ8_fixAfterInsertion_9 : cJ8_fixAfterInsertion.data.toList.drop 212 = dktJ8_fixAfterInsertion_9 := dk_seg dksJ8_fixAfterInsertion_8 22 rfl rfl
theorem dksJ8_fixAfterInsertion_10 : cJ8_fixAfterInsertion.data.toList.drop 234 = dktJ8_fixAfterInsertion_10 := dk_seg dksJ8_fixAfterInsertion_9 22 rfl rfl
theorem dksJ8_fixAfterInsertion_11 : cJ8_fixAfterInsertion.data.toList.drop 258 = dktJ8_fixAfterInsertion_11 := dk_seg dksJ8_fixAfterInsertion_10 24 rfl rfl
theorem dJ8_fixAfterInsertion_0 : decode cJ8_fixAfterInsertion 0 = .ok (.aload_n 1, 1) := dk_43 (dk_at dksJ8_fixAfterInsertion_0 0 rfl rfl)
theorem dJ8_fixAfterInsertion_1 : decode cJ8_fixAfterInsertion 1 = .ok (.iconst 0, 1) := dk_3 (dk_at dksJ8_fixAfterInsertion_0 1 rfl rfl)
theorem dJ8_fixAfterInsertion_2 : decode cJ8_fixAfterInsertion 2 = .ok (.putfield 290, 3) := dk_181 1 34 (dk_at dksJ8_fixAfterInsertion_0 2 rfl rfl)
theorem dJ8_fixAfterInsertion_5 : decode cJ8_fixAfterInsertion 5 = .ok (.aload_n 1, 1) := dk_43 (dk_at dksJ8_fixAfterInsertion_0 5 rfl rfl)
theorem dJ8_fixAfterInsertion_6 : decode cJ8_fixAfterInsertion 6 = .ok (.ifnull 252, 3) := dk_198 0 252 (dk_at dksJ8_fixAfterInsertion_0 6 rfl rfl)
theorem dJ8_fixAfterInsertion_9 : decode cJ8_fixAfterInsertion 9 = .ok (.aload_n 1, 1) := dk_43 (dk_at dksJ8_fixAfterInsertion_0 9 rfl rfl)
theorem dJ8_fixAfterInsertion_10 : decode cJ8_fixAfterInsertion 10 = .ok (.aload_n 0, 1) := dk_42 (dk_at dksJ8_fixAfterInsertion_0 10 rfl rfl)
theorem dJ8_fixAfterInsertion_11 : decode cJ8_fixAfterInsertion 11 = .ok (.getfield 101, 3) := dk_180 0 101 (dk_at dksJ8_fixAfterInsertion_0 11 rfl rfl)
theorem dJ8_fixAfterInsertion_14 : decode cJ8_fixAfterInsertion 14 = .ok (.if_acmp .eq 244, 3) := dk_165 0 244 (dk_at dksJ8_fixAfterInsertion_0 14 rfl rfl)
theorem dJ8_fixAfterInsertion_17 : decode cJ8_fixAfterInsertion 17 = .ok (.aload_n 1, 1) := dk_43 (dk_at dksJ8_fixAfterInsertion_0 17 rfl rfl)
theorem dJ8_fixAfterInsertion_18 : decode cJ8_fixAfterInsertion 18 = .ok (.getfield 124, 3) := dk_180 0 124 (dk_at dksJ8_fixAfterInsertion_0 18 rfl rfl)
theorem dJ8_fixAfterInsertion_21 : decode cJ8_fixAfterInsertion 21 = .ok (.getfield 290, 3) := dk_180 1 34 (dk_at dksJ8_fixAfterInsertion_0 21 rfl rfl)
theorem dJ8_fixAfterInsertion_24 : decode cJ8_fixAfterInsertion 24 = .ok (.ifCond .ne 234, 3) := dk_154 0 234 (dk_at dksJ8_fixAfterInsertion_1 0 rfl rfl)
theorem dJ8_fixAfterInsertion_27 : decode cJ8_fixAfterInsertion 27 = .ok (.aload_n 1, 1) := dk_43 (dk_at dksJ8_fixAfterInsertion_1 3 rfl rfl)
theorem dJ8_fixAfterInsertion_28 : decode cJ8_fixAfterInsertion 28 = .ok (.invokestatic 294, 3) := dk_184 1 38 (dk_at dksJ8_fixAfterInsertion_1 4 rfl rfl)
theorem dJ8_fixAfterInsertion_31 : decode cJ8_fixAfterInsertion 31 = .ok (.aload_n 1, 1) := dk_43 (dk_at dksJ8_fixAfterInsertion_1 7 rfl rfl)
theorem dJ8_fixAfterInsertion_32 : decode cJ8_fixAfterInsertion 32 = .ok (.invokestatic 294, 3) := dk_184 1 38 (dk_at dksJ8_fixAfterInsertion_1 8 rfl rfl)
theorem dJ8_fixAfterInsertion_35 : decode cJ8_fixAfterInsertion 35 = .ok (.invokestatic 294, 3) := dk_184 1 38 (dk_at dksJ8_fixAfterInsertion_1 11 rfl rfl)
theorem dJ8_fixAfterInsertion_38 : decode cJ8_fixAfterInsertion 38 = .ok (.invokestatic 297, 3) := dk_184 1 41 (dk_at dksJ8_fixAfterInsertion_1 14 rfl rfl)
theorem dJ8_fixAfterInsertion_41 : decode cJ8_fixAfterInsertion 41 = .ok (.if_acmp .ne 110, 3) := dk_166 0 110 (dk_at dksJ8_fixAfterInsertion_1 17 rfl rfl)
theorem dJ8_fixAfterInsertion_44 : decode cJ8_fixAfterInsertion 44 = .ok (.aload_n 1, 1) := dk_43 (dk_at dksJ8_fixAfterInsertion_1 20 rfl rfl)
theorem dJ8_fixAfterInsertion_45 : decode cJ8_fixAfterInsertion 45 = .ok (.invokestatic 294, 3) := dk_184 1 38 (dk_at dksJ8_fixAfterInsertion_1 21 rfl rfl)
theorem dJ8_fixAfterInsertion_48 : decode cJ8_fixAfterInsertion 48 = .ok (.invokestatic 294, 3) := dk_184 1 38 (dk_at dksJ8_fixAfterInsertion_2 0 rfl rfl)
theorem dJ8_fixAfterInsertion_51 : decode cJ8_fixAfterInsertion 51 = .ok (.invokestatic 300, 3) := dk_184 1 44 (dk_at dksJ8_fixAfterInsertion_2 3 rfl rfl)
theorem dJ8_fixAfterInsertion_54 : decode cJ8_fixAfterInsertion 54 = .ok (.astore_n 2, 1) := dk_77 (dk_at dksJ8_fixAfterInsertion_2 6 rfl rfl)
theorem dJ8_fixAfterInsertion_55 : decode cJ8_fixAfterInsertion 55 = .ok (.aload_n 2, 1) := dk_44 (dk_at dksJ8_fixAfterInsertion_2 7 rfl rfl)
theorem dJ8_fixAfterInsertion_56 : decode cJ8_fixAfterInsertion 56 = .ok (.invokestatic 303, 3) := dk_184 1 47 (dk_at dksJ8_fixAfterInsertion_2 8 rfl rfl)
theorem dJ8_fixAfterInsertion_59 : decode cJ8_fixAfterInsertion 59 = .ok (.ifCond .ne 38, 3) := dk_154 0 38 (dk_at dksJ8_fixAfterInsertion_2 11 rfl rfl)
theorem dJ8_fixAfterInsertion_62 : decode cJ8_fixAfterInsertion 62 = .ok (.aload_n 1, 1) := dk_43 (dk_at dksJ8_fixAfterInsertion_2 14 rfl rfl)
theorem dJ8_fixAfterInsertion_63 : decode cJ8_fixAfterInsertion 63 = .ok (.invokestatic 294, 3) := dk_184 1 38 (dk_at dksJ8_fixAfterInsertion_2 15 rfl rfl)
theorem dJ8_fixAfterInsertion_66 : decode cJ8_fixAfterInsertion 66 = .ok (.iconst 1, 1) := dk_4 (dk_at dksJ8_fixAfterInsertion_2 18 rfl rfl)
theorem dJ8_fixAfterInsertion_67 : decode cJ8_fixAfterInsertion 67 = .ok (.invokestatic 307, 3) := dk_184 1 51 (dk_at dksJ8_fixAfterInsertion_2 19 rfl rfl)
theorem dJ8_fixAfterInsertion_70 : decode cJ8_fixAfterInsertion 70 = .ok (.aload_n 2, 1) := dk_44 (dk_at dksJ8_fixAfterInsertion_2 22 rfl rfl)
theorem dJ8_fixAfterInsertion_71 : decode cJ8_fixAfterInsertion 71 = .ok (.iconst 1, 1) := dk_4 (dk_at dksJ8_fixAfterInsertion_2 23 rfl rfl)
theorem dJ8_fixAfterInsertion_72 : decode cJ8_fixAfterInsertion 72 = .ok (.invokestatic 307, 3) := dk_184 1 51 (dk_at dksJ8_fixAfterInsertion_3 0 rfl rfl)
theorem dJ8_fixAfterInsertion_75 : decode cJ8_fixAfterInsertion 75 = .ok (.aload_n 1, 1) := dk_43 (dk_at dksJ8_fixAfterInsertion_3 3 rfl rfl)
theorem dJ8_fixAfterInsertion_76 : decode cJ8_fixAfterInsertion 76 = .ok (.invokestatic 294, 3) := dk_184 1 38 (dk_at dksJ8_fixAfterInsertion_3 4 rfl rfl)
theorem dJ8_fixAfterInsertion_79 : decode cJ8_fixAfterInsertion 79 = .ok (.invokestatic 294, 3) := dk_184 1 38 (dk_at dksJ8_fixAfterInsertion_3 7 rfl rfl)
theorem dJ8_fixAfterInsertion_82 : decode cJ8_fixAfterInsertion 82 = .ok (.iconst 0, 1) := dk_3 (dk_at dksJ8_fixAfterInsertion_3 10 rfl rfl)
theorem dJ8_fixAfterInsertion_83 : decode cJ8_fixAfterInsertion 83 = .ok (.invokestatic 307, 3) := dk_184 1 51 (dk_at dksJ8_fixAfterInsertion_3 11 rfl rfl)
theorem dJ8_fixAfterInsertion_86 : decode cJ8_fixAfterInsertion 86 = .ok (.aload_n 1, 1) := dk_43 (dk_at dksJ8_fixAfterInsertion_3 14 rfl rfl)
theorem dJ8_fixAfterInsertion_87 : decode cJ8_fixAfterInsertion 87 = .ok (.invokestatic 294, 3) := dk_184 1 38 (dk_at dksJ8_fixAfterInsertion_3 15 rfl rfl)
theorem dJ8_fixAfterInsertion_90 : decode cJ8_fixAfterInsertion 90 = .ok (.invokestatic 294, 3) := dk_184 1 38 (dk_at dksJ8_fixAfterInsertion_3 18 rfl rfl)
theorem dJ8_fixAfterInsertion_93 : decode cJ8_fixAfterInsertion 93 = .ok (.astore_n 1, 1) := dk_76 (dk_at dksJ8_fixAfterInsertion_3 21 rfl rfl)
theorem dJ8_fixAfterInsertion_94 : decode cJ8_fixAfterInsertion 94 = .ok (.goto 54, 3) := dk_167 0 54 (dk_at dksJ8_fixAfterInsertion_4 0 rfl rfl)
theorem dJ8_fixAfterInsertion_97 : decode cJ8_fixAfterInsertion 97 = .ok (.aload_n 1, 1) := dk_43 (dk_at dksJ8_fixAfterInsertion_4 3 rfl rfl)
theorem dJ8_fixAfterInsertion_98 : decode cJ8_fixAfterInsertion 98 = .ok (.aload_n 1, 1) := dk_43 (dk_at dksJ8_fixAfterInsertion_4 4 rfl rfl)
theorem dJ8_fixAfterInsertion_99 : decode cJ8_fixAfterInsertion 99 = .ok (.invokestatic 294, 3) := dk_184 1 38 (dk_at dksJ8_fixAfterInsertion_4 5 rfl rfl)
theorem dJ8_fixAfterInsertion_102 : decode cJ8_fixAfterInsertion 102 = .ok (.invokestatic 300, 3) := dk_184 1 44 (dk_at dksJ8_fixAfterInsertion_4 8 rfl rfl)
theorem dJ8_fixAfterInsertion_105 : decode cJ8_fixAfterInsertion 105 = .ok (.if_acmp .ne 13, 3) := dk_166 0 13 (dk_at dksJ8_fixAfterInsertion_4 11 rfl rfl)
theorem dJ8_fixAfterInsertion_108 : decode cJ8_fixAfterInsertion 108 = .ok (.aload_n 1, 1) := dk_43 (dk_at dksJ8_fixAfterInsertion_4 14 rfl rfl)
theorem dJ8_fixAfterInsertion_109 : decode cJ8_fixAfterInsertion 109 = .ok (.invokestatic 294, 3) := dk_184 1 38 (dk_at dksJ8_fixAfterInsertion_4 15 rfl rfl)
theorem dJ8_fixAfterInsertion_112 : decode cJ8_fixAfterInsertion 112 = .ok (.astore_n 1, 1) := dk_76 (dk_at dksJ8_fixAfterInsertion_4 18 rfl rfl)
theorem dJ8_fixAfterInsertion_113 : decode cJ8_fixAfterInsertion 113 = .ok (.aload_n 0, 1) := dk_42 (dk_at dksJ8_fixAfterInsertion_4 19 rfl rfl)
theorem dJ8_fixAfterInsertion_114 : decode cJ8_fixAfterInsertion 114 = .ok (.aload_n 1, 1) := dk_43 (dk_at dksJ8_fixAfterInsertion_4 20 rfl rfl)
theorem dJ8_fixAfterInsertion_115 : decode cJ8_fixAfterInsertion 115 = .ok (.invokevirtual 311, 3) := dk_182 1 55 (dk_at dksJ8_fixAfterInsertion_4 21 rfl rfl)
theorem dJ8_fixAfterInsertion_118 : decode cJ8_fixAfterInsertion 118 = .ok (.aload_n 1, 1) := dk_43 (dk_at dksJ8_fixAfterInsertion_5 0 rfl rfl)
theorem dJ8_fixAfterInsertion_119 : decode cJ8_fixAfterInsertion 119 = .ok (.invokestatic 294, 3) := dk_184 1 38 (dk_at dksJ8_fixAfterInsertion_5 1 rfl rfl)
theorem dJ8_fixAfterInsertion_122 : decode cJ8_fixAfterInsertion 122 = .ok (.iconst 1, 1) := dk_4 (dk_at dksJ8_fixAfterInsertion_5 4 rfl rfl)
theorem dJ8_fixAfterInsertion_123 : decode cJ8_fixAfterInsertion 123 = .ok (.invokestatic 307, 3) := dk_184 1 51 (dk_at dksJ8_fixAfterInsertion_5 5 rfl rfl)
theorem dJ8_fixAfterInsertion_126 : decode cJ8_fixAfterInsertion 126 = .ok (.aload_n 1, 1) := dk_43 (dk_at dksJ8_fixAfterInsertion_5 8 rfl rfl)
theorem dJ8_fixAfterInsertion_127 : decode cJ8_fixAfterInsertion 127 = .ok (.invokestatic 294, 3) := dk_184 1 38 (dk_at dksJ8_fixAfterInsertion_5 9 rfl rfl)
theorem dJ8_fixAfterInsertion_130 : decode cJ8_fixAfterInsertion 130 = .ok (.invokestatic 294, 3) := dk_184 1 38 (dk_at dksJ8_fixAfterInsertion_5 12 rfl rfl)
theorem dJ8_fixAfterInsertion_133 : decode cJ8_fixAfterInsertion 133 = .ok (.iconst 0, 1) := dk_3 (dk_at dksJ8_fixAfterInsertion_5 15 rfl rfl)
theorem dJ8_fixAfterInsertion_134 : decode cJ8_fixAfterInsertion 134 = .ok (.invokestatic 307, 3) := dk_184 1 51 (dk_at dksJ8_fixAfterInsertion_5 16 rfl rfl)
theorem dJ8_fixAfterInsertion_137 : decode cJ8_fixAfterInsertion 137 = .ok (.aload_n 0, 1) := dk_42 (dk_at dksJ8_fixAfterInsertion_5 19 rfl rfl)
theorem dJ8_fixAfterInsertion_138 : decode cJ8_fixAfterInsertion 138 = .ok (.aload_n 1, 1) := dk_43 (dk_at dksJ8_fixAfterInsertion_5 20 rfl rfl)
theorem dJ8_fixAfterInsertion_139 : decode cJ8_fixAfterInsertion 139 = .ok (.invokestatic 294, 3) := dk_184 1 38 (dk_at dksJ8_fixAfterInsertion_5 21 rfl rfl)
theorem dJ8_fixAfterInsertion_142 : decode cJ8_fixAfterInsertion 142 = .ok (.invokestatic 294, 3) := dk_184 1 38 (dk_at dksJ8_fixAfterInsertion_6 0 rfl rfl)
theorem dJ8_fixAfterInsertion_145 : decode cJ8_fixAfterInsertion 145 = .ok (.invokevirtual 314, 3) := dk_182 1 58 (dk_at dksJ8_fixAfterInsertion_6 3 rfl rfl)
theorem dJ8_fixAfterInsertion_148 : decode cJ8_fixAfterInsertion 148 = .ok (.goto (-143), 3) := dk_167 255 113 (dk_at dksJ8_fixAfterInsertion_6 6 rfl rfl)
theorem dJ8_fixAfterInsertion_151 : decode cJ8_fixAfterInsertion 151 = .ok (.aload_n 1, 1) := dk_43 (dk_at dksJ8_fixAfterInsertion_6 9 rfl rfl)
theorem dJ8_fixAfterInsertion_152 : decode cJ8_fixAfterInsertion 152 = .ok (.invokestatic 294, 3) := dk_184 1 38 (dk_at dksJ8_fixAfterInsertion_6 10 rfl rfl)
theorem dJ8_fixAfterInsertion_155 : decode cJ8_fixAfterInsertion 155 = .ok (.invokestatic 294, 3) := dk_184 1 38 (dk_at dksJ8_fixAfterInsertion_6 13 rfl rfl)
theorem dJ8_fixAfterInsertion_158 : decode cJ8_fixAfterInsertion 158 = .ok (.invokestatic 297, 3) := dk_184 1 41 (dk_at dksJ8_fixAfterInsertion_6 16 rfl rfl)
theorem dJ8_fixAfterInsertion_161 : decode cJ8_fixAfterInsertion 161 = .ok (.astore_n 2, 1) := dk_77 (dk_at dksJ8_fixAfterInsertion_6 19 rfl rfl)
theorem dJ8_fixAfterInsertion_162 : decode cJ8_fixAfterInsertion 162 = .ok (.aload_n 2, 1) := dk_44 (dk_at dksJ8_fixAfterInsertion_6 20 rfl rfl)
theorem dJ8_fixAfterInsertion_163 : decode cJ8_fixAfterInsertion 163 = .ok (.invokestatic 303, 3) := dk_184 1 47 (dk_at dksJ8_fixAfterInsertion_6 21 rfl rfl)
theorem dJ8_fixAfterInsertion_166 : decode cJ8_fixAfterInsertion 166 = .ok (.ifCond .ne 38, 3) := dk_154 0 38 (dk_at dksJ8_fixAfterInsertion_7 0 rfl rfl)
theorem dJ8_fixAfterInsertion_169 : decode cJ8_fixAfterInsertion 169 = .ok (.aload_n 1, 1) := dk_43 (dk_at dksJ8_fixAfterInsertion_7 3 rfl rfl)
theorem dJ8_fixAfterInsertion_170 : decode cJ8_fixAfterInsertion 170 = .ok (.invokestatic 294, 3) := dk_184 1 38 (dk_at dksJ8_fixAfterInsertion_7 4 rfl rfl)
theorem dJ8_fixAfterInsertion_173 : decode cJ8_fixAfterInsertion 173 = .ok (.iconst 1, 1) := dk_4 (dk_at dksJ8_fixAfterInsertion_7 7 rfl rfl)
theorem dJ8_fixAfterInsertion_174 : decode cJ8_fixAfterInsertion 174 = .ok (.invokestatic 307, 3) := dk_184 1 51 (dk_at dksJ8_fixAfterInsertion_7 8 rfl rfl)
theorem dJ8_fixAfterInsertion_177 : decode cJ8_fixAfterInsertion 177 = .ok (.aload_n 2, 1) := dk_44 (dk_at dksJ8_fixAfterInsertion_7 11 rfl rfl)
theorem dJ8_fixAfterInsertion_178 : decode cJ8_fixAfterInsertion 178 = .ok (.iconst 1, 1) := dk_4 (dk_at dksJ8_fixAfterInsertion_7 12 rfl rfl)
theorem dJ8_fixAfterInsertion_179 : decode cJ8_fixAfterInsertion 179 = .ok (.invokestatic 307, 3) := dk_184 1 51 (dk_at dksJ8_fixAfterInsertion_7 13 rfl rfl)
theorem dJ8_fixAfterInsertion_182 : decode cJ8_fixAfterInsertion 182 = .ok (.aload_n 1, 1) := dk_43 (dk_at dksJ8_fixAfterInsertion_7 16 rfl rfl)
theorem dJ8_fixAfterInsertion_183 : decode cJ8_fixAfterInsertion 183 = .ok (.invokestatic 294, 3) := dk_184 1 38 (dk_at dksJ8_fixAfterInsertion_7 17 rfl rfl)
theorem dJ8_fixAfterInsertion_186 : decode cJ8_fixAfterInsertion 186 = .ok (.invokestatic 294, 3) := dk_184 1 38 (dk_at dksJ8_fixAfterInsertion_7 20 rfl rfl)
theorem dJ8_fixAfterInsertion_189 : decode cJ8_fixAfterInsertion 189 = .ok (.iconst 0, 1) := dk_3 (dk_at dksJ8_fixAfterInsertion_7 23 rfl rfl)
theorem dJ8_fixAfterInsertion_190 : decode cJ8_fixAfterInsertion 190 = .ok (.invokestatic 307, 3) := dk_184 1 51 (dk_at dksJ8_fixAfterInsertion_8 0 rfl rfl)
theorem dJ8_fixAfterInsertion_193 : decode cJ8_fixAfterInsertion 193 = .ok (.aload_n 1, 1) := dk_43 (dk_at dksJ8_fixAfterInsertion_8 3 rfl rfl)
theorem dJ8_fixAfterInsertion_194 : decode cJ8_fixAfterInsertion 194 = .ok (.invokestatic 294, 3) := dk_184 1 38 (dk_at dksJ8_fixAfterInsertion_8 4 rfl rfl)
theorem dJ8_fixAfterInsertion_197 : decode cJ8_fixAfterInsertion 197 = .ok (.invokestatic 294, 3) := dk_184 1 38 (dk_at dksJ8_fixAfterInsertion_8 7 rfl rfl)
theorem dJ8_fixAfterInsertion_200 : decode cJ8_fixAfterInsertion 200 = .ok (.astore_n 1, 1) := dk_76 (dk_at dksJ8_fixAfterInsertion_8 10 rfl rfl)
theorem dJ8_fixAfterInsertion_201 : decode cJ8_fixAfterInsertion 201 = .ok (.goto 54, 3) := dk_167 0 54 (dk_at dksJ8_fixAfterInsertion_8 11 rfl rfl)
theorem dJ8_fixAfterInsertion_204 : decode cJ8_fixAfterInsertion 204 = .ok (.aload_n 1, 1) := dk_43 (dk_at dksJ8_fixAfterInsertion_8 14 rfl rfl)
theorem dJ8_fixAfterInsertion_205 : decode cJ8_fixAfterInsertion 205 = .ok (.aload_n 1, 1) := dk_43 (dk_at dksJ8_fixAfterInsertion_8 15 rfl rfl)
theorem dJ8_fixAfterInsertion_206 : decode cJ8_fixAfterInsertion 206 = .ok (.invokestatic 294, 3) := dk_184 1 38 (dk_at dksJ8_fixAfterInsertion_8 16 rfl rfl)
theorem dJ8_fixAfterInsertion_209 : decode cJ8_fixAfterInsertion 209 = .ok (.invokestatic 297, 3) := dk_184 1 41 (dk_at dksJ8_fixAfterInsertion_8 19 rfl rfl)
theorem dJ8_fixAfterInsertion_212 : decode cJ8_fixAfterInsertion 212 = .ok (.if_acmp .ne 13, 3) := dk_166 0 13 (dk_at dksJ8_fixAfterInsertion_9 0 rfl rfl)
theorem dJ8_fixAfterInsertion_215 : decode cJ8_fixAfterInsertion 215 = .ok (.aload_n 1, 1) := dk_43 (dk_at dksJ8_fixAfterInsertion_9 3 rfl rfl)
theorem dJ8_fixAfterInsertion_216 : decode cJ8_fixAfterInsertion 216 = .ok (.invokestatic 294, 3) := dk_184 1 38 (dk_at dksJ8_fixAfterInsertion_9 4 rfl rfl)
theorem dJ8_fixAfterInsertion_219 : decode cJ8_fixAfterInsertion 219 = .ok (.astore_n 1, 1) := dk_76 (dk_at dksJ8_fixAfterInsertion_9 7 rfl rfl)
theorem dJ8_fixAfterInsertion_220 : decode cJ8_fixAfterInsertion 220 = .ok (.aload_n 0, 1) := dk_42 (dk_at dksJ8_fixAfterInsertion_9 8 rfl rfl)
theorem dJ8_fixAfterInsertion_221 : decode cJ8_fixAfterInsertion 221 = .ok (.aload_n 1, 1) := dk_43 (dk_at dksJ8_fixAfterInsertion_9 9 rfl rfl)
theorem dJ8_fixAfterInsertion_222 : decode cJ8_fixAfterInsertion 222 = .ok (.invokevirtual 314, 3) := dk_182 1 58 (dk_at dksJ8_fixAfterInsertion_9 10 rfl rfl)
theorem dJ8_fixAfterInsertion_225 : decode cJ8_fixAfterInsertion 225 = .ok (.aload_n 1, 1) := dk_43 (dk_at dksJ8_fixAfterInsertion_9 13 rfl rfl)
theorem dJ8_fixAfterInsertion_226 : decode cJ8_fixAfterInsertion 226 = .ok (.invokestatic 294, 3) := dk_184 1 38 (dk_at dksJ8_fixAfterInsertion_9 14 rfl rfl)
theorem dJ8_fixAfterInsertion_229 : decode cJ8_fixAfterInsertion 229 = .ok (.iconst 1, 1) := dk_4 (dk_at dksJ8_fixAfterInsertion_9 17 rfl rfl)
theorem dJ8_fixAfterInsertion_230 : decode cJ8_fixAfterInsertion 230 = .ok (.invokestatic 307, 3) := dk_184 1 51 (dk_at dksJ8_fixAfterInsertion_9 18 rfl rfl)
theorem dJ8_fixAfterInsertion_233 : decode cJ8_fixAfterInsertion 233 = .ok (.aload_n 1, 1) := dk_43 (dk_at dksJ8_fixAfterInsertion_9 21 rfl rfl)
theorem dJ8_fixAfterInsertion_234 : decode cJ8_fixAfterInsertion 234 = .ok (.invokestatic 294, 3) := dk_184 1 38 (dk_at dksJ8_fixAfterInsertion_10 0 rfl rfl)
theorem dJ8_fixAfterInsertion_237 : decode cJ8_fixAfterInsertion 237 = .ok (.invokestatic 294, 3) := dk_184 1 38 (dk_at dksJ8_fixAfterInsertion_10 3 rfl rfl)
theorem dJ8_fixAfterInsertion_240 : decode cJ8_fixAfterInsertion 240 = .ok (.iconst 0, 1) := dk_3 (dk_at dksJ8_fixAfterInsertion_10 6 rfl rfl)
theorem dJ8_fixAfterInsertion_241 : decode cJ8_fixAfterInsertion 241 = .ok (.invokestatic 307, 3) := dk_184 1 51 (dk_at dksJ8_fixAfterInsertion_10 7 rfl rfl)
theorem dJ8_fixAfterInsertion_244 : decode cJ8_fixAfterInsertion 244 = .ok (.aload_n 0, 1) := dk_42 (dk_at dksJ8_fixAfterInsertion_10 10 rfl rfl)
theorem dJ8_fixAfterInsertion_245 : decode cJ8_fixAfterInsertion 245 = .ok (.aload_n 1, 1) := dk_43 (dk_at dksJ8_fixAfterInsertion_10 11 rfl rfl)
theorem dJ8_fixAfterInsertion_246 : decode cJ8_fixAfterInsertion 246 = .ok (.invokestatic 294, 3) := dk_184 1 38 (dk_at dksJ8_fixAfterInsertion_10 12 rfl rfl)
theorem dJ8_fixAfterInsertion_249 : decode cJ8_fixAfterInsertion 249 = .ok (.invokestatic 294, 3) := dk_184 1 38 (dk_at dksJ8_fixAfterInsertion_10 15 rfl rfl)
theorem dJ8_fixAfterInsertion_252 : decode cJ8_fixAfterInsertion 252 = .ok (.invokevirtual 311, 3) := dk_182 1 55 (dk_at dksJ8_fixAfterInsertion_10 18 rfl rfl)
theorem dJ8_fixAfterInsertion_255 : decode cJ8_fixAfterInsertion 255 = .ok (.goto (-250), 3) := dk_167 255 6 (dk_at dksJ8_fixAfterInsertion_10 21 rfl rfl)
theorem dJ8_fixAfterInsertion_258 : decode cJ8_fixAfterInsertion 258 = .ok (.aload_n 0, 1) := dk_42 (dk_at dksJ8_fixAfterInsertion_11 0 rfl rfl)
theorem dJ8_fixAfterInsertion_259 : decode cJ8_fixAfterInsertion 259 = .ok (.getfield 101, 3) := dk_180 0 101 (dk_at dksJ8_fixAfterInsertion_11 1 rfl rfl)
theorem dJ8_fixAfterInsertion_262 : decode cJ8_fixAfterInsertion 262 = .ok (.iconst 1, 1) := dk_4 (dk_at dksJ8_fixAfterInsertion_11 4 rfl rfl)
theorem dJ8_fixAfterInsertion_263 : decode cJ8_fixAfterInsertion 263 = .ok (.putfield 290, 3) := dk_181 1 34 (dk_at dksJ8_fixAfterInsertion_11 5 rfl rfl)
theorem dJ8_fixAfterInsertion_266 : decode cJ8_fixAfterInsertion 266 = .ok (.return_, 1) := dk_177 (dk_at dksJ8_fixAfterInsertion_11 8 rfl rfl)
abbrev cJ8_parentOf : ByteArray := prog_62_method_77_code
def yJ8_parentOf : MethodName := ⟨RJ8, "parentOf", "(Ljava/util/TreeMap$Entry;)Ljava/util/TreeMap$Entry;"⟩
def dkwJ8_parentOf_0 : List UInt8 := [42, 199, 0, 7, 1, 167, 0, 7, 42, 180, 0, 124, 176]
abbrev dktJ8_parentOf_0 : List UInt8 := dkwJ8_parentOf_0 ++ []
theorem dksJ8_parentOf_0 : cJ8_parentOf.data.toList.drop 0 = dktJ8_parentOf_0 := by decide +kernel
theorem dJ8_parentOf_0 : decode cJ8_parentOf 0 = .ok (.aload_n 0, 1) := dk_42 (dk_at dksJ8_parentOf_0 0 rfl rfl)
theorem dJ8_parentOf_1 : decode cJ8_parentOf 1 = .ok (.ifnonnull 7, 3) := dk_199 0 7 (dk_at dksJ8_parentOf_0 1 rfl rfl)
theorem dJ8_parentOf_4 : decode cJ8_parentOf 4 = .ok (.aconst_null, 1) := dk_1 (dk_at dksJ8_parentOf_0 4 rfl rfl)
theorem dJ8_parentOf_5 : decode cJ8_parentOf 5 = .ok (.goto 7, 3) := dk_167 0 7 (dk_at dksJ8_parentOf_0 5 rfl rfl)
theorem dJ8_parentOf_8 : decode cJ8_parentOf 8 = .ok (.aload_n 0, 1) := dk_42 (dk_at dksJ8_parentOf_0 8 rfl rfl)
theorem dJ8_parentOf_9 : decode cJ8_parentOf 9 = .ok (.getfield 124, 3) := dk_180 0 124 (dk_at dksJ8_parentOf_0 9 rfl rfl)
theorem dJ8_parentOf_12 : decode cJ8_parentOf 12 = .ok (.areturn, 1) := dk_176 (dk_at dksJ8_parentOf_0 12 rfl rfl)
abbrev cJ8_leftOf : ByteArray := prog_62_method_79_code
def yJ8_leftOf : MethodName := ⟨RJ8, "leftOf", "(Ljava/util/TreeMap$Entry;)Ljava/util/TreeMap$Entry;"⟩
def dkwJ8_leftOf_0 : List UInt8 := [42, 199, 0, 7, 1, 167, 0, 7, 42, 180, 0, 111, 176]
abbrev dktJ8_leftOf_0 : List UInt8 := dkwJ8_leftOf_0 ++ []
theorem dksJ8_leftOf_0 : cJ8_leftOf.data.toList.drop 0 = dktJ8_leftOf_0 := by decide +kernel
theorem dJ8_leftOf_0 : decode cJ8_leftOf 0 = .ok (.aload_n 0, 1) := dk_42 (dk_at dksJ8_leftOf_0 0 rfl rfl)
theorem dJ8_leftOf_1 : decode cJ8_leftOf 1 = .ok (.ifnonnull 7, 3) := dk_199 0 7 (dk_at dksJ8_leftOf_0 1 rfl rfl)
theorem dJ8_leftOf_4 : decode cJ8_leftOf 4 = .ok (.aconst_null, 1) := dk_1 (dk_at dksJ8_leftOf_0 4 rfl rfl)
theorem dJ8_leftOf_5 : decode cJ8_leftOf 5 = .ok (.goto 7, 3) := dk_167 0 7 (dk_at dksJ8_leftOf_0 5 rfl rfl)
theorem dJ8_leftOf_8 : decode cJ8_leftOf 8 = .ok (.aload_n 0, 1) := dk_42 (dk_at dksJ8_leftOf_0 8 rfl rfl)
theorem dJ8_leftOf_9 : decode cJ8_leftOf 9 = .ok (.getfield 111, 3) := dk_180 0 111 (dk_at dksJ8_leftOf_0 9 rfl rfl)
theorem dJ8_leftOf_12 : decode cJ8_leftOf 12 = .ok (.areturn, 1) := dk_176 (dk_at dksJ8_leftOf_0 12 rfl rfl)
abbrev cJ8_rightOf : ByteArray := prog_62_method_80_code
def yJ8_rightOf : MethodName := ⟨RJ8, "rightOf", "(Ljava/util/TreeMap$Entry;)Ljava/util/TreeMap$Entry;"⟩
def dkwJ8_rightOf_0 : List UInt8 := [42, 199, 0, 7, 1, 167, 0, 7, 42, 180, 0, 114, 176]
abbrev dktJ8_rightOf_0 : List UInt8 := dkwJ8_rightOf_0 ++ []
theorem dksJ8_rightOf_0 : cJ8_rightOf.data.toList.drop 0 = dktJ8_rightOf_0 := by decide +kernel
theorem dJ8_rightOf_0 : decode cJ8_rightOf 0 = .ok (.aload_n 0, 1) := dk_42 (dk_at dksJ8_rightOf_0 0 rfl rfl)
theorem dJ8_rightOf_1 : decode cJ8_rightOf 1 = .ok (.ifnonnull 7, 3) := dk_199 0 7 (dk_at dksJ8_rightOf_0 1 rfl rfl)
theorem dJ8_rightOf_4 : decode cJ8_rightOf 4 = .ok (.aconst_null, 1) := dk_1 (dk_at dksJ8_rightOf_0 4 rfl rfl)
theorem dJ8_rightOf_5 : decode cJ8_rightOf 5 = .ok (.goto 7, 3) := dk_167 0 7 (dk_at dksJ8_rightOf_0 5 rfl rfl)
theorem dJ8_rightOf_8 : decode cJ8_rightOf 8 = .ok (.aload_n 0, 1) := dk_42 (dk_at dksJ8_rightOf_0 8 rfl rfl)
theorem dJ8_rightOf_9 : decode cJ8_rightOf 9 = .ok (.getfield 114, 3) := dk_180 0 114 (dk_at dksJ8_rightOf_0 9 rfl rfl)
theorem dJ8_rightOf_12 : decode cJ8_rightOf 12 = .ok (.areturn, 1) := dk_176 (dk_at dksJ8_rightOf_0 12 rfl rfl)
abbrev cJ8_colorOf : ByteArray := prog_62_method_76_code
def yJ8_colorOf : MethodName := ⟨RJ8, "colorOf", "(Ljava/util/TreeMap$Entry;)Z"⟩
def dkwJ8_colorOf_0 : List UInt8 := [42, 199, 0, 7, 4, 167, 0, 7, 42, 180, 1, 34, 172]
abbrev dktJ8_colorOf_0 : List UInt8 := dkwJ8_colorOf_0 ++ []
theorem dksJ8_colorOf_0 : cJ8_colorOf.data.toList.drop 0 = dktJ8_colorOf_0 := by decide +kernel
theorem dJ8_colorOf_0 : decode cJ8_colorOf 0 = .ok (.aload_n 0, 1) := dk_42 (dk_at dksJ8_colorOf_0 0 rfl rfl)
theorem dJ8_colorOf_1 : decode cJ8_colorOf 1 = .ok (.ifnonnull 7, 3) := dk_199 0 7 (dk_at dksJ8_colorOf_0 1 rfl rfl)
theorem dJ8_colorOf_4 : decode cJ8_colorOf 4 = .ok (.iconst 1, 1) := dk_4 (dk_at dksJ8_colorOf_0 4 rfl rfl)
theorem dJ8_colorOf_5 : decode cJ8_colorOf 5 = .ok (.goto 7, 3) := dk_167 0 7 (dk_at dksJ8_colorOf_0 5 rfl rfl)
theorem dJ8_colorOf_8 : decode cJ8_colorOf 8 = .ok (.aload_n 0, 1) := dk_42 (dk_at dksJ8_colorOf_0 8 rfl rfl)
theorem dJ8_colorOf_9 : decode cJ8_colorOf 9 = .ok (.getfield 290, 3) := dk_180 1 34 (dk_at dksJ8_colorOf_0 9 rfl rfl)
theorem dJ8_colorOf_12 : decode cJ8_colorOf 12 = .ok (.ireturn, 1) := dk_172 (dk_at dksJ8_colorOf_0 12 rfl rfl)
abbrev cJ8_setColor : ByteArray := prog_62_method_78_code
def yJ8_setColor : MethodName := ⟨RJ8, "setColor", "(Ljava/util/TreeMap$Entry;Z)V"⟩
def dkwJ8_setColor_0 : List UInt8 := [42, 198, 0, 8, 42, 27, 181, 1, 34, 177]
abbrev dktJ8_setColor_0 : List UInt8 := dkwJ8_setColor_0 ++ []
theorem dksJ8_setColor_0 : cJ8_setColor.data.toList.drop 0 = dktJ8_setColor_0 := by decide +kernel
theorem dJ8_setColor_0 : decode cJ8_setColor 0 = .ok (.aload_n 0, 1) := dk_42 (dk_at dksJ8_setColor_0 0 rfl rfl)
theorem dJ8_setColor_1 : decode cJ8_setColor 1 = .ok (.ifnull 8, 3) := dk_198 0 8 (dk_at dksJ8_setColor_0 1 rfl rfl)
theorem dJ8_setColor_4 : decode cJ8_setColor 4 = .ok (.aload_n 0, 1) := dk_42 (dk_at dksJ8_setColor_0 4 rfl rfl)
theorem dJ8_setColor_5 : decode cJ8_setColor 5 = .ok (.iload_n 1, 1) := dk_27 (dk_at dksJ8_setColor_0 5 rfl rfl)
theorem dJ8_setColor_6 : decode cJ8_setColor 6 = .ok (.putfield 290, 3) := dk_181 1 34 (dk_at dksJ8_setColor_0 6 rfl rfl)
theorem dJ8_setColor_9 : decode cJ8_setColor 9 = .ok (.return_, 1) := dk_177 (dk_at dksJ8_setColor_0 9 rfl rfl)
abbrev cJ8_rotateLeft : ByteArray := prog_62_method_81_code
def yJ8_rotateLeft : MethodName := ⟨RJ8, "rotateLeft", "(Ljava/util/TreeMap$Entry;)V"⟩
def dkwJ8_rotateLeft_4 : List UInt8 := [177]
abbrev dktJ8_rotateLeft_4 : List UInt8 := dkwJ8_rotateLeft_4 ++ []
def dkwJ8_rotateLeft_3 : List UInt8 := [181, 0, 111, 167, 0, 11, 43, 180, 0, 124, 44, 181, 0, 114, 44, 43, 181, 0, 111, 43, 44, 181, 0, 124]
abbrev dktJ8_rotateLeft_3 : List UInt8 := dkwJ8_rotateLeft_3 ++ dktJ8_rotateLeft_4
def dkwJ8_rotateLeft_2 : List UInt8 := [44, 181, 0, 101, 167, 0, 33, 43, 180, 0, 124, 180, 0, 111, 43, 166, 0, 14, 43, 180, 0, 124, 44]
abbrev dktJ8_rotateLeft_2 : List UInt8 := dkwJ8_rotateLeft_2 ++ dktJ8_rotateLeft_3
def dkwJ8_rotateLeft_1 : List UInt8 := [44, 180, 0, 111, 43, 181, 0, 124, 44, 43, 180, 0, 124, 181, 0, 124, 43, 180, 0, 124, 199, 0, 11, 42]
abbrev dktJ8_rotateLeft_1 : List UInt8 := dkwJ8_rotateLeft_1 ++ dktJ8_rotateLeft_2
def dkwJ8_rotateLeft_0 : List UInt8 := [43, 198, 0, 94, 43, 180, 0, 114, 77, 43, 44, 180, 0, 111, 181, 0, 114, 44, 180, 0, 111, 198, 0, 11]
abbrev dktJ8_rotateLeft_0 : List UInt8 := dkwJ8_rotateLeft_0 ++ dktJ8_rotateLeft_1
theorem dksJ8_rotateLeft_0 : cJ8_rotateLeft.data.toList.drop 0 = dktJ8_rotateLeft_0 := by decide +kernel
theorem dksJ8_rotateLeft_1 : cJ8_rotateLeft.data.toList.drop 24 = dktJ8_rotateLeft_1 := dk_seg dksJ8_rotateLeft_0 24 rfl rfl
theorem dksJ8_rotateLeft_2 : cJ8_rotateLeft.data.toList.drop 48 = dktJ8_rotateLeft_2 := dk_seg dksJ8_rotateLeft_1 24 rfl rfl
theorem dksJ8_rotateLeft_3 : cJ8_rotateLeft.data.toList.drop 71 = dktJ8_rotateLeft_3 := dk_seg dksJ8_rotateLeft_2 23 rfl rfl
theorem dksJ8_rotateLeft_4 : cJ8_rotateLeft.data.toList.drop 95 = dktJ8_rotateLeft_4 := dk_seg dksJ8_rotateLeft_3 24 rfl rfl
theorem dJ8_rotateLeft_0 : decode cJ8_rotateLeft 0 = .ok (.aload_n 1, 1) := dk_43 (dk_at dksJ8_rotateLeft_0 0 rfl rfl)
theorem dJ8_rotateLeft_1 : decode cJ8_rotateLeft 1 = .ok (.ifnull 94, 3) := dk_198 0 94 (dk_at dksJ8_rotateLeft_0 1 rfl rfl)
theorem dJ8_rotateLeft_4 : decode cJ8_rotateLeft 4 = .ok (.aload_n 1, 1) := dk_43 (dk_at dksJ8_rotateLeft_0 4 rfl rfl)
theorem dJ8_rotateLeft_5 : decode cJ8_rotateLeft 5 = .ok (.getfield 114, 3) := dk_180 0 114 (dk_at dksJ8_rotateLeft_0 5 rfl rfl)
theorem dJ8_rotateLeft_8 : decode cJ8_rotateLeft 8 = .ok (.astore_n 2, 1) := dk_77 (dk_at dksJ8_rotateLeft_0 8 rfl rfl)
theorem dJ8_rotateLeft_9 : decode cJ8_rotateLeft 9 = .ok (.aload_n 1, 1) := dk_43 (dk_at dksJ8_rotateLeft_0 9 rfl rfl)
theorem dJ8_rotateLeft_10 : decode cJ8_rotateLeft 10 = .ok (.aload_n 2, 1) := dk_44 (dk_at dksJ8_rotateLeft_0 10 rfl rfl)
theorem dJ8_rotateLeft_11 : decode cJ8_rotateLeft 11 = .ok (.getfield 111, 3) := dk_180 0 111 (dk_at dksJ8_rotateLeft_0 11 rfl rfl)
theorem dJ8_rotateLeft_14 : decode cJ8_rotateLeft 14 = .ok (.putfield 114, 3) := dk_181 0 114 (dk_at dksJ8_rotateLeft_0 14 rfl rfl)
theorem dJ8_rotateLeft_17 : decode cJ8_rotateLeft 17 = .ok (.aload_n 2, 1) := dk_44 (dk_at dksJ8_rotateLeft_0 17 rfl rfl)
theorem dJ8_rotateLeft_18 : decode cJ8_rotateLeft 18 = .ok (.getfield 111, 3) := dk_180 0 111 (dk_at dksJ8_rotateLeft_0 18 rfl rfl)
theorem dJ8_rotateLeft_21 : decode cJ8_rotateLeft 21 = .ok (.ifnull 11, 3) := dk_198 0 11 (dk_at dksJ8_rotateLeft_0 21 rfl rfl)
theorem dJ8_rotateLeft_24 : decode cJ8_rotateLeft 24 = .ok (.aload_n 2, 1) := dk_44 (dk_at dksJ8_rotateLeft_1 0 rfl rfl)
theorem dJ8_rotateLeft_25 : decode cJ8_rotateLeft 25 = .ok (.getfield 111, 3) := dk_180 0 111 (dk_at dksJ8_rotateLeft_1 1 rfl rfl)
theorem dJ8_rotateLeft_28 : decode cJ8_rotateLeft 28 = .ok (.aload_n 1, 1) := dk_43 (dk_at dksJ8_rotateLeft_1 4 rfl rfl)
theorem dJ8_rotateLeft_29 : decode cJ8_rotateLeft 29 = .ok (.putfield 124, 3) := dk_181 0 124 (dk_at dksJ8_rotateLeft_1 5 rfl rfl)
theorem dJ8_rotateLeft_32 : decode cJ8_rotateLeft 32 = .ok (.aload_n 2, 1) := dk_44 (dk_at dksJ8_rotateLeft_1 8 rfl rfl)
theorem dJ8_rotateLeft_33 : decode cJ8_rotateLeft 33 = .ok (.aload_n 1, 1) := dk_43 (dk_at dksJ8_rotateLeft_1 9 rfl rfl)
theorem dJ8_rotateLeft_34 : decode cJ8_rotateLeft 34 = .ok (.getfield 124, 3) := dk_180 0 124 (dk_at dksJ8_rotateLeft_1 10 rfl rfl)
theorem dJ8_rotateLeft_37 : decode cJ8_rotateLeft 37 = .ok (.putfield 124, 3) := dk_181 0 124 (dk_at dksJ8_rotateLeft_1 13 rfl rfl)
theorem dJ8_rotateLeft_40 : decode cJ8_rotateLeft 40 = .ok (.aload_n 1, 1) := dk_43 (dk_at dksJ8_rotateLeft_1 16 rfl rfl)
theorem dJ8_rotateLeft_41 : decode cJ8_rotateLeft 41 = .ok (.getfield 124, 3) := dk_180 0 124 (dk_at dksJ8_rotateLeft_1 17 rfl rfl)
theorem dJ8_rotateLeft_44 : decode cJ8_rotateLeft 44 = .ok (.ifnonnull 11, 3) := dk_199 0 11 (dk_at dksJ8_rotateLeft_1 20 rfl rfl)
theorem dJ8_rotateLeft_47 : decode cJ8_rotateLeft 47 = .ok (.aload_n 0, 1) := dk_42 (dk_at dksJ8_rotateLeft_1 23 rfl rfl)
theorem dJ8_rotateLeft_48 : decode cJ8_rotateLeft 48 = .ok (.aload_n 2, 1) := dk_44 (dk_at dksJ8_rotateLeft_2 0 rfl rfl)
theorem dJ8_rotateLeft_49 : decode cJ8_rotateLeft 49 = .ok (.putfield 101, 3) := dk_181 0 101 (dk_at dksJ8_rotateLeft_2 1 rfl rfl)
theorem dJ8_rotateLeft_52 : decode cJ8_rotateLeft 52 = .ok (.goto 33, 3) := dk_167 0 33 (dk_at dksJ8_rotateLeft_2 4 rfl rfl)
theorem dJ8_rotateLeft_55 : decode cJ8_rotateLeft 55 = .ok (.aload_n 1, 1) := dk_43 (dk_at dksJ8_rotateLeft_2 7 rfl rfl)
theorem dJ8_rotateLeft_56 : decode cJ8_rotateLeft 56 = .ok (.getfield 124, 3) := dk_180 0 124 (dk_at dksJ8_rotateLeft_2 8 rfl rfl)
theorem dJ8_rotateLeft_59 : decode cJ8_rotateLeft 59 = .ok (.getfield 111, 3) := dk_180 0 111 (dk_at dksJ8_rotateLeft_2 11 rfl rfl)
theorem dJ8_rotateLeft_62 : decode cJ8_rotateLeft 62 = .ok (.aload_n 1, 1) := dk_43 (dk_at dksJ8_rotateLeft_2 14 rfl rfl)
theorem dJ8_rotateLeft_63 : decode cJ8_rotateLeft 63 = .ok (.if_acmp .ne 14, 3) := dk_166 0 14 (dk_at dksJ8_rotateLeft_2 15 rfl rfl)
theorem dJ8_rotateLeft_66 : decode cJ8_rotateLeft 66 = .ok (.aload_n 1, 1) := dk_43 (dk_at dksJ8_rotateLeft_2 18 rfl rfl)
theorem dJ8_rotateLeft_67 : decode cJ8_rotateLeft 67 = .ok (.getfield 124, 3) := dk_180 0 124 (dk_at dksJ8_rotateLeft_2 19 rfl rfl)
theorem dJ8_rotateLeft_70 : decode cJ8_rotateLeft 70 = .ok (.aload_n 2, 1) := dk_44 (dk_at dksJ8_rotateLeft_2 22 rfl rfl)
theorem dJ8_rotateLeft_71 : decode cJ8_rotateLeft 71 = .ok (.putfield 111, 3) := dk_181 0 111 (dk_at dksJ8_rotateLeft_3 0 rfl rfl)
theorem dJ8_rotateLeft_74 : decode cJ8_rotateLeft 74 = .ok (.goto 11, 3) := dk_167 0 11 (dk_at dksJ8_rotateLeft_3 3 rfl rfl)
theorem dJ8_rotateLeft_77 : decode cJ8_rotateLeft 77 = .ok (.aload_n 1, 1) := dk_43 (dk_at dksJ8_rotateLeft_3 6 rfl rfl)
theorem dJ8_rotateLeft_78 : decode cJ8_rotateLeft 78 = .ok (.getfield 124, 3) := dk_180 0 124 (dk_at dksJ8_rotateLeft_3 7 rfl rfl)
theorem dJ8_rotateLeft_81 : decode cJ8_rotateLeft 81 = .ok (.aload_n 2, 1) := dk_44 (dk_at dksJ8_rotateLeft_3 10 rfl rfl)
theorem dJ8_rotateLeft_82 : decode cJ8_rotateLeft 82 = .ok (.putfield 114, 3) := dk_181 0 114 (dk_at dksJ8_rotateLeft_3 11 rfl rfl)
theorem dJ8_rotateLeft_85 : decode cJ8_rotateLeft 85 = .ok (.aload_n 2, 1) := dk_44 (dk_at dksJ8_rotateLeft_3 14 rfl rfl)
theorem dJ8_rotateLeft_86 : decode cJ8_rotateLeft 86 = .ok (.aload_n 1, 1) := dk_43 (dk_at dksJ8_rotateLeft_3 15 rfl rfl)
theorem dJ8_rotateLeft_87 : decode cJ8_rotateLeft 87 = .ok (.putfield 111, 3) := dk_181 0 111 (dk_at dksJ8_rotateLeft_3 16 rfl rfl)
theorem dJ8_rotateLeft_90 : decode cJ8_rotateLeft 90 = .ok (.aload_n 1, 1) := dk_43 (dk_at dksJ8_rotateLeft_3 19 rfl rfl)
theorem dJ8_rotateLeft_91 : decode cJ8_rotateLeft 91 = .ok (.aload_n 2, 1) := dk_44 (dk_at dksJ8_rotateLeft_3 20 rfl rfl)
theorem dJ8_rotateLeft_92 : decode cJ8_rotateLeft 92 = .ok (.putfield 124, 3) := dk_181 0 124 (dk_at dksJ8_rotateLeft_3 21 rfl rfl)
theorem dJ8_rotateLeft_95 : decode cJ8_rotateLeft 95 = .ok (.return_, 1) := dk_177 (dk_at dksJ8_rotateLeft_4 0 rfl rfl)
abbrev cJ8_rotateRight : ByteArray := prog_62_method_82_code
def yJ8_rotateRight : MethodName := ⟨RJ8, "rotateRight", "(Ljava/util/TreeMap$Entry;)V"⟩
def dkwJ8_rotateRight_4 : List UInt8 := [177]
abbrev dktJ8_rotateRight_4 : List UInt8 := dkwJ8_rotateRight_4 ++ []
def dkwJ8_rotateRight_3 : List UInt8 := [181, 0, 114, 167, 0, 11, 43, 180, 0, 124, 44, 181, 0, 111, 44, 43, 181, 0, 114, 43, 44, 181, 0, 124]
abbrev dktJ8_rotateRight_3 : List UInt8 := dkwJ8_rotateRight_3 ++ dktJ8_rotateRight_4
def dkwJ8_rotateRight_2 : List UInt8 := [44, 181, 0, 101, 167, 0, 33, 43, 180, 0, 124, 180, 0, 114, 43, 166, 0, 14, 43, 180, 0, 124, 44]
abbrev dktJ8_rotateRight_2 : List UInt8 := dkwJ8_rotateRight_2 ++ dktJ8_rotateRight_3
def dkwJ8_rotateRight_1 : List UInt8 := [44, 180, 0, 114, 43, 181, 0, 124, 44, 43, 180, 0, 124, 181, 0, 124, 43, 180, 0, 124, 199, 0, 11, 42]
abbrev dktJ8_rotateRight_1 : List UInt8 := dkwJ8_rotateRight_1 ++ dktJ8_rotateRight_2
def dkwJ8_rotateRight_0 : List UInt8 := [43, 198, 0, 94, 43, 180, 0, 111, 77, 43, 44, 180, 0, 114, 181, 0, 111, 44, 180, 0, 114, 198, 0, 11]
abbrev dktJ8_rotateRight_0 : List UInt8 := dkwJ8_rotateRight_0 ++ dktJ8_rotateRight_1
theorem dksJ8_rotateRight_0 : cJ8_rotateRight.data.toList.drop 0 = dktJ8_rotateRight_0 := by decide +kernel
theorem dksJ8_rotateRight_1 : cJ8_rotateRight.data.toList.drop 24 = dktJ8_rotateRight_1 := dk_seg dksJ8_rotateRight_0 24 rfl rfl
theorem dksJ8_rotateRight_2 : cJ8_rotateRight.data.toList.drop 48 = dktJ8_rotateRight_2 := dk_seg dksJ8_rotateRight_1 24 rfl rfl
theorem dksJ8_rotateRight_3 : cJ8_rotateRight.data.toList.drop 71 = dktJ8_rotateRight_3 := dk_seg dksJ8_rotateRight_2 23 rfl rfl
theorem dksJ8_rotateRight_4 : cJ8_rotateRight.data.toList.drop 95 = dktJ8_rotateRight_4 := dk_seg dksJ8_rotateRight_3 24 rfl rfl
theorem dJ8_rotateRight_0 : decode cJ8_rotateRight 0 = .ok (.aload_n 1, 1) := dk_43 (dk_at dksJ8_rotateRight_0 0 rfl rfl)
theorem dJ8_rotateRight_1 : decode cJ8_rotateRight 1 = .ok (.ifnull 94, 3) := dk_198 0 94 (dk_at dksJ8_rotateRight_0 1 rfl rfl)
theorem dJ8_rotateRight_4 : decode cJ8_rotateRight 4 = .ok (.aload_n 1, 1) := dk_43 (dk_at dksJ8_rotateRight_0 4 rfl rfl)
theorem dJ8_rotateRight_5 : decode cJ8_rotateRight 5 = .ok (.getfield 111, 3) := dk_180 0 111 (dk_at dksJ8_rotateRight_0 5 rfl rfl)
theorem dJ8_rotateRight_8 : decode cJ8_rotateRight 8 = .ok (.astore_n 2, 1) := dk_77 (dk_at dksJ8_rotateRight_0 8 rfl rfl)
theorem dJ8_rotateRight_9 : decode cJ8_rotateRight 9 = .ok (.aload_n 1, 1) := dk_43 (dk_at dksJ8_rotateRight_0 9 rfl rfl)
theorem dJ8_rotateRight_10 : decode cJ8_rotateRight 10 = .ok (.aload_n 2, 1) := dk_44 (dk_at dksJ8_rotateRight_0 10 rfl rfl)
theorem dJ8_rotateRight_11 : decode cJ8_rotateRight 11 = .ok (.getfield 114, 3) := dk_180 0 114 (dk_at dksJ8_rotateRight_0 11 rfl rfl)
theorem dJ8_rotateRight_14 : decode cJ8_rotateRight 14 = .ok (.putfield 111, 3) := dk_181 0 111 (dk_at dksJ8_rotateRight_0 14 rfl rfl)
theorem dJ8_rotateRight_17 : decode cJ8_rotateRight 17 = .ok (.aload_n 2, 1) := dk_44 (dk_at dksJ8_rotateRight_0 17 rfl rfl)
theorem dJ8_rotateRight_18 : decode cJ8_rotateRight 18 = .ok (.getfield 114, 3) := dk_180 0 114 (dk_at dksJ8_rotateRight_0 18 rfl rfl)
theorem dJ8_rotateRight_21 : decode cJ8_rotateRight 21 = .ok (.ifnull 11, 3) := dk_198 0 11 (dk_at dksJ8_rotateRight_0 21 rfl rfl)
theorem dJ8_rotateRight_24 : decode cJ8_rotateRight 24 = .ok (.aload_n 2, 1) := dk_44 (dk_at dksJ8_rotateRight_1 0 rfl rfl)
theorem dJ8_rotateRight_25 : decode cJ8_rotateRight 25 = .ok (.getfield 114, 3) := dk_180 0 114 (dk_at dksJ8_rotateRight_1 1 rfl rfl)
theorem dJ8_rotateRight_28 : decode cJ8_rotateRight 28 = .ok (.aload_n 1, 1) := dk_43 (dk_at dksJ8_rotateRight_1 4 rfl rfl)
theorem dJ8_rotateRight_29 : decode cJ8_rotateRight 29 = .ok (.putfield 124, 3) := dk_181 0 124 (dk_at dksJ8_rotateRight_1 5 rfl rfl)
theorem dJ8_rotateRight_32 : decode cJ8_rotateRight 32 = .ok (.aload_n 2, 1) := dk_44 (dk_at dksJ8_rotateRight_1 8 rfl rfl)
theorem dJ8_rotateRight_33 : decode cJ8_rotateRight 33 = .ok (.aload_n 1, 1) := dk_43 (dk_at dksJ8_rotateRight_1 9 rfl rfl)
theorem dJ8_rotateRight_34 : decode cJ8_rotateRight 34 = .ok (.getfield 124, 3) := dk_180 0 124 (dk_at dksJ8_rotateRight_1 10 rfl rfl)
theorem dJ8_rotateRight_37 : decode cJ8_rotateRight 37 = .ok (.putfield 124, 3) := dk_181 0 124 (dk_at dksJ8_rotateRight_1 13 rfl rfl)
theorem dJ8_rotateRight_40 : decode cJ8_rotateRight 40 = .ok (.aload_n 1, 1) := dk_43 (dk_at dksJ8_rotateRight_1 16 rfl rfl)
theorem dJ8_rotateRight_41 : decode cJ8_rotateRight 41 = .ok (.getfield 124, 3) := dk_180 0 124 (dk_at dksJ8_rotateRight_1 17 rfl rfl)
theorem dJ8_rotateRight_44 : decode cJ8_rotateRight 44 = .ok (.ifnonnull 11, 3) := dk_199 0 11 (dk_at dksJ8_rotateRight_1 20 rfl rfl)
theorem dJ8_rotateRight_47 : decode cJ8_rotateRight 47 = .ok (.aload_n 0, 1) := dk_42 (dk_at dksJ8_rotateRight_1 23 rfl rfl)
theorem dJ8_rotateRight_48 : decode cJ8_rotateRight 48 = .ok (.aload_n 2, 1) := dk_44 (dk_at dksJ8_rotateRight_2 0 rfl rfl)
theorem dJ8_rotateRight_49 : decode cJ8_rotateRight 49 = .ok (.putfield 101, 3) := dk_181 0 101 (dk_at dksJ8_rotateRight_2 1 rfl rfl)
theorem dJ8_rotateRight_52 : decode cJ8_rotateRight 52 = .ok (.goto 33, 3) := dk_167 0 33 (dk_at dksJ8_rotateRight_2 4 rfl rfl)
theorem dJ8_rotateRight_55 : decode cJ8_rotateRight 55 = .ok (.aload_n 1, 1) := dk_43 (dk_at dksJ8_rotateRight_2 7 rfl rfl)
theorem dJ8_rotateRight_56 : decode cJ8_rotateRight 56 = .ok (.getfield 124, 3) := dk_180 0 124 (dk_at dksJ8_rotateRight_2 8 rfl rfl)
theorem dJ8_rotateRight_59 : decode cJ8_rotateRight 59 = .ok (.getfield 114, 3) := dk_180 0 114 (dk_at dksJ8_rotateRight_2 11 rfl rfl)
theorem dJ8_rotateRight_62 : decode cJ8_rotateRight 62 = .ok (.aload_n 1, 1) := dk_43 (dk_at dksJ8_rotateRight_2 14 rfl rfl)
theorem dJ8_rotateRight_63 : decode cJ8_rotateRight 63 = .ok (.if_acmp .ne 14, 3) := dk_166 0 14 (dk_at dksJ8_rotateRight_2 15 rfl rfl)
theorem dJ8_rotateRight_66 : decode cJ8_rotateRight 66 = .ok (.aload_n 1, 1) := dk_43 (dk_at dksJ8_rotateRight_2 18 rfl rfl)
theorem dJ8_rotateRight_67 : decode cJ8_rotateRight 67 = .ok (.getfield 124, 3) := dk_180 0 124 (dk_at dksJ8_rotateRight_2 19 rfl rfl)
theorem dJ8_rotateRight_70 : decode cJ8_rotateRight 70 = .ok (.aload_n 2, 1) := dk_44 (dk_at dksJ8_rotateRight_2 22 rfl rfl)
theorem dJ8_rotateRight_71 : decode cJ8_rotateRight 71 = .ok (.putfield 114, 3) := dk_181 0 114 (dk_at dksJ8_rotateRight_3 0 rfl rfl)
theorem dJ8_rotateRight_74 : decode cJ8_rotateRight 74 = .ok (.goto 11, 3) := dk_167 0 11 (dk_at dksJ8_rotateRight_3 3 rfl rfl)
theorem dJ8_rotateRight_77 : decode cJ8_rotateRight 77 = .ok (.aload_n 1, 1) := dk_43 (dk_at dksJ8_rotateRight_3 6 rfl rfl)
theorem dJ8_rotateRight_78 : decode cJ8_rotateRight 78 = .ok (.getfield 124, 3) := dk_180 0 124 (dk_at dksJ8_rotateRight_3 7 rfl rfl)
theorem dJ8_rotateRight_81 : decode cJ8_rotateRight 81 = .ok (.aload_n 2, 1) := dk_44 (dk_at dksJ8_rotateRight_3 10 rfl rfl)
theorem dJ8_rotateRight_82 : decode cJ8_rotateRight 82 = .ok (.putfield 111, 3) := dk_181 0 111 (dk_at dksJ8_rotateRight_3 11 rfl rfl)
theorem dJ8_rotateRight_85 : decode cJ8_rotateRight 85 = .ok (.aload_n 2, 1) := dk_44 (dk_at dksJ8_rotateRight_3 14 rfl rfl)
theorem dJ8_rotateRight_86 : decode cJ8_rotateRight 86 = .ok (.aload_n 1, 1) := dk_43 (dk_at dksJ8_rotateRight_3 15 rfl rfl)
theorem dJ8_rotateRight_87 : decode cJ8_rotateRight 87 = .ok (.putfield 114, 3) := dk_181 0 114 (dk_at dksJ8_rotateRight_3 16 rfl rfl)
theorem dJ8_rotateRight_90 : decode cJ8_rotateRight 90 = .ok (.aload_n 1, 1) := dk_43 (dk_at dksJ8_rotateRight_3 19 rfl rfl)
theorem dJ8_rotateRight_91 : decode cJ8_rotateRight 91 = .ok (.aload_n 2, 1) := dk_44 (dk_at dksJ8_rotateRight_3 20 rfl rfl)
theorem dJ8_rotateRight_92 : decode cJ8_rotateRight 92 = .ok (.putfield 124, 3) := dk_181 0 124 (dk_at dksJ8_rotateRight_3 21 rfl rfl)
theorem dJ8_rotateRight_95 : decode cJ8_rotateRight 95 = .ok (.return_, 1) := dk_177 (dk_at dksJ8_rotateRight_4 0 rfl rfl)
abbrev cJ8_floorKey : ByteArray := prog_62_method_44_code
def yJ8_floorKey : MethodName := ⟨RJ8, "floorKey", "(Ljava/lang/Object;)Ljava/lang/Object;"⟩
def dkwJ8_floorKey_0 : List UInt8 := [42, 43, 182, 0, 210, 184, 0, 207, 176]
abbrev dktJ8_floorKey_0 : List UInt8 := dkwJ8_floorKey_0 ++ []
theorem dksJ8_floorKey_0 : cJ8_floorKey.data.toList.drop 0 = dktJ8_floorKey_0 := by decide +kernel
theorem dJ8_floorKey_0 : decode cJ8_floorKey 0 = .ok (.aload_n 0, 1) := dk_42 (dk_at dksJ8_floorKey_0 0 rfl rfl)
theorem dJ8_floorKey_1 : decode cJ8_floorKey 1 = .ok (.aload_n 1, 1) := dk_43 (dk_at dksJ8_floorKey_0 1 rfl rfl)
theorem dJ8_floorKey_2 : decode cJ8_floorKey 2 = .ok (.invokevirtual 210, 3) := dk_182 0 210 (dk_at dksJ8_floorKey_0 2 rfl rfl)
theorem dJ8_floorKey_5 : decode cJ8_floorKey 5 = .ok (.invokestatic 207, 3) := dk_184 0 207 (dk_at dksJ8_floorKey_0 5 rfl rfl)
theorem dJ8_floorKey_8 : decode cJ8_floorKey 8 = .ok (.areturn, 1) := dk_176 (dk_at dksJ8_floorKey_0 8 rfl rfl)
abbrev cJ8_getFloorEntry : ByteArray := prog_62_method_18_code
def yJ8_getFloorEntry : MethodName := ⟨RJ8, "getFloorEntry", "(Ljava/lang/Object;)Ljava/util/TreeMap$Entry;"⟩
def dkwJ8_getFloorEntry_4 : List UInt8 := [167, 255, 230, 25, 4, 176, 44, 176, 167, 255, 159, 1, 176]
abbrev dktJ8_getFloorEntry_4 : List UInt8 := dkwJ8_getFloorEntry_4 ++ []
def dkwJ8_getFloorEntry_3 : List UInt8 := [198, 0, 27, 25, 5, 25, 4, 180, 0, 111, 166, 0, 17, 25, 4, 58, 5, 25, 4, 180, 0, 124, 58, 4]
abbrev dktJ8_getFloorEntry_3 : List UInt8 := dkwJ8_getFloorEntry_3 ++ dktJ8_getFloorEntry_4
def dkwJ8_getFloorEntry_2 : List UInt8 := [198, 0, 11, 44, 180, 0, 111, 77, 167, 0, 46, 44, 180, 0, 124, 58, 4, 44, 58, 5, 25, 4]
abbrev dktJ8_getFloorEntry_2 : List UInt8 := dkwJ8_getFloorEntry_2 ++ dktJ8_getFloorEntry_3
def dkwJ8_getFloorEntry_1 : List UInt8 := [180, 0, 114, 198, 0, 11, 44, 180, 0, 114, 77, 167, 0, 67, 44, 176, 29, 156, 0, 59, 44, 180, 0, 111]
abbrev dktJ8_getFloorEntry_1 : List UInt8 := dkwJ8_getFloorEntry_1 ++ dktJ8_getFloorEntry_2
def dkwJ8_getFloorEntry_0 : List UInt8 := [42, 180, 0, 101, 77, 44, 198, 0, 99, 42, 43, 44, 180, 0, 105, 182, 0, 123, 62, 29, 158, 0, 20, 44]
abbrev dktJ8_getFloorEntry_0 : List UInt8 := dkwJ8_getFloorEntry_0 ++ dktJ8_getFloorEntry_1
theorem dksJ8_getFloorEntry_0 : cJ8_getFloorEntry.data.toList.drop 0 = dktJ8_getFloorEntry_0 := by decide +kernel
theorem dksJ8_getFloorEntry_1 : cJ8_getFloorEntry.data.toList.drop 24 = dktJ8_getFloorEntry_1 := dk_seg dksJ8_getFloorEntry_0 24 rfl rfl
theorem dksJ8_getFloorEntry_2 : cJ8_getFloorEntry.data.toList.drop 48 = dktJ8_getFloorEntry_2 := dk_seg dksJ8_getFloorEntry_1 24 rfl rfl
theorem dksJ8_getFloorEntry_3 : cJ8_getFloorEntry.data.toList.drop 70 = dktJ8_getFloorEntry_3 := dk_seg dksJ8_getFloorEntry_2 22 rfl rfl
theorem dksJ8_getFloorEntry_4 : cJ8_getFloorEntry.data.toList.drop 94 = dktJ8_getFloorEntry_4 := dk_seg dksJ8_getFloorEntry_3 24 rfl rfl
theorem dJ8_getFloorEntry_0 : decode cJ8_getFloorEntry 0 = .ok (.aload_n 0, 1) := dk_42 (dk_at dksJ8_getFloorEntry_0 0 rfl rfl)
theorem dJ8_getFloorEntry_1 : decode cJ8_getFloorEntry 1 = .ok (.getfield 101, 3) := dk_180 0 101 (dk_at dksJ8_getFloorEntry_0 1 rfl rfl)
theorem dJ8_getFloorEntry_4 : decode cJ8_getFloorEntry 4 = .ok (.astore_n 2, 1) := dk_77 (dk_at dksJ8_getFloorEntry_0 4 rfl rfl)
theorem dJ8_getFloorEntry_5 : decode cJ8_getFloorEntry 5 = .ok (.aload_n 2, 1) := dk_44 (dk_at dksJ8_getFloorEntry_0 5 rfl rfl)
theorem dJ8_getFloorEntry_6 : decode cJ8_getFloorEntry 6 = .ok (.ifnull 99, 3) := dk_198 0 99 (dk_at dksJ8_getFloorEntry_0 6 rfl rfl)
theorem dJ8_getFloorEntry_9 : decode cJ8_getFloorEntry 9 = .ok (.aload_n 0, 1) := dk_42 (dk_at dksJ8_getFloorEntry_0 9 rfl rfl)
theorem dJ8_getFloorEntry_10 : decode cJ8_getFloorEntry 10 = .ok (.aload_n 1, 1) := dk_43 (dk_at dksJ8_getFloorEntry_0 10 rfl rfl)
theorem dJ8_getFloorEntry_11 : decode cJ8_getFloorEntry 11 = .ok (.aload_n 2, 1) := dk_44 (dk_at dksJ8_getFloorEntry_0 11 rfl rfl)
theorem dJ8_getFloorEntry_12 : decode cJ8_getFloorEntry 12 = .ok (.getfield 105, 3) := dk_180 0 105 (dk_at dksJ8_getFloorEntry_0 12 rfl rfl)
theorem dJ8_getFloorEntry_15 : decode cJ8_getFloorEntry 15 = .ok (.invokevirtual 123, 3) := dk_182 0 123 (dk_at dksJ8_getFloorEntry_0 15 rfl rfl)
theorem dJ8_getFloorEntry_18 : decode cJ8_getFloorEntry 18 = .ok (.istore_n 3, 1) := dk_62 (dk_at dksJ8_getFloorEntry_0 18 rfl rfl)
theorem dJ8_getFloorEntry_19 : decode cJ8_getFloorEntry 19 = .ok (.iload_n 3, 1) := dk_29 (dk_at dksJ8_getFloorEntry_0 19 rfl rfl)
theorem dJ8_getFloorEntry_20 : decode cJ8_getFloorEntry 20 = .ok (.ifCond .le 20, 3) := dk_158 0 20 (dk_at dksJ8_getFloorEntry_0 20 rfl rfl)
theorem dJ8_getFloorEntry_23 : decode cJ8_getFloorEntry 23 = .ok (.aload_n 2, 1) := dk_44 (dk_at dksJ8_getFloorEntry_0 23 rfl rfl)
theorem dJ8_getFloorEntry_24 : decode cJ8_getFloorEntry 24 = .ok (.getfield 114, 3) := dk_180 0 114 (dk_at dksJ8_getFloorEntry_1 0 rfl rfl)
theorem dJ8_getFloorEntry_27 : decode cJ8_getFloorEntry 27 = .ok (.ifnull 11, 3) := dk_198 0 11 (dk_at dksJ8_getFloorEntry_1 3 rfl rfl)
theorem dJ8_getFloorEntry_30 : decode cJ8_getFloorEntry 30 = .ok (.aload_n 2, 1) := dk_44 (dk_at dksJ8_getFloorEntry_1 6 rfl rfl)
theorem dJ8_getFloorEntry_31 : decode cJ8_getFloorEntry 31 = .ok (.getfield 114, 3) := dk_180 0 114 (dk_at dksJ8_getFloorEntry_1 7 rfl rfl)
theorem dJ8_getFloorEntry_34 : decode cJ8_getFloorEntry 34 = .ok (.astore_n 2, 1) := dk_77 (dk_at dksJ8_getFloorEntry_1 10 rfl rfl)
theorem dJ8_getFloorEntry_35 : decode cJ8_getFloorEntry 35 = .ok (.goto 67, 3) := dk_167 0 67 (dk_at dksJ8_getFloorEntry_1 11 rfl rfl)
theorem dJ8_getFloorEntry_38 : decode cJ8_getFloorEntry 38 = .ok (.aload_n 2, 1) := dk_44 (dk_at dksJ8_getFloorEntry_1 14 rfl rfl)
theorem dJ8_getFloorEntry_39 : decode cJ8_getFloorEntry 39 = .ok (.areturn, 1) := dk_176 (dk_at dksJ8_getFloorEntry_1 15 rfl rfl)
theorem dJ8_getFloorEntry_40 : decode cJ8_getFloorEntry 40 = .ok (.iload_n 3, 1) := dk_29 (dk_at dksJ8_getFloorEntry_1 16 rfl rfl)
theorem dJ8_getFloorEntry_41 : decode cJ8_getFloorEntry 41 = .ok (.ifCond .ge 59, 3) := dk_156 0 59 (dk_at dksJ8_getFloorEntry_1 17 rfl rfl)
theorem dJ8_getFloorEntry_44 : decode cJ8_getFloorEntry 44 = .ok (.aload_n 2, 1) := dk_44 (dk_at dksJ8_getFloorEntry_1 20 rfl rfl)
theorem dJ8_getFloorEntry_45 : decode cJ8_getFloorEntry 45 = .ok (.getfield 111, 3) := dk_180 0 111 (dk_at dksJ8_getFloorEntry_1 21 rfl rfl)
theorem dJ8_getFloorEntry_48 : decode cJ8_getFloorEntry 48 = .ok (.ifnull 11, 3) := dk_198 0 11 (dk_at dksJ8_getFloorEntry_2 0 rfl rfl)
theorem dJ8_getFloorEntry_51 : decode cJ8_getFloorEntry 51 = .ok (.aload_n 2, 1) := dk_44 (dk_at dksJ8_getFloorEntry_2 3 rfl rfl)
theorem dJ8_getFloorEntry_52 : decode cJ8_getFloorEntry 52 = .ok (.getfield 111, 3) := dk_180 0 111 (dk_at dksJ8_getFloorEntry_2 4 rfl rfl)
theorem dJ8_getFloorEntry_55 : decode cJ8_getFloorEntry 55 = .ok (.astore_n 2, 1) := dk_77 (dk_at dksJ8_getFloorEntry_2 7 rfl rfl)
theorem dJ8_getFloorEntry_56 : decode cJ8_getFloorEntry 56 = .ok (.goto 46, 3) := dk_167 0 46 (dk_at dksJ8_getFloorEntry_2 8 rfl rfl)
theorem dJ8_getFloorEntry_59 : decode cJ8_getFloorEntry 59 = .ok (.aload_n 2, 1) := dk_44 (dk_at dksJ8_getFloorEntry_2 11 rfl rfl)
theorem dJ8_getFloorEntry_60 : decode cJ8_getFloorEntry 60 = .ok (.getfield 124, 3) := dk_180 0 124 (dk_at dksJ8_getFloorEntry_2 12 rfl rfl)
theorem dJ8_getFloorEntry_63 : decode cJ8_getFloorEntry 63 = .ok (.astore 4, 2) := dk_58 4 (dk_at dksJ8_getFloorEntry_2 15 rfl rfl)
theorem dJ8_getFloorEntry_65 : decode cJ8_getFloorEntry 65 = .ok (.aload_n 2, 1) := dk_44 (dk_at dksJ8_getFloorEntry_2 17 rfl rfl)
theorem dJ8_getFloorEntry_66 : decode cJ8_getFloorEntry 66 = .ok (.astore 5, 2) := dk_58 5 (dk_at dksJ8_getFloorEntry_2 18 rfl rfl)
theorem dJ8_getFloorEntry_68 : decode cJ8_getFloorEntry 68 = .ok (.aload 4, 2) := dk_25 4 (dk_at dksJ8_getFloorEntry_2 20 rfl rfl)
theorem dJ8_getFloorEntry_70 : decode cJ8_getFloorEntry 70 = .ok (.ifnull 27, 3) := dk_198 0 27 (dk_at dksJ8_getFloorEntry_3 0 rfl rfl)
theorem dJ8_getFloorEntry_73 : decode cJ8_getFloorEntry 73 = .ok (.aload 5, 2) := dk_25 5 (dk_at dksJ8_getFloorEntry_3 3 rfl rfl)
theorem dJ8_getFloorEntry_75 : decode cJ8_getFloorEntry 75 = .ok (.aload 4, 2) := dk_25 4 (dk_at dksJ8_getFloorEntry_3 5 rfl rfl)
theorem dJ8_getFloorEntry_77 : decode cJ8_getFloorEntry 77 = .ok (.getfield 111, 3) := dk_180 0 111 (dk_at dksJ8_getFloorEntry_3 7 rfl rfl)
theorem dJ8_getFloorEntry_80 : decode cJ8_getFloorEntry 80 = .ok (.if_acmp .ne 17, 3) := dk_166 0 17 (dk_at dksJ8_getFloorEntry_3 10 rfl rfl)
theorem dJ8_getFloorEntry_83 : decode cJ8_getFloorEntry 83 = .ok (.aload 4, 2) := dk_25 4 (dk_at dksJ8_getFloorEntry_3 13 rfl rfl)
theorem dJ8_getFloorEntry_85 : decode cJ8_getFloorEntry 85 = .ok (.astore 5, 2) := dk_58 5 (dk_at dksJ8_getFloorEntry_3 15 rfl rfl)
theorem dJ8_getFloorEntry_87 : decode cJ8_getFloorEntry 87 = .ok (.aload 4, 2) := dk_25 4 (dk_at dksJ8_getFloorEntry_3 17 rfl rfl)
theorem dJ8_getFloorEntry_89 : decode cJ8_getFloorEntry 89 = .ok (.getfield 124, 3) := dk_180 0 124 (dk_at dksJ8_getFloorEntry_3 19 rfl rfl)
theorem dJ8_getFloorEntry_92 : decode cJ8_getFloorEntry 92 = .ok (.astore 4, 2) := dk_58 4 (dk_at dksJ8_getFloorEntry_3 22 rfl rfl)
theorem dJ8_getFloorEntry_94 : decode cJ8_getFloorEntry 94 = .ok (.goto (-26), 3) := dk_167 255 230 (dk_at dksJ8_getFloorEntry_4 0 rfl rfl)
theorem dJ8_getFloorEntry_97 : decode cJ8_getFloorEntry 97 = .ok (.aload 4, 2) := dk_25 4 (dk_at dksJ8_getFloorEntry_4 3 rfl rfl)
theorem dJ8_getFloorEntry_99 : decode cJ8_getFloorEntry 99 = .ok (.areturn, 1) := dk_176 (dk_at dksJ8_getFloorEntry_4 5 rfl rfl)
theorem dJ8_getFloorEntry_100 : decode cJ8_getFloorEntry 100 = .ok (.aload_n 2, 1) := dk_44 (dk_at dksJ8_getFloorEntry_4 6 rfl rfl)
theorem dJ8_getFloorEntry_101 : decode cJ8_getFloorEntry 101 = .ok (.areturn, 1) := dk_176 (dk_at dksJ8_getFloorEntry_4 7 rfl rfl)
theorem dJ8_getFloorEntry_102 : decode cJ8_getFloorEntry 102 = .ok (.goto (-97), 3) := dk_167 255 159 (dk_at dksJ8_getFloorEntry_4 8 rfl rfl)
theorem dJ8_getFloorEntry_105 : decode cJ8_getFloorEntry 105 = .ok (.aconst_null, 1) := dk_1 (dk_at dksJ8_getFloorEntry_4 11 rfl rfl)
theorem dJ8_getFloorEntry_106 : decode cJ8_getFloorEntry 106 = .ok (.areturn, 1) := dk_176 (dk_at dksJ8_getFloorEntry_4 12 rfl rfl)
abbrev cJ8_keyOrNull : ByteArray := prog_62_method_70_code
def yJ8_keyOrNull : MethodName := ⟨RJ8, "keyOrNull", "(Ljava/util/TreeMap$Entry;)Ljava/lang/Object;"⟩
def dkwJ8_keyOrNull_0 : List UInt8 := [42, 199, 0, 7, 1, 167, 0, 7, 42, 180, 0, 105, 176]
abbrev dktJ8_keyOrNull_0 : List UInt8 := dkwJ8_keyOrNull_0 ++ []
theorem dksJ8_keyOrNull_0 : cJ8_keyOrNull.data.toList.drop 0 = dktJ8_keyOrNull_0 := by decide +kernel
theorem dJ8_keyOrNull_0 : decode cJ8_keyOrNull 0 = .ok (.aload_n 0, 1) := dk_42 (dk_at dksJ8_keyOrNull_0 0 rfl rfl)
theorem dJ8_keyOrNull_1 : decode cJ8_keyOrNull 1 = .ok (.ifnonnull 7, 3) := dk_199 0 7 (dk_at dksJ8_keyOrNull_0 1 rfl rfl)
theorem dJ8_keyOrNull_4 : decode cJ8_keyOrNull 4 = .ok (.aconst_null, 1) := dk_1 (dk_at dksJ8_keyOrNull_0 4 rfl rfl)
theorem dJ8_keyOrNull_5 : decode cJ8_keyOrNull 5 = .ok (.goto 7, 3) := dk_167 0 7 (dk_at dksJ8_keyOrNull_0 5 rfl rfl)
theorem dJ8_keyOrNull_8 : decode cJ8_keyOrNull 8 = .ok (.aload_n 0, 1) := dk_42 (dk_at dksJ8_keyOrNull_0 8 rfl rfl)
theorem dJ8_keyOrNull_9 : decode cJ8_keyOrNull 9 = .ok (.getfield 105, 3) := dk_180 0 105 (dk_at dksJ8_keyOrNull_0 9 rfl rfl)
theorem dJ8_keyOrNull_12 : decode cJ8_keyOrNull 12 = .ok (.areturn, 1) := dk_176 (dk_at dksJ8_keyOrNull_0 12 rfl rfl)
abbrev cJ8_firstKey : ByteArray := prog_62_method_10_code
def yJ8_firstKey : MethodName := ⟨RJ8, "firstKey", "()Ljava/lang/Object;"⟩
def dkwJ8_firstKey_0 : List UInt8 := [42, 182, 0, 54, 184, 0, 72, 176]
abbrev dktJ8_firstKey_0 : List UInt8 := dkwJ8_firstKey_0 ++ []
theorem dksJ8_firstKey_0 : cJ8_firstKey.data.toList.drop 0 = dktJ8_firstKey_0 := by decide +kernel
theorem dJ8_firstKey_0 : decode cJ8_firstKey 0 = .ok (.aload_n 0, 1) := dk_42 (dk_at dksJ8_firstKey_0 0 rfl rfl)
theorem dJ8_firstKey_1 : decode cJ8_firstKey 1 = .ok (.invokevirtual 54, 3) := dk_182 0 54 (dk_at dksJ8_firstKey_0 1 rfl rfl)
theorem dJ8_firstKey_4 : decode cJ8_firstKey 4 = .ok (.invokestatic 72, 3) := dk_184 0 72 (dk_at dksJ8_firstKey_0 4 rfl rfl)
theorem dJ8_firstKey_7 : decode cJ8_firstKey 7 = .ok (.areturn, 1) := dk_176 (dk_at dksJ8_firstKey_0 7 rfl rfl)
abbrev cJ8_key : ByteArray := prog_62_method_71_code
def yJ8_key : MethodName := ⟨RJ8, "key", "(Ljava/util/TreeMap$Entry;)Ljava/lang/Object;"⟩
def dkwJ8_key_0 : List UInt8 := [42, 199, 0, 11, 187, 1, 31, 89, 183, 1, 33, 191, 42, 180, 0, 105, 176]
abbrev dktJ8_key_0 : List UInt8 := dkwJ8_key_0 ++ []
theorem dksJ8_key_0 : cJ8_key.data.toList.drop 0 = dktJ8_key_0 := by decide +kernel
theorem dJ8_key_0 : decode cJ8_key 0 = .ok (.aload_n 0, 1) := dk_42 (dk_at dksJ8_key_0 0 rfl rfl)
theorem dJ8_key_1 : decode cJ8_key 1 = .ok (.ifnonnull 11, 3) := dk_199 0 11 (dk_at dksJ8_key_0 1 rfl rfl)
theorem dJ8_key_4 : decode cJ8_key 4 = .ok (.new 287, 3) := dk_187 1 31 (dk_at dksJ8_key_0 4 rfl rfl)
theorem dJ8_key_7 : decode cJ8_key 7 = .ok (.dup, 1) := dk_89 (dk_at dksJ8_key_0 7 rfl rfl)
theorem dJ8_key_8 : decode cJ8_key 8 = .ok (.invokespecial 289, 3) := dk_183 1 33 (dk_at dksJ8_key_0 8 rfl rfl)
theorem dJ8_key_11 : decode cJ8_key 11 = .ok (.athrow, 1) := dk_191 (dk_at dksJ8_key_0 11 rfl rfl)
theorem dJ8_key_12 : decode cJ8_key 12 = .ok (.aload_n 0, 1) := dk_42 (dk_at dksJ8_key_0 12 rfl rfl)
theorem dJ8_key_13 : decode cJ8_key 13 = .ok (.getfield 105, 3) := dk_180 0 105 (dk_at dksJ8_key_0 13 rfl rfl)
theorem dJ8_key_16 : decode cJ8_key 16 = .ok (.areturn, 1) := dk_176 (dk_at dksJ8_key_0 16 rfl rfl)
abbrev cJ8_remove : ByteArray := prog_62_method_34_code
def yJ8_remove : MethodName := ⟨RJ8, "remove", "(Ljava/lang/Object;)Ljava/lang/Object;"⟩
def dkwJ8_remove_0 : List UInt8 := [42, 43, 182, 0, 50, 77, 44, 199, 0, 5, 1, 176, 44, 180, 0, 58, 78, 42, 44, 182, 0, 174, 45, 176]
abbrev dktJ8_remove_0 : List UInt8 := dkwJ8_remove_0 ++ []
theorem dksJ8_remove_0 : cJ8_remove.data.toList.drop 0 = dktJ8_remove_0 := by decide +kernel
theorem dJ8_remove_0 : decode cJ8_remove 0 = .ok (.aload_n 0, 1) := dk_42 (dk_at dksJ8_remove_0 0 rfl rfl)
theorem dJ8_remove_1 : decode cJ8_remove 1 = .ok (.aload_n 1, 1) := dk_43 (dk_at dksJ8_remove_0 1 rfl rfl)
theorem dJ8_remove_2 : decode cJ8_remove 2 = .ok (.invokevirtual 50, 3) := dk_182 0 50 (dk_at dksJ8_remove_0 2 rfl rfl)
theorem dJ8_remove_5 : decode cJ8_remove 5 = .ok (.astore_n 2, 1) := dk_77 (dk_at dksJ8_remove_0 5 rfl rfl)
theorem dJ8_remove_6 : decode cJ8_remove 6 = .ok (.aload_n 2, 1) := dk_44 (dk_at dksJ8_remove_0 6 rfl rfl)
theorem dJ8_remove_7 : decode cJ8_remove 7 = .ok (.ifnonnull 5, 3) := dk_199 0 5 (dk_at dksJ8_remove_0 7 rfl rfl)
theorem dJ8_remove_10 : decode cJ8_remove 10 = .ok (.aconst_null, 1) := dk_1 (dk_at dksJ8_remove_0 10 rfl rfl)
theorem dJ8_remove_11 : decode cJ8_remove 11 = .ok (.areturn, 1) := dk_176 (dk_at dksJ8_remove_0 11 rfl rfl)
theorem dJ8_remove_12 : decode cJ8_remove 12 = .ok (.aload_n 2, 1) := dk_44 (dk_at dksJ8_remove_0 12 rfl rfl)
theorem dJ8_remove_13 : decode cJ8_remove 13 = .ok (.getfield 58, 3) := dk_180 0 58 (dk_at dksJ8_remove_0 13 rfl rfl)
theorem dJ8_remove_16 : decode cJ8_remove 16 = .ok (.astore_n 3, 1) := dk_78 (dk_at dksJ8_remove_0 16 rfl rfl)
theorem dJ8_remove_17 : decode cJ8_remove 17 = .ok (.aload_n 0, 1) := dk_42 (dk_at dksJ8_remove_0 17 rfl rfl)
theorem dJ8_remove_18 : decode cJ8_remove 18 = .ok (.aload_n 2, 1) := dk_44 (dk_at dksJ8_remove_0 18 rfl rfl)
theorem dJ8_remove_19 : decode cJ8_remove 19 = .ok (.invokevirtual 174, 3) := dk_182 0 174 (dk_at dksJ8_remove_0 19 rfl rfl)
theorem dJ8_remove_22 : decode cJ8_remove 22 = .ok (.aload_n 3, 1) := dk_45 (dk_at dksJ8_remove_0 22 rfl rfl)
theorem dJ8_remove_23 : decode cJ8_remove 23 = .ok (.areturn, 1) := dk_176 (dk_at dksJ8_remove_0 23 rfl rfl)
abbrev cJ8_deleteEntry : ByteArray := prog_62_method_84_code
def yJ8_deleteEntry : MethodName := ⟨RJ8, "deleteEntry", "(Ljava/util/TreeMap$Entry;)V"⟩
def dkwJ8_deleteEntry_10 : List UInt8 := [180, 0, 124, 1, 181, 0, 114, 43, 1, 181, 0, 124, 177]
abbrev dktJ8_deleteEntry_10 : List UInt8 := dkwJ8_deleteEntry_10 ++ []
def dkwJ8_deleteEntry_9 : List UInt8 := [180, 0, 124, 1, 181, 0, 111, 167, 0, 22, 43, 43, 180, 0, 124, 180, 0, 114, 166, 0, 11, 43]
abbrev dktJ8_deleteEntry_9 : List UInt8 := dkwJ8_deleteEntry_9 ++ dktJ8_deleteEntry_10
def dkwJ8_deleteEntry_8 : List UInt8 := [182, 1, 61, 43, 180, 0, 124, 198, 0, 49, 43, 43, 180, 0, 124, 180, 0, 111, 166, 0, 14, 43]
abbrev dktJ8_deleteEntry_8 : List UInt8 := dkwJ8_deleteEntry_8 ++ dktJ8_deleteEntry_9
def dkwJ8_deleteEntry_7 : List UInt8 := [180, 0, 124, 199, 0, 11, 42, 1, 181, 0, 101, 167, 0, 69, 43, 180, 1, 34, 4, 160, 0, 8, 42, 43]
abbrev dktJ8_deleteEntry_7 : List UInt8 := dkwJ8_deleteEntry_7 ++ dktJ8_deleteEntry_8
def dkwJ8_deleteEntry_6 : List UInt8 := [181, 0, 114, 181, 0, 111, 43, 180, 1, 34, 4, 160, 0, 92, 42, 44, 182, 1, 61, 167, 0, 84, 43]
abbrev dktJ8_deleteEntry_6 : List UInt8 := dkwJ8_deleteEntry_6 ++ dktJ8_deleteEntry_7
def dkwJ8_deleteEntry_5 : List UInt8 := [181, 0, 111, 167, 0, 11, 43, 180, 0, 124, 44, 181, 0, 114, 43, 43, 43, 1, 90, 181, 0, 124, 90]
abbrev dktJ8_deleteEntry_5 : List UInt8 := dkwJ8_deleteEntry_5 ++ dktJ8_deleteEntry_6
def dkwJ8_deleteEntry_4 : List UInt8 := [44, 181, 0, 101, 167, 0, 33, 43, 43, 180, 0, 124, 180, 0, 111, 166, 0, 14, 43, 180, 0, 124, 44]
abbrev dktJ8_deleteEntry_4 : List UInt8 := dkwJ8_deleteEntry_4 ++ dktJ8_deleteEntry_5
def dkwJ8_deleteEntry_3 : List UInt8 := [180, 0, 114, 77, 44, 198, 0, 87, 44, 43, 180, 0, 124, 181, 0, 124, 43, 180, 0, 124, 199, 0, 11, 42]
abbrev dktJ8_deleteEntry_3 : List UInt8 := dkwJ8_deleteEntry_3 ++ dktJ8_deleteEntry_4
def dkwJ8_deleteEntry_2 : List UInt8 := [44, 180, 0, 58, 181, 0, 58, 44, 76, 43, 180, 0, 111, 198, 0, 10, 43, 180, 0, 111, 167, 0, 7, 43]
abbrev dktJ8_deleteEntry_2 : List UInt8 := dkwJ8_deleteEntry_2 ++ dktJ8_deleteEntry_3
def dkwJ8_deleteEntry_1 : List UInt8 := [198, 0, 33, 43, 180, 0, 114, 198, 0, 26, 43, 184, 0, 68, 77, 43, 44, 180, 0, 105, 181, 0, 105, 43]
abbrev dktJ8_deleteEntry_1 : List UInt8 := dkwJ8_deleteEntry_1 ++ dktJ8_deleteEntry_2
def dkwJ8_deleteEntry_0 : List UInt8 := [42, 89, 180, 0, 13, 4, 96, 181, 0, 13, 42, 89, 180, 0, 7, 4, 100, 181, 0, 7, 43, 180, 0, 111]
abbrev dktJ8_deleteEntry_0 : List UInt8 := dkwJ8_deleteEntry_0 ++ dktJ8_deleteEntry_1
theorem dksJ8_deleteEntry_0 : cJ8_deleteEntry.data.toList.drop 0 = dktJ8_deleteEntry_0 := by decide +kernel
theorem dksJ8_deleteEntry_1 : cJ8_deleteEntry.data.toList.drop 24 = dktJ8_deleteEntry_1 := dk_seg dksJ8_deleteEntry_0 24 rfl rfl
theorem dksJ8_deleteEntry_2 : cJ8_deleteEntry.data.toList.drop 48 = dktJ8_deleteEntry_2 := dk_seg dksJ8_deleteEntry_1 24 rfl rfl
theorem dksJ8_deleteEntry_3 : cJ8_deleteEntry.data.toList.drop 72 = dktJ8_deleteEntry_3 := dk_seg dksJ8_deleteEntry_2 24 rfl rfl
theorem dksJ8_deleteEntry_4 : cJ8_deleteEntry.data.toList.drop 96 = dktJ8_deleteEntry_4 := dk_seg dksJ8_deleteEntry_3 24 rfl rfl
theorem dksJ8_deleteEntry_5 : cJ8_deleteEntry.data.toList.drop 119 = dktJ8_deleteEntry_5 := dk_seg dksJ8_deleteEntry_4 23 rfl rfl
theorem dksJ8_deleteEntry_6 : cJ8_deleteEntry.data.toList.drop 142 = dktJ8_deleteEntry_6 := dk_seg dksJ8_deleteEntry_5 23 rfl rfl
theorem dksJ8_deleteEntry_7 : cJ8_deleteEntry.data.toList.drop 165 = dktJ8_deleteEntry_7 := dk_seg dksJ8_deleteEntry_6 23 rfl rfl
theorem dksJ8_deleteEntry_8 : cJ8_deleteEntry.data.toList.drop 189 = dktJ8_deleteEntry_8 := dk_seg dksJ8_deleteEntry_7 24 rfl rfl
theorem dksJ8_deleteEntry_9 : cJ8_deleteEntry.data.toList.drop 211 = dktJ8_deleteEntry_9 := dk_seg dksJ8_deleteEntry_8 22 rfl rfl
theorem dksJ8_deleteEntry_10 : cJ8_deleteEntry.data.toList.drop 233 = dktJ8_deleteEntry_10 := dk_seg dksJ8_deleteEntry_9 22 rfl rfl
theorem dJ8_deleteEntry_0 : decode cJ8_deleteEntry 0 = .ok (.aload_n 0, 1) := dk_42 (dk_at dksJ8_deleteEntry_0 0 rfl rfl)
theorem dJ8_deleteEntry_1 : decode cJ8_deleteEntry 1 = .ok (.dup, 1) := dk_89 (dk_at dksJ8_deleteEntry_0 1 rfl rfl)
theorem dJ8_deleteEntry_2 : decode cJ8_deleteEntry 2 = .ok (.getfield 13, 3) := dk_180 0 13 (dk_at dksJ8_deleteEntry_0 2 rfl rfl)
theorem dJ8_deleteEntry_5 : decode cJ8_deleteEntry 5 = .ok (.iconst 1, 1) := dk_4 (dk_at dksJ8_deleteEntry_0 5 rfl rfl)
theorem dJ8_deleteEntry_6 : decode cJ8_deleteEntry 6 = .ok (.iadd, 1) := dk_96 (dk_at dksJ8_deleteEntry_0 6 rfl rfl)
theorem dJ8_deleteEntry_7 : decode cJ8_deleteEntry 7 = .ok (.putfield 13, 3) := dk_181 0 13 (dk_at dksJ8_deleteEntry_0 7 rfl rfl)
theorem dJ8_deleteEntry_10 : decode cJ8_deleteEntry 10 = .ok (.aload_n 0, 1) := dk_42 (dk_at dksJ8_deleteEntry_0 10 rfl rfl)
theorem dJ8_deleteEntry_11 : decode cJ8_deleteEntry 11 = .ok (.dup, 1) := dk_89 (dk_at dksJ8_deleteEntry_0 11 rfl rfl)
theorem dJ8_deleteEntry_12 : decode cJ8_deleteEntry 12 = .ok (.getfield 7, 3) := dk_180 0 7 (dk_at dksJ8_deleteEntry_0 12 rfl rfl)
theorem dJ8_deleteEntry_15 : decode cJ8_deleteEntry 15 = .ok (.iconst 1, 1) := dk_4 (dk_at dksJ8_deleteEntry_0 15 rfl rfl)
theorem dJ8_deleteEntry_16 : decode cJ8_deleteEntry 16 = .ok (.isub, 1) := dk_100 (dk_at dksJ8_deleteEntry_0 16 rfl rfl)
theorem dJ8_deleteEntry_17 : decode cJ8_deleteEntry 17 = .ok (.putfield 7, 3) := dk_181 0 7 (dk_at dksJ8_deleteEntry_0 17 rfl rfl)
theorem dJ8_deleteEntry_20 : decode cJ8_deleteEntry 20 = .ok (.aload_n 1, 1) := dk_43 (dk_at dksJ8_deleteEntry_0 20 rfl rfl)
theorem dJ8_deleteEntry_21 : decode cJ8_deleteEntry 21 = .ok (.getfield 111, 3) := dk_180 0 111 (dk_at dksJ8_deleteEntry_0 21 rfl rfl)
theorem dJ8_deleteEntry_24 : decode cJ8_deleteEntry 24 = .ok (.ifnull 33, 3) := dk_198 0 33 (dk_at dksJ8_deleteEntry_1 0 rfl rfl)
theorem dJ8_deleteEntry_27 : decode cJ8_deleteEntry 27 = .ok (.aload_n 1, 1) := dk_43 (dk_at dksJ8_deleteEntry_1 3 rfl rfl)
theorem dJ8_deleteEntry_28 : decode cJ8_deleteEntry 28 = .ok (.getfield 114, 3) := dk_180 0 114 (dk_at dksJ8_deleteEntry_1 4 rfl rfl)
theorem dJ8_deleteEntry_31 : decode cJ8_deleteEntry 31 = .ok (.ifnull 26, 3) := dk_198 0 26 (dk_at dksJ8_deleteEntry_1 7 rfl rfl)
theorem dJ8_deleteEntry_34 : decode cJ8_deleteEntry 34 = .ok (.aload_n 1, 1) := dk_43 (dk_at dksJ8_deleteEntry_1 10 rfl rfl)
theorem dJ8_deleteEntry_35 : decode cJ8_deleteEntry 35 = .ok (.invokestatic 68, 3) := dk_184 0 68 (dk_at dksJ8_deleteEntry_1 11 rfl rfl)
theorem dJ8_deleteEntry_38 : decode cJ8_deleteEntry 38 = .ok (.astore_n 2, 1) := dk_77 (dk_at dksJ8_deleteEntry_1 14 rfl rfl)
theorem dJ8_deleteEntry_39 : decode cJ8_deleteEntry 39 = .ok (.aload_n 1, 1) := dk_43 (dk_at dksJ8_deleteEntry_1 15 rfl rfl)
theorem dJ8_deleteEntry_40 : decode cJ8_deleteEntry 40 = .ok (.aload_n 2, 1) := dk_44 (dk_at dksJ8_deleteEntry_1 16 rfl rfl)
theorem dJ8_deleteEntry_41 : decode cJ8_deleteEntry 41 = .ok (.getfield 105, 3) := dk_180 0 105 (dk_at dksJ8_deleteEntry_1 17 rfl rfl)
theorem dJ8_deleteEntry_44 : decode cJ8_deleteEntry 44 = .ok (.putfield 105, 3) := dk_181 0 105 (dk_at dksJ8_deleteEntry_1 20 rfl rfl)
theorem dJ8_deleteEntry_47 : decode cJ8_deleteEntry 47 = .ok (.aload_n 1, 1) := dk_43 (dk_at dksJ8_deleteEntry_1 23 rfl rfl)
theorem dJ8_deleteEntry_48 : decode cJ8_deleteEntry 48 = .ok (.aload_n 2, 1) := dk_44 (dk_at dksJ8_deleteEntry_2 0 rfl rfl)
theorem dJ8_deleteEntry_49 : decode cJ8_deleteEntry 49 = .ok (.getfield 58, 3) := dk_180 0 58 (dk_at dksJ8_deleteEntry_2 1 rfl rfl)
theorem dJ8_deleteEntry_52 : decode cJ8_deleteEntry 52 = .ok (.putfield 58, 3) := dk_181 0 58 (dk_at dksJ8_deleteEntry_2 4 rfl rfl)
theorem dJ8_deleteEntry_55 : decode cJ8_deleteEntry 55 = .ok (.aload_n 2, 1) := dk_44 (dk_at dksJ8_deleteEntry_2 7 rfl rfl)
theorem dJ8_deleteEntry_56 : decode cJ8_deleteEntry 56 = .ok (.astore_n 1, 1) := dk_76 (dk_at dksJ8_deleteEntry_2 8 rfl rfl)
theorem dJ8_deleteEntry_57 : decode cJ8_deleteEntry 57 = .ok (.aload_n 1, 1) := dk_43 (dk_at dksJ8_deleteEntry_2 9 rfl rfl)
theorem dJ8_deleteEntry_58 : decode cJ8_deleteEntry 58 = .ok (.getfield 111, 3) := dk_180 0 111 (dk_at dksJ8_deleteEntry_2 10 rfl rfl)
theorem dJ8_deleteEntry_61 : decode cJ8_deleteEntry 61 = .ok (.ifnull 10, 3) := dk_198 0 10 (dk_at dksJ8_deleteEntry_2 13 rfl rfl)
theorem dJ8_deleteEntry_64 : decode cJ8_deleteEntry 64 = .ok (.aload_n 1, 1) := dk_43 (dk_at dksJ8_deleteEntry_2 16 rfl rfl)
theorem dJ8_deleteEntry_65 : decode cJ8_deleteEntry 65 = .ok (.getfield 111, 3) := dk_180 0 111 (dk_at dksJ8_deleteEntry_2 17 rfl rfl)
theorem dJ8_deleteEntry_68 : decode cJ8_deleteEntry 68 = .ok (.goto 7, 3) := dk_167 0 7 (dk_at dksJ8_deleteEntry_2 20 rfl rfl)
theorem dJ8_deleteEntry_71 : decode cJ8_deleteEntry 71 = .ok (.aload_n 1, 1) := dk_43 (dk_at dksJ8_deleteEntry_2 23 rfl rfl)
theorem dJ8_deleteEntry_72 : decode cJ8_deleteEntry 72 = .ok (.getfield 114, 3) := dk_180 0 114 (dk_at dksJ8_deleteEntry_3 0 rfl rfl)
theorem dJ8_deleteEntry_75 : decode cJ8_deleteEntry 75 = .ok (.astore_n 2, 1) := dk_77 (dk_at dksJ8_deleteEntry_3 3 rfl rfl)
theorem dJ8_deleteEntry_76 : decode cJ8_deleteEntry 76 = .ok (.aload_n 2, 1) := dk_44 (dk_at dksJ8_deleteEntry_3 4 rfl rfl)
theorem dJ8_deleteEntry_77 : decode cJ8_deleteEntry 77 = .ok (.ifnull 87, 3) := dk_198 0 87 (dk_at dksJ8_deleteEntry_3 5 rfl rfl)
theorem dJ8_deleteEntry_80 : decode cJ8_deleteEntry 80 = .ok (.aload_n 2, 1) := dk_44 (dk_at dksJ8_deleteEntry_3 8 rfl rfl)
theorem dJ8_deleteEntry_81 : decode cJ8_deleteEntry 81 = .ok (.aload_n 1, 1) := dk_43 (dk_at dksJ8_deleteEntry_3 9 rfl rfl)
theorem dJ8_deleteEntry_82 : decode cJ8_deleteEntry 82 = .ok (.getfield 124, 3) := dk_180 0 124 (dk_at dksJ8_deleteEntry_3 10 rfl rfl)
theorem dJ8_deleteEntry_85 : decode cJ8_deleteEntry 85 = .ok (.putfield 124, 3) := dk_181 0 124 (dk_at dksJ8_deleteEntry_3 13 rfl rfl)
theorem dJ8_deleteEntry_88 : decode cJ8_deleteEntry 88 = .ok (.aload_n 1, 1) := dk_43 (dk_at dksJ8_deleteEntry_3 16 rfl rfl)
theorem dJ8_deleteEntry_89 : decode cJ8_deleteEntry 89 = .ok (.getfield 124, 3) := dk_180 0 124 (dk_at dksJ8_deleteEntry_3 17 rfl rfl)
theorem dJ8_deleteEntry_92 : decode cJ8_deleteEntry 92 = .ok (.ifnonnull 11, 3) := dk_199 0 11 (dk_at dksJ8_deleteEntry_3 20 rfl rfl)
theorem dJ8_deleteEntry_95 : decode cJ8_deleteEntry 95 = .ok (.aload_n 0, 1) := dk_42 (dk_at dksJ8_deleteEntry_3 23 rfl rfl)
theorem dJ8_deleteEntry_96 : decode cJ8_deleteEntry 96 = .ok (.aload_n 2, 1) := dk_44 (dk_at dksJ8_deleteEntry_4 0 rfl rfl)
theorem dJ8_deleteEntry_97 : decode cJ8_deleteEntry 97 = .ok (.putfield 101, 3) := dk_181 0 101 (dk_at dksJ8_deleteEntry_4 1 rfl rfl)
theorem dJ8_deleteEntry_100 : decode cJ8_deleteEntry 100 = .ok (.goto 33, 3) := dk_167 0 33 (dk_at dksJ8_deleteEntry_4 4 rfl rfl)
theorem dJ8_deleteEntry_103 : decode cJ8_deleteEntry 103 = .ok (.aload_n 1, 1) := dk_43 (dk_at dksJ8_deleteEntry_4 7 rfl rfl)
theorem dJ8_deleteEntry_104 : decode cJ8_deleteEntry 104 = .ok (.aload_n 1, 1) := dk_43 (dk_at dksJ8_deleteEntry_4 8 rfl rfl)
theorem dJ8_deleteEntry_105 : decode cJ8_deleteEntry 105 = .ok (.getfield 124, 3) := dk_180 0 124 (dk_at dksJ8_deleteEntry_4 9 rfl rfl)
theorem dJ8_deleteEntry_108 : decode cJ8_deleteEntry 108 = .ok (.getfield 111, 3) := dk_180 0 111 (dk_at dksJ8_deleteEntry_4 12 rfl rfl)
theorem dJ8_deleteEntry_111 : decode cJ8_deleteEntry 111 = .ok (.if_acmp .ne 14, 3) := dk_166 0 14 (dk_at dksJ8_deleteEntry_4 15 rfl rfl)
theorem dJ8_deleteEntry_114 : decode cJ8_deleteEntry 114 = .ok (.aload_n 1, 1) := dk_43 (dk_at dksJ8_deleteEntry_4 18 rfl rfl)
theorem dJ8_deleteEntry_115 : decode cJ8_deleteEntry 115 = .ok (.getfield 124, 3) := dk_180 0 124 (dk_at dksJ8_deleteEntry_4 19 rfl rfl)
theorem dJ8_deleteEntry_118 : decode cJ8_deleteEntry 118 = .ok (.aload_n 2, 1) := dk_44 (dk_at dksJ8_deleteEntry_4 22 rfl rfl)
theorem dJ8_deleteEntry_119 : decode cJ8_deleteEntry 119 = .ok (.putfield 111, 3) := dk_181 0 111 (dk_at dksJ8_deleteEntry_5 0 rfl rfl)
theorem dJ8_deleteEntry_122 : decode cJ8_deleteEntry 122 = .ok (.goto 11, 3) := dk_167 0 11 (dk_at dksJ8_deleteEntry_5 3 rfl rfl)
theorem dJ8_deleteEntry_125 : decode cJ8_deleteEntry 125 = .ok (.aload_n 1, 1) := dk_43 (dk_at dksJ8_deleteEntry_5 6 rfl rfl)
theorem dJ8_deleteEntry_126 : decode cJ8_deleteEntry 126 = .ok (.getfield 124, 3) := dk_180 0 124 (dk_at dksJ8_deleteEntry_5 7 rfl rfl)
theorem dJ8_deleteEntry_129 : decode cJ8_deleteEntry 129 = .ok (.aload_n 2, 1) := dk_44 (dk_at dksJ8_deleteEntry_5 10 rfl rfl)
theorem dJ8_deleteEntry_130 : decode cJ8_deleteEntry 130 = .ok (.putfield 114, 3) := dk_181 0 114 (dk_at dksJ8_deleteEntry_5 11 rfl rfl)
theorem dJ8_deleteEntry_133 : decode cJ8_deleteEntry 133 = .ok (.aload_n 1, 1) := dk_43 (dk_at dksJ8_deleteEntry_5 14 rfl rfl)
theorem dJ8_deleteEntry_134 : decode cJ8_deleteEntry 134 = .ok (.aload_n 1, 1) := dk_43 (dk_at dksJ8_deleteEntry_5 15 rfl rfl)
theorem dJ8_deleteEntry_135 : decode cJ8_deleteEntry 135 = .ok (.aload_n 1, 1) := dk_43 (dk_at dksJ8_deleteEntry_5 16 rfl rfl)
theorem dJ8_deleteEntry_136 : decode cJ8_deleteEntry 136 = .ok (.aconst_null, 1) := dk_1 (dk_at dksJ8_deleteEntry_5 17 rfl rfl)
theorem dJ8_deleteEntry_137 : decode cJ8_deleteEntry 137 = .ok (.dup_x1, 1) := dk_90 (dk_at dksJ8_deleteEntry_5 18 rfl rfl)
theorem dJ8_deleteEntry_138 : decode cJ8_deleteEntry 138 = .ok (.putfield 124, 3) := dk_181 0 124 (dk_at dksJ8_deleteEntry_5 19 rfl rfl)
theorem dJ8_deleteEntry_141 : decode cJ8_deleteEntry 141 = .ok (.dup_x1, 1) := dk_90 (dk_at dksJ8_deleteEntry_5 22 rfl rfl)
theorem dJ8_deleteEntry_142 : decode cJ8_deleteEntry 142 = .ok (.putfield 114, 3) := dk_181 0 114 (dk_at dksJ8_deleteEntry_6 0 rfl rfl)
theorem dJ8_deleteEntry_145 : decode cJ8_deleteEntry 145 = .ok (.putfield 111, 3) := dk_181 0 111 (dk_at dksJ8_deleteEntry_6 3 rfl rfl)
theorem dJ8_deleteEntry_148 : decode cJ8_deleteEntry 148 = .ok (.aload_n 1, 1) := dk_43 (dk_at dksJ8_deleteEntry_6 6 rfl rfl)
theorem dJ8_deleteEntry_149 : decode cJ8_deleteEntry 149 = .ok (.getfield 290, 3) := dk_180 1 34 (dk_at dksJ8_deleteEntry_6 7 rfl rfl)
theorem dJ8_deleteEntry_152 : decode cJ8_deleteEntry 152 = .ok (.iconst 1, 1) := dk_4 (dk_at dksJ8_deleteEntry_6 10 rfl rfl)
theorem dJ8_deleteEntry_153 : decode cJ8_deleteEntry 153 = .ok (.if_icmp .ne 92, 3) := dk_160 0 92 (dk_at dksJ8_deleteEntry_6 11 rfl rfl)
theorem dJ8_deleteEntry_156 : decode cJ8_deleteEntry 156 = .ok (.aload_n 0, 1) := dk_42 (dk_at dksJ8_deleteEntry_6 14 rfl rfl)
theorem dJ8_deleteEntry_157 : decode cJ8_deleteEntry 157 = .ok (.aload_n 2, 1) := dk_44 (dk_at dksJ8_deleteEntry_6 15 rfl rfl)
theorem dJ8_deleteEntry_158 : decode cJ8_deleteEntry 158 = .ok (.invokevirtual 317, 3) := dk_182 1 61 (dk_at dksJ8_deleteEntry_6 16 rfl rfl)
theorem dJ8_deleteEntry_161 : decode cJ8_deleteEntry 161 = .ok (.goto 84, 3) := dk_167 0 84 (dk_at dksJ8_deleteEntry_6 19 rfl rfl)
theorem dJ8_deleteEntry_164 : decode cJ8_deleteEntry 164 = .ok (.aload_n 1, 1) := dk_43 (dk_at dksJ8_deleteEntry_6 22 rfl rfl)
theorem dJ8_deleteEntry_165 : decode cJ8_deleteEntry 165 = .ok (.getfield 124, 3) := dk_180 0 124 (dk_at dksJ8_deleteEntry_7 0 rfl rfl)
theorem dJ8_deleteEntry_168 : decode cJ8_deleteEntry 168 = .ok (.ifnonnull 11, 3) := dk_199 0 11 (dk_at dksJ8_deleteEntry_7 3 rfl rfl)
theorem dJ8_deleteEntry_171 : decode cJ8_deleteEntry 171 = .ok (.aload_n 0, 1) := dk_42 (dk_at dksJ8_deleteEntry_7 6 rfl rfl)
theorem dJ8_deleteEntry_172 : decode cJ8_deleteEntry 172 = .ok (.aconst_null, 1) := dk_1 (dk_at dksJ8_deleteEntry_7 7 rfl rfl)
theorem dJ8_deleteEntry_173 : decode cJ8_deleteEntry 173 = .ok (.putfield 101, 3) := dk_181 0 101 (dk_at dksJ8_deleteEntry_7 8 rfl rfl)
theorem dJ8_deleteEntry_176 : decode cJ8_deleteEntry 176 = .ok (.goto 69, 3) := dk_167 0 69 (dk_at dksJ8_deleteEntry_7 11 rfl rfl)
theorem dJ8_deleteEntry_179 : decode cJ8_deleteEntry 179 = .ok (.aload_n 1, 1) := dk_43 (dk_at dksJ8_deleteEntry_7 14 rfl rfl)
theorem dJ8_deleteEntry_180 : decode cJ8_deleteEntry 180 = .ok (.getfield 290, 3) := dk_180 1 34 (dk_at dksJ8_deleteEntry_7 15 rfl rfl)
theorem dJ8_deleteEntry_183 : decode cJ8_deleteEntry 183 = .ok (.iconst 1, 1) := dk_4 (dk_at dksJ8_deleteEntry_7 18 rfl rfl)
theorem dJ8_deleteEntry_184 : decode cJ8_deleteEntry 184 = .ok (.if_icmp .ne 8, 3) := dk_160 0 8 (dk_at dksJ8_deleteEntry_7 19 rfl rfl)
theorem dJ8_deleteEntry_187 : decode cJ8_deleteEntry 187 = .ok (.aload_n 0, 1) := dk_42 (dk_at dksJ8_deleteEntry_7 22 rfl rfl)
theorem dJ8_deleteEntry_188 : decode cJ8_deleteEntry 188 = .ok (.aload_n 1, 1) := dk_43 (dk_at dksJ8_deleteEntry_7 23 rfl rfl)
theorem dJ8_deleteEntry_189 : decode cJ8_deleteEntry 189 = .ok (.invokevirtual 317, 3) := dk_182 1 61 (dk_at dksJ8_deleteEntry_8 0 rfl rfl)
theorem dJ8_deleteEntry_192 : decode cJ8_deleteEntry 192 = .ok (.aload_n 1, 1) := dk_43 (dk_at dksJ8_deleteEntry_8 3 rfl rfl)
theorem dJ8_deleteEntry_193 : decode cJ8_deleteEntry 193 = .ok (.getfield 124, 3) := dk_180 0 124 (dk_at dksJ8_deleteEntry_8 4 rfl rfl)
theorem dJ8_deleteEntry_196 : decode cJ8_deleteEntry 196 = .ok (.ifnull 49, 3) := dk_198 0 49 (dk_at dksJ8_deleteEntry_8 7 rfl rfl)
theorem dJ8_deleteEntry_199 : decode cJ8_deleteEntry 199 = .ok (.aload_n 1, 1) := dk_43 (dk_at dksJ8_deleteEntry_8 10 rfl rfl)
theorem dJ8_deleteEntry_200 : decode cJ8_deleteEntry 200 = .ok (.aload_n 1, 1) := dk_43 (dk_at dksJ8_deleteEntry_8 11 rfl rfl)
theorem dJ8_deleteEntry_201 : decode cJ8_deleteEntry 201 = .ok (.getfield 124, 3) := dk_180 0 124 (dk_at dksJ8_deleteEntry_8 12 rfl rfl)
theorem dJ8_deleteEntry_204 : decode cJ8_deleteEntry 204 = .ok (.getfield 111, 3) := dk_180 0 111 (dk_at dksJ8_deleteEntry_8 15 rfl rfl)
theorem dJ8_deleteEntry_207 : decode cJ8_deleteEntry 207 = .ok (.if_acmp .ne 14, 3) := dk_166 0 14 (dk_at dksJ8_deleteEntry_8 18 rfl rfl)
theorem dJ8_deleteEntry_210 : decode cJ8_deleteEntry 210 = .ok (.aload_n 1, 1) := dk_43 (dk_at dksJ8_deleteEntry_8 21 rfl rfl)
theorem dJ8_deleteEntry_211 : decode cJ8_deleteEntry 211 = .ok (.getfield 124, 3) := dk_180 0 124 (dk_at dksJ8_deleteEntry_9 0 rfl rfl)
theorem dJ8_deleteEntry_214 : decode cJ8_deleteEntry 214 = .ok (.aconst_null, 1) := dk_1 (dk_at dksJ8_deleteEntry_9 3 rfl rfl)
theorem dJ8_deleteEntry_215 : decode cJ8_deleteEntry 215 = .ok (.putfield 111, 3) := dk_181 0 111 (dk_at dksJ8_deleteEntry_9 4 rfl rfl)
theorem dJ8_deleteEntry_218 : decode cJ8_deleteEntry 218 = .ok (.goto 22, 3) := dk_167 0 22 (dk_at dksJ8_deleteEntry_9 7 rfl rfl)
theorem dJ8_deleteEntry_221 : decode cJ8_deleteEntry 221 = .ok (.aload_n 1, 1) := dk_43 (dk_at dksJ8_deleteEntry_9 10 rfl rfl)
theorem dJ8_deleteEntry_222 : decode cJ8_deleteEntry 222 = .ok (.aload_n 1, 1) := dk_43 (dk_at dksJ8_deleteEntry_9 11 rfl rfl)
theorem dJ8_deleteEntry_223 : decode cJ8_deleteEntry 223 = .ok (.getfield 124, 3) := dk_180 0 124 (dk_at dksJ8_deleteEntry_9 12 rfl rfl)
theorem dJ8_deleteEntry_226 : decode cJ8_deleteEntry 226 = .ok (.getfield 114, 3) := dk_180 0 114 (dk_at dksJ8_deleteEntry_9 15 rfl rfl)
theorem dJ8_deleteEntry_229 : decode cJ8_deleteEntry 229 = .ok (.if_acmp .ne 11, 3) := dk_166 0 11 (dk_at dksJ8_deleteEntry_9 18 rfl rfl)
theorem dJ8_deleteEntry_232 : decode cJ8_deleteEntry 232 = .ok (.aload_n 1, 1) := dk_43 (dk_at dksJ8_deleteEntry_9 21 rfl rfl)
theorem dJ8_deleteEntry_233 : decode cJ8_deleteEntry 233 = .ok (.getfield 124, 3) := dk_180 0 124 (dk_at dksJ8_deleteEntry_10 0 rfl rfl)
theorem dJ8_deleteEntry_236 : decode cJ8_deleteEntry 236 = .ok (.aconst_null, 1) := dk_1 (dk_at dksJ8_deleteEntry_10 3 rfl rfl)
theorem dJ8_deleteEntry_237 : decode cJ8_deleteEntry 237 = .ok (.putfield 114, 3) := dk_181 0 114 (dk_at dksJ8_deleteEntry_10 4 rfl rfl)
theorem dJ8_deleteEntry_240 : decode cJ8_deleteEntry 240 = .ok (.aload_n 1, 1) := dk_43 (dk_at dksJ8_deleteEntry_10 7 rfl rfl)
theorem dJ8_deleteEntry_241 : decode cJ8_deleteEntry 241 = .ok (.aconst_null, 1) := dk_1 (dk_at dksJ8_deleteEntry_10 8 rfl rfl)
theorem dJ8_deleteEntry_242 : decode cJ8_deleteEntry 242 = .ok (.putfield 124, 3) := dk_181 0 124 (dk_at dksJ8_deleteEntry_10 9 rfl rfl)
theorem dJ8_deleteEntry_245 : decode cJ8_deleteEntry 245 = .ok (.return_, 1) := dk_177 (dk_at dksJ8_deleteEntry_10 12 rfl rfl)
abbrev cJ8_fixAfterDeletion : ByteArray := prog_62_method_85_code
def yJ8_fixAfterDeletion : MethodName := ⟨RJ8, "fixAfterDeletion", "(Ljava/util/TreeMap$Entry;)V"⟩
def dkwJ8_fixAfterDeletion_14 : List UInt8 := [182, 1, 58, 42, 180, 0, 101, 76, 167, 254, 170, 43, 4, 184, 1, 51, 177]
abbrev dktJ8_fixAfterDeletion_14 : List UInt8 := dkwJ8_fixAfterDeletion_14 ++ []
def dkwJ8_fixAfterDeletion_13 : List UInt8 := [184, 1, 51, 43, 184, 1, 38, 4, 184, 1, 51, 44, 184, 1, 41, 4, 184, 1, 51, 42, 43, 184, 1, 38]
abbrev dktJ8_fixAfterDeletion_13 : List UInt8 := dkwJ8_fixAfterDeletion_13 ++ dktJ8_fixAfterDeletion_14
def dkwJ8_fixAfterDeletion_12 : List UInt8 := [184, 1, 51, 42, 44, 182, 1, 55, 43, 184, 1, 38, 184, 1, 41, 77, 44, 43, 184, 1, 38, 184, 1, 47]
abbrev dktJ8_fixAfterDeletion_12 : List UInt8 := dkwJ8_fixAfterDeletion_12 ++ dktJ8_fixAfterDeletion_13
def dkwJ8_fixAfterDeletion_11 : List UInt8 := [167, 0, 80, 44, 184, 1, 41, 184, 1, 47, 4, 160, 0, 29, 44, 184, 1, 44, 4, 184, 1, 51, 44, 3]
abbrev dktJ8_fixAfterDeletion_11 : List UInt8 := dkwJ8_fixAfterDeletion_11 ++ dktJ8_fixAfterDeletion_12
def dkwJ8_fixAfterDeletion_10 : List UInt8 := [160, 0, 27, 44, 184, 1, 41, 184, 1, 47, 4, 160, 0, 16, 44, 3, 184, 1, 51, 43, 184, 1, 38, 76]
abbrev dktJ8_fixAfterDeletion_10 : List UInt8 := dkwJ8_fixAfterDeletion_10 ++ dktJ8_fixAfterDeletion_11
def dkwJ8_fixAfterDeletion_9 : List UInt8 := [42, 43, 184, 1, 38, 182, 1, 58, 43, 184, 1, 38, 184, 1, 41, 77, 44, 184, 1, 44, 184, 1, 47, 4]
abbrev dktJ8_fixAfterDeletion_9 : List UInt8 := dkwJ8_fixAfterDeletion_9 ++ dktJ8_fixAfterDeletion_10
def dkwJ8_fixAfterDeletion_8 : List UInt8 := [184, 1, 41, 77, 44, 184, 1, 47, 154, 0, 32, 44, 4, 184, 1, 51, 43, 184, 1, 38, 3, 184, 1, 51]
abbrev dktJ8_fixAfterDeletion_8 : List UInt8 := dkwJ8_fixAfterDeletion_8 ++ dktJ8_fixAfterDeletion_9
def dkwJ8_fixAfterDeletion_7 : List UInt8 := [4, 184, 1, 51, 42, 43, 184, 1, 38, 182, 1, 55, 42, 180, 0, 101, 76, 167, 255, 73, 43, 184, 1, 38]
abbrev dktJ8_fixAfterDeletion_7 : List UInt8 := dkwJ8_fixAfterDeletion_7 ++ dktJ8_fixAfterDeletion_8
def dkwJ8_fixAfterDeletion_6 : List UInt8 := [77, 44, 43, 184, 1, 38, 184, 1, 47, 184, 1, 51, 43, 184, 1, 38, 4, 184, 1, 51, 44, 184, 1, 44]
abbrev dktJ8_fixAfterDeletion_6 : List UInt8 := dkwJ8_fixAfterDeletion_6 ++ dktJ8_fixAfterDeletion_7
def dkwJ8_fixAfterDeletion_5 : List UInt8 := [184, 1, 41, 4, 184, 1, 51, 44, 3, 184, 1, 51, 42, 44, 182, 1, 58, 43, 184, 1, 38, 184, 1, 44]
abbrev dktJ8_fixAfterDeletion_5 : List UInt8 := dkwJ8_fixAfterDeletion_5 ++ dktJ8_fixAfterDeletion_6
def dkwJ8_fixAfterDeletion_4 : List UInt8 := [184, 1, 51, 43, 184, 1, 38, 76, 167, 0, 80, 44, 184, 1, 44, 184, 1, 47, 4, 160, 0, 29, 44]
abbrev dktJ8_fixAfterDeletion_4 : List UInt8 := dkwJ8_fixAfterDeletion_4 ++ dktJ8_fixAfterDeletion_5
def dkwJ8_fixAfterDeletion_3 : List UInt8 := [184, 1, 41, 184, 1, 47, 4, 160, 0, 27, 44, 184, 1, 44, 184, 1, 47, 4, 160, 0, 16, 44, 3]
abbrev dktJ8_fixAfterDeletion_3 : List UInt8 := dkwJ8_fixAfterDeletion_3 ++ dktJ8_fixAfterDeletion_4
def dkwJ8_fixAfterDeletion_2 : List UInt8 := [184, 1, 38, 3, 184, 1, 51, 42, 43, 184, 1, 38, 182, 1, 55, 43, 184, 1, 38, 184, 1, 44, 77, 44]
abbrev dktJ8_fixAfterDeletion_2 : List UInt8 := dkwJ8_fixAfterDeletion_2 ++ dktJ8_fixAfterDeletion_3
def dkwJ8_fixAfterDeletion_1 : List UInt8 := [166, 0, 162, 43, 184, 1, 38, 184, 1, 44, 77, 44, 184, 1, 47, 154, 0, 32, 44, 4, 184, 1, 51, 43]
abbrev dktJ8_fixAfterDeletion_1 : List UInt8 := dkwJ8_fixAfterDeletion_1 ++ dktJ8_fixAfterDeletion_2
def dkwJ8_fixAfterDeletion_0 : List UInt8 := [43, 42, 180, 0, 101, 165, 1, 84, 43, 184, 1, 47, 4, 160, 1, 76, 43, 43, 184, 1, 38, 184, 1, 41]
abbrev dktJ8_fixAfterDeletion_0 : List UInt8 := dkwJ8_fixAfterDeletion_0 ++ dktJ8_fixAfterDeletion_1
theorem dksJ8_fixAfterDeletion_0 : cJ8_fixAfterDeletion.data.toList.drop 0 = dktJ8_fixAfterDeletion_0 := by decide +kernel
theorem dksJ8_fixAfterDeletion_1 : cJ8_fixAfterDeletion.data.toList.drop 24 = dktJ8_fixAfterDeletion_1 := dk_seg dksJ8_fixAfterDeletion_0 24 rfl rfl
theorem dksJ8_fixAfterDeletion_2 : cJ8_fixAfterDeletion.data.toList.drop 48 = dktJ8_fixAfterDeletion_2 := dk_seg dksJ8_fixAfterDeletion_1 24 rfl rfl
theorem dksJ8_fixAfterDeletion_3 : cJ8_fixAfterDeletion.data.toList.drop 72 = dktJ8_fixAfterDeletion_3 := dk_seg dksJ8_fixAfterDeletion_2 24 rfl rfl
theorem dksJ8_fixAfterDeletion_4 : cJ8_fixAfterDeletion.data.toList.drop 95 = dktJ8_fixAfterDeletion_4 := dk_seg dksJ8_fixAfterDeletion_3 23 rfl rfl
theorem dksJ8_fixAfterDeletion_5 : cJ8_fixAfterDeletion.data.toList.drop 118 = dktJ8_fixAfterDeletion_5 := dk_seg dksJ8_fixAfterDeletion_4 23 rfl rfl
theorem dksJ8_fixAfterDeletion_6 : cJ8_fixAfterDeletion.data.toList.drop 142 = dktJ8_fixAfterDeletion_6 := dk_seg dksJ8_fixAfterDeletion_5 24 rfl rfl
theorem dksJ8_fixAfterDeletion_7 : cJ8_fixAfterDeletion.data.toList.drop 166 = dktJ8_fixAfterDeletion_7 := dk_seg dksJ8_fixAfterDeletion_6 24 rfl rfl
theorem dksJ8_fixAfterDeletion_8 : cJ8_fixAfterDeletion.data.toList.drop 190 = dktJ8_fixAfterDeletion_8 := dk_seg dksJ8_fixAfterDeletion_7 24 rfl rfl
theorem dksJ8_fixAfterDeletion_9 : cJ8_fixAfterDeletion.data.toList.drop 214 = dktJ8_fixAfterDeletion_9 := dk_seg dksJ8_fixAfterDeletion_8 24 rfl rfl
theorem dksJ8_fixAfterDeletion_10 : cJ8_fixAfterDeletion.data.toList.drop 238 = dktJ8_fixAfterDeletion_10 := dk_seg dksJ8_fixAfterDeletion_9 24 rfl rfl
theorem dksJ8_fixAfterDeletion_11 : cJ8_fixAfterDeletion.data.toList.drop 262 = dktJ8_fixAfterDeletion_11 := dk_seg dksJ8_fixAfterDeletion_10 24 rfl rfl
theorem dksJ8_fixAfterDeletion_12 : cJ8_fixAfterDeletion.data.toList.drop 286 = dktJ8_fixAfterDeletion_12 := dk_seg dksJ8_fixAfterDeletion_11 24 rfl rfl
theorem dksJ8_fixAfterDeletion_13 : cJ8_fixAfterDeletion.data.toList.drop 310 = dktJ8_fixAfterDeletion_13 := dk_seg dksJ8_fixAfterDeletion_12 24 rfl rfl
theorem dksJ8_fixAfterDeletion_14 : cJ8_fixAfterDeletion.data.toList.drop 334 = dktJ8_fixAfterDeletion_14 := dk_seg dksJ8_fixAfterDeletion_13 24 rfl rfl
theorem dJ8_fixAfterDeletion_0 : decode cJ8_fixAfterDeletion 0 = .ok (.aload_n 1, 1) := dk_43 (dk_at dksJ8_fixAfterDeletion_0 0 rfl rfl)
theorem dJ8_fixAfterDeletion_1 : decode cJ8_fixAfterDeletion 1 = .ok (.aload_n 0, 1) := dk_42 (dk_at dksJ8_fixAfterDeletion_0 1 rfl rfl)
theorem dJ8_fixAfterDeletion_2 : decode cJ8_fixAfterDeletion 2 = .ok (.getfield 101, 3) := dk_180 0 101 (dk_at dksJ8_fixAfterDeletion_0 2 rfl rfl)
theorem dJ8_fixAfterDeletion_5 : decode cJ8_fixAfterDeletion 5 = .ok (.if_acmp .eq 340, 3) := dk_165 1 84 (dk_at dksJ8_fixAfterDeletion_0 5 rfl rfl)
theorem dJ8_fixAfterDeletion_8 : decode cJ8_fixAfterDeletion 8 = .ok (.aload_n 1, 1) := dk_43 (dk_at dksJ8_fixAfterDeletion_0 8 rfl rfl)
theorem dJ8_fixAfterDeletion_9 : decode cJ8_fixAfterDeletion 9 = .ok (.invokestatic 303, 3) := dk_184 1 47 (dk_at dksJ8_fixAfterDeletion_0 9 rfl rfl)
theorem dJ8_fixAfterDeletion_12 : decode cJ8_fixAfterDeletion 12 = .ok (.iconst 1, 1) := dk_4 (dk_at dksJ8_fixAfterDeletion_0 12 rfl rfl)
theorem dJ8_fixAfterDeletion_13 : decode cJ8_fixAfterDeletion 13 = .ok (.if_icmp .ne 332, 3) := dk_160 1 76 (dk_at dksJ8_fixAfterDeletion_0 13 rfl rfl)
theorem dJ8_fixAfterDeletion_16 : decode cJ8_fixAfterDeletion 16 = .ok (.aload_n 1, 1) := dk_43 (dk_at dksJ8_fixAfterDeletion_0 16 rfl rfl)
theorem dJ8_fixAfterDeletion_17 : decode cJ8_fixAfterDeletion 17 = .ok (.aload_n 1, 1) := dk_43 (dk_at dksJ8_fixAfterDeletion_0 17 rfl rfl)
theorem dJ8_fixAfterDeletion_18 : decode cJ8_fixAfterDeletion 18 = .ok (.invokestatic 294, 3) := dk_184 1 38 (dk_at dksJ8_fixAfterDeletion_0 18 rfl rfl)
theorem dJ8_fixAfterDeletion_21 : decode cJ8_fixAfterDeletion 21 = .ok (.invokestatic 297, 3) := dk_184 1 41 (dk_at dksJ8_fixAfterDeletion_0 21 rfl rfl)
theorem dJ8_fixAfterDeletion_24 : decode cJ8_fixAfterDeletion 24 = .ok (.if_acmp .ne 162, 3) := dk_166 0 162 (dk_at dksJ8_fixAfterDeletion_1 0 rfl rfl)
theorem dJ8_fixAfterDeletion_27 : decode cJ8_fixAfterDeletion 27 = .ok (.aload_n 1, 1) := dk_43 (dk_at dksJ8_fixAfterDeletion_1 3 rfl rfl)
theorem dJ8_fixAfterDeletion_28 : decode cJ8_fixAfterDeletion 28 = .ok (.invokestatic 294, 3) := dk_184 1 38 (dk_at dksJ8_fixAfterDeletion_1 4 rfl rfl)
theorem dJ8_fixAfterDeletion_31 : decode cJ8_fixAfterDeletion 31 = .ok (.invokestatic 300, 3) := dk_184 1 44 (dk_at dksJ8_fixAfterDeletion_1 7 rfl rfl)
theorem dJ8_fixAfterDeletion_34 : decode cJ8_fixAfterDeletion 34 = .ok (.astore_n 2, 1) := dk_77 (dk_at dksJ8_fixAfterDeletion_1 10 rfl rfl)
theorem dJ8_fixAfterDeletion_35 : decode cJ8_fixAfterDeletion 35 = .ok (.aload_n 2, 1) := dk_44 (dk_at dksJ8_fixAfterDeletion_1 11 rfl rfl)
theorem dJ8_fixAfterDeletion_36 : decode cJ8_fixAfterDeletion 36 = .ok (.invokestatic 303, 3) := dk_184 1 47 (dk_at dksJ8_fixAfterDeletion_1 12 rfl rfl)
theorem dJ8_fixAfterDeletion_39 : decode cJ8_fixAfterDeletion 39 = .ok (.ifCond .ne 32, 3) := dk_154 0 32 (dk_at dksJ8_fixAfterDeletion_1 15 rfl rfl)
theorem dJ8_fixAfterDeletion_42 : decode cJ8_fixAfterDeletion 42 = .ok (.aload_n 2, 1) := dk_44 (dk_at dksJ8_fixAfterDeletion_1 18 rfl rfl)
theorem dJ8_fixAfterDeletion_43 : decode cJ8_fixAfterDeletion 43 = .ok (.iconst 1, 1) := dk_4 (dk_at dksJ8_fixAfterDeletion_1 19 rfl rfl)
theorem dJ8_fixAfterDeletion_44 : decode cJ8_fixAfterDeletion 44 = .ok (.invokestatic 307, 3) := dk_184 1 51 (dk_at dksJ8_fixAfterDeletion_1 20 rfl rfl)
theorem dJ8_fixAfterDeletion_47 : decode cJ8_fixAfterDeletion 47 = .ok (.aload_n 1, 1) := dk_43 (dk_at dksJ8_fixAfterDeletion_1 23 rfl rfl)
theorem dJ8_fixAfterDeletion_48 : decode cJ8_fixAfterDeletion 48 = .ok (.invokestatic 294, 3) := dk_184 1 38 (dk_at dksJ8_fixAfterDeletion_2 0 rfl rfl)
theorem dJ8_fixAfterDeletion_51 : decode cJ8_fixAfterDeletion 51 = .ok (.iconst 0, 1) := dk_3 (dk_at dksJ8_fixAfterDeletion_2 3 rfl rfl)
theorem dJ8_fixAfterDeletion_52 : decode cJ8_fixAfterDeletion 52 = .ok (.invokestatic 307, 3) := dk_184 1 51 (dk_at dksJ8_fixAfterDeletion_2 4 rfl rfl)
theorem dJ8_fixAfterDeletion_55 : decode cJ8_fixAfterDeletion 55 = .ok (.aload_n 0, 1) := dk_42 (dk_at dksJ8_fixAfterDeletion_2 7 rfl rfl)
theorem dJ8_fixAfterDeletion_56 : decode cJ8_fixAfterDeletion 56 = .ok (.aload_n 1, 1) := dk_43 (dk_at dksJ8_fixAfterDeletion_2 8 rfl rfl)
theorem dJ8_fixAfterDeletion_57 : decode cJ8_fixAfterDeletion 57 = .ok (.invokestatic 294, 3) := dk_184 1 38 (dk_at dksJ8_fixAfterDeletion_2 9 rfl rfl)
theorem dJ8_fixAfterDeletion_60 : decode cJ8_fixAfterDeletion 60 = .ok (.invokevirtual 311, 3) := dk_182 1 55 (dk_at dksJ8_fixAfterDeletion_2 12 rfl rfl)
theorem dJ8_fixAfterDeletion_63 : decode cJ8_fixAfterDeletion 63 = .ok (.aload_n 1, 1) := dk_43 (dk_at dksJ8_fixAfterDeletion_2 15 rfl rfl)
theorem dJ8_fixAfterDeletion_64 : decode cJ8_fixAfterDeletion 64 = .ok (.invokestatic 294, 3) := dk_184 1 38 (dk_at dksJ8_fixAfterDeletion_2 16 rfl rfl)
theorem dJ8_fixAfterDeletion_67 : decode cJ8_fixAfterDeletion 67 = .ok (.invokestatic 300, 3) := dk_184 1 44 (dk_at dksJ8_fixAfterDeletion_2 19 rfl rfl)
theorem dJ8_fixAfterDeletion_70 : decode cJ8_fixAfterDeletion 70 = .ok (.astore_n 2, 1) := dk_77 (dk_at dksJ8_fixAfterDeletion_2 22 rfl rfl)
theorem dJ8_fixAfterDeletion_71 : decode cJ8_fixAfterDeletion 71 = .ok (.aload_n 2, 1) := dk_44 (dk_at dksJ8_fixAfterDeletion_2 23 rfl rfl)
theorem dJ8_fixAfterDeletion_72 : decode cJ8_fixAfterDeletion 72 = .ok (.invokestatic 297, 3) := dk_184 1 41 (dk_at dksJ8_fixAfterDeletion_3 0 rfl rfl)
theorem dJ8_fixAfterDeletion_75 : decode cJ8_fixAfterDeletion 75 = .ok (.invokestatic 303, 3) := dk_184 1 47 (dk_at dksJ8_fixAfterDeletion_3 3 rfl rfl)
theorem dJ8_fixAfterDeletion_78 : decode cJ8_fixAfterDeletion 78 = .ok (.iconst 1, 1) := dk_4 (dk_at dksJ8_fixAfterDeletion_3 6 rfl rfl)
theorem dJ8_fixAfterDeletion_79 : decode cJ8_fixAfterDeletion 79 = .ok (.if_icmp .ne 27, 3) := dk_160 0 27 (dk_at dksJ8_fixAfterDeletion_3 7 rfl rfl)
theorem dJ8_fixAfterDeletion_82 : decode cJ8_fixAfterDeletion 82 = .ok (.aload_n 2, 1) := dk_44 (dk_at dksJ8_fixAfterDeletion_3 10 rfl rfl)
theorem dJ8_fixAfterDeletion_83 : decode cJ8_fixAfterDeletion 83 = .ok (.invokestatic 300, 3) := dk_184 1 44 (dk_at dksJ8_fixAfterDeletion_3 11 rfl rfl)
theorem dJ8_fixAfterDeletion_86 : decode cJ8_fixAfterDeletion 86 = .ok (.invokestatic 303, 3) := dk_184 1 47 (dk_at dksJ8_fixAfterDeletion_3 14 rfl rfl)
theorem dJ8_fixAfterDeletion_89 : decode cJ8_fixAfterDeletion 89 = .ok (.iconst 1, 1) := dk_4 (dk_at dksJ8_fixAfterDeletion_3 17 rfl rfl)
theorem dJ8_fixAfterDeletion_90 : decode cJ8_fixAfterDeletion 90 = .ok (.if_icmp .ne 16, 3) := dk_160 0 16 (dk_at dksJ8_fixAfterDeletion_3 18 rfl rfl)
theorem dJ8_fixAfterDeletion_93 : decode cJ8_fixAfterDeletion 93 = .ok (.aload_n 2, 1) := dk_44 (dk_at dksJ8_fixAfterDeletion_3 21 rfl rfl)
theorem dJ8_fixAfterDeletion_94 : decode cJ8_fixAfterDeletion 94 = .ok (.iconst 0, 1) := dk_3 (dk_at dksJ8_fixAfterDeletion_3 22 rfl rfl)
theorem dJ8_fixAfterDeletion_95 : decode cJ8_fixAfterDeletion 95 = .ok (.invokestatic 307, 3) := dk_184 1 51 (dk_at dksJ8_fixAfterDeletion_4 0 rfl rfl)
theorem dJ8_fixAfterDeletion_98 : decode cJ8_fixAfterDeletion 98 = .ok (.aload_n 1, 1) := dk_43 (dk_at dksJ8_fixAfterDeletion_4 3 rfl rfl)
theorem dJ8_fixAfterDeletion_99 : decode cJ8_fixAfterDeletion 99 = .ok (.invokestatic 294, 3) := dk_184 1 38 (dk_at dksJ8_fixAfterDeletion_4 4 rfl rfl)
theorem dJ8_fixAfterDeletion_102 : decode cJ8_fixAfterDeletion 102 = .ok (.astore_n 1, 1) := dk_76 (dk_at dksJ8_fixAfterDeletion_4 7 rfl rfl)
theorem dJ8_fixAfterDeletion_103 : decode cJ8_fixAfterDeletion 103 = .ok (.goto 80, 3) := dk_167 0 80 (dk_at dksJ8_fixAfterDeletion_4 8 rfl rfl)
theorem dJ8_fixAfterDeletion_106 : decode cJ8_fixAfterDeletion 106 = .ok (.aload_n 2, 1) := dk_44 (dk_at dksJ8_fixAfterDeletion_4 11 rfl rfl)
theorem dJ8_fixAfterDeletion_107 : decode cJ8_fixAfterDeletion 107 = .ok (.invokestatic 300, 3) := dk_184 1 44 (dk_at dksJ8_fixAfterDeletion_4 12 rfl rfl)
theorem dJ8_fixAfterDeletion_110 : decode cJ8_fixAfterDeletion 110 = .ok (.invokestatic 303, 3) := dk_184 1 47 (dk_at dksJ8_fixAfterDeletion_4 15 rfl rfl)
theorem dJ8_fixAfterDeletion_113 : decode cJ8_fixAfterDeletion 113 = .ok (.iconst 1, 1) := dk_4 (dk_at dksJ8_fixAfterDeletion_4 18 rfl rfl)
theorem dJ8_fixAfterDeletion_114 : decode cJ8_fixAfterDeletion 114 = .ok (.if_icmp .ne 29, 3) := dk_160 0 29 (dk_at dksJ8_fixAfterDeletion_4 19 rfl rfl)
theorem dJ8_fixAfterDeletion_117 : decode cJ8_fixAfterDeletion 117 = .ok (.aload_n 2, 1) := dk_44 (dk_at dksJ8_fixAfterDeletion_4 22 rfl rfl)
theorem dJ8_fixAfterDeletion_118 : decode cJ8_fixAfterDeletion 118 = .ok (.invokestatic 297, 3) := dk_184 1 41 (dk_at dksJ8_fixAfterDeletion_5 0 rfl rfl)
theorem dJ8_fixAfterDeletion_121 : decode cJ8_fixAfterDeletion 121 = .ok (.iconst 1, 1) := dk_4 (dk_at dksJ8_fixAfterDeletion_5 3 rfl rfl)
theorem dJ8_fixAfterDeletion_122 : decode cJ8_fixAfterDeletion 122 = .ok (.invokestatic 307, 3) := dk_184 1 51 (dk_at dksJ8_fixAfterDeletion_5 4 rfl rfl)
theorem dJ8_fixAfterDeletion_125 : decode cJ8_fixAfterDeletion 125 = .ok (.aload_n 2, 1) := dk_44 (dk_at dksJ8_fixAfterDeletion_5 7 rfl rfl)
theorem dJ8_fixAfterDeletion_126 : decode cJ8_fixAfterDeletion 126 = .ok (.iconst 0, 1) := dk_3 (dk_at dksJ8_fixAfterDeletion_5 8 rfl rfl)
theorem dJ8_fixAfterDeletion_127 : decode cJ8_fixAfterDeletion 127 = .ok (.invokestatic 307, 3) := dk_184 1 51 (dk_at dksJ8_fixAfterDeletion_5 9 rfl rfl)
theorem dJ8_fixAfterDeletion_130 : decode cJ8_fixAfterDeletion 130 = .ok (.aload_n 0, 1) := dk_42 (dk_at dksJ8_fixAfterDeletion_5 12 rfl rfl)
theorem dJ8_fixAfterDeletion_131 : decode cJ8_fixAfterDeletion 131 = .ok (.aload_n 2, 1) := dk_44 (dk_at dksJ8_fixAfterDeletion_5 13 rfl rfl)
theorem dJ8_fixAfterDeletion_132 : decode cJ8_fixAfterDeletion 132 = .ok (.invokevirtual 314, 3) := dk_182 1 58 (dk_at dksJ8_fixAfterDeletion_5 14 rfl rfl)
theorem dJ8_fixAfterDeletion_135 : decode cJ8_fixAfterDeletion 135 = .ok (.aload_n 1, 1) := dk_43 (dk_at dksJ8_fixAfterDeletion_5 17 rfl rfl)
theorem dJ8_fixAfterDeletion_136 : decode cJ8_fixAfterDeletion 136 = .ok (.invokestatic 294, 3) := dk_184 1 38 (dk_at dksJ8_fixAfterDeletion_5 18 rfl rfl)
theorem dJ8_fixAfterDeletion_139 : decode cJ8_fixAfterDeletion 139 = .ok (.invokestatic 300, 3) := dk_184 1 44 (dk_at dksJ8_fixAfterDeletion_5 21 rfl rfl)
theorem dJ8_fixAfterDeletion_142 : decode cJ8_fixAfterDeletion 142 = .ok (.astore_n 2, 1) := dk_77 (dk_at dksJ8_fixAfterDeletion_6 0 rfl rfl)
theorem dJ8_fixAfterDeletion_143 : decode cJ8_fixAfterDeletion 143 = .ok (.aload_n 2, 1) := dk_44 (dk_at dksJ8_fixAfterDeletion_6 1 rfl rfl)
theorem dJ8_fixAfterDeletion_144 : decode cJ8_fixAfterDeletion 144 = .ok (.aload_n 1, 1) := dk_43 (dk_at dksJ8_fixAfterDeletion_6 2 rfl rfl)
theorem dJ8_fixAfterDeletion_145 : decode cJ8_fixAfterDeletion 145 = .ok (.invokestatic 294, 3) := dk_184 1 38 (dk_at dksJ8_fixAfterDeletion_6 3 rfl rfl)
theorem dJ8_fixAfterDeletion_148 : decode cJ8_fixAfterDeletion 148 = .ok (.invokestatic 303, 3) := dk_184 1 47 (dk_at dksJ8_fixAfterDeletion_6 6 rfl rfl)
theorem dJ8_fixAfterDeletion_151 : decode cJ8_fixAfterDeletion 151 = .ok (.invokestatic 307, 3) := dk_184 1 51 (dk_at dksJ8_fixAfterDeletion_6 9 rfl rfl)
theorem dJ8_fixAfterDeletion_154 : decode cJ8_fixAfterDeletion 154 = .ok (.aload_n 1, 1) := dk_43 (dk_at dksJ8_fixAfterDeletion_6 12 rfl rfl)
theorem dJ8_fixAfterDeletion_155 : decode cJ8_fixAfterDeletion 155 = .ok (.invokestatic 294, 3) := dk_184 1 38 (dk_at dksJ8_fixAfterDeletion_6 13 rfl rfl)
theorem dJ8_fixAfterDeletion_158 : decode cJ8_fixAfterDeletion 158 = .ok (.iconst 1, 1) := dk_4 (dk_at dksJ8_fixAfterDeletion_6 16 rfl rfl)
theorem dJ8_fixAfterDeletion_159 : decode cJ8_fixAfterDeletion 159 = .ok (.invokestatic 307, 3) := dk_184 1 51 (dk_at dksJ8_fixAfterDeletion_6 17 rfl rfl)
theorem dJ8_fixAfterDeletion_162 : decode cJ8_fixAfterDeletion 162 = .ok (.aload_n 2, 1) := dk_44 (dk_at dksJ8_fixAfterDeletion_6 20 rfl rfl)
theorem dJ8_fixAfterDeletion_163 : decode cJ8_fixAfterDeletion 163 = .ok (.invokestatic 300, 3) := dk_184 1 44 (dk_at dksJ8_fixAfterDeletion_6 21 rfl rfl)
theorem dJ8_fixAfterDeletion_166 : decode cJ8_fixAfterDeletion 166 = .ok (.iconst 1, 1) := dk_4 (dk_at dksJ8_fixAfterDeletion_7 0 rfl rfl)
theorem dJ8_fixAfterDeletion_167 : decode cJ8_fixAfterDeletion 167 = .ok (.invokestatic 307, 3) := dk_184 1 51 (dk_at dksJ8_fixAfterDeletion_7 1 rfl rfl)
theorem dJ8_fixAfterDeletion_170 : decode cJ8_fixAfterDeletion 170 = .ok (.aload_n 0, 1) := dk_42 (dk_at dksJ8_fixAfterDeletion_7 4 rfl rfl)
theorem dJ8_fixAfterDeletion_171 : decode cJ8_fixAfterDeletion 171 = .ok (.aload_n 1, 1) := dk_43 (dk_at dksJ8_fixAfterDeletion_7 5 rfl rfl)
theorem dJ8_fixAfterDeletion_172 : decode cJ8_fixAfterDeletion 172 = .ok (.invokestatic 294, 3) := dk_184 1 38 (dk_at dksJ8_fixAfterDeletion_7 6 rfl rfl)
theorem dJ8_fixAfterDeletion_175 : decode cJ8_fixAfterDeletion 175 = .ok (.invokevirtual 311, 3) := dk_182 1 55 (dk_at dksJ8_fixAfterDeletion_7 9 rfl rfl)
theorem dJ8_fixAfterDeletion_178 : decode cJ8_fixAfterDeletion 178 = .ok (.aload_n 0, 1) := dk_42 (dk_at dksJ8_fixAfterDeletion_7 12 rfl rfl)
theorem dJ8_fixAfterDeletion_179 : decode cJ8_fixAfterDeletion 179 = .ok (.getfield 101, 3) := dk_180 0 101 (dk_at dksJ8_fixAfterDeletion_7 13 rfl rfl)
theorem dJ8_fixAfterDeletion_182 : decode cJ8_fixAfterDeletion 182 = .ok (.astore_n 1, 1) := dk_76 (dk_at dksJ8_fixAfterDeletion_7 16 rfl rfl)
theorem dJ8_fixAfterDeletion_183 : decode cJ8_fixAfterDeletion 183 = .ok (.goto (-183), 3) := dk_167 255 73 (dk_at dksJ8_fixAfterDeletion_7 17 rfl rfl)
theorem dJ8_fixAfterDeletion_186 : decode cJ8_fixAfterDeletion 186 = .ok (.aload_n 1, 1) := dk_43 (dk_at dksJ8_fixAfterDeletion_7 20 rfl rfl)
theorem dJ8_fixAfterDeletion_187 : decode cJ8_fixAfterDeletion 187 = .ok (.invokestatic 294, 3) := dk_184 1 38 (dk_at dksJ8_fixAfterDeletion_7 21 rfl rfl)
theorem dJ8_fixAfterDeletion_190 : decode cJ8_fixAfterDeletion 190 = .ok (.invokestatic 297, 3) := dk_184 1 41 (dk_at dksJ8_fixAfterDeletion_8 0 rfl rfl)
theorem dJ8_fixAfterDeletion_193 : decode cJ8_fixAfterDeletion 193 = .ok (.astore_n 2, 1) := dk_77 (dk_at dksJ8_fixAfterDeletion_8 3 rfl rfl)
theorem dJ8_fixAfterDeletion_194 : decode cJ8_fixAfterDeletion 194 = .ok (.aload_n 2, 1) := dk_44 (dk_at dksJ8_fixAfterDeletion_8 4 rfl rfl)
theorem dJ8_fixAfterDeletion_195 : decode cJ8_fixAfterDeletion 195 = .ok (.invokestatic 303, 3) := dk_184 1 47 (dk_at dksJ8_fixAfterDeletion_8 5 rfl rfl)
theorem dJ8_fixAfterDeletion_198 : decode cJ8_fixAfterDeletion 198 = .ok (.ifCond .ne 32, 3) := dk_154 0 32 (dk_at dksJ8_fixAfterDeletion_8 8 rfl rfl)
theorem dJ8_fixAfterDeletion_201 : decode cJ8_fixAfterDeletion 201 = .ok (.aload_n 2, 1) := dk_44 (dk_at dksJ8_fixAfterDeletion_8 11 rfl rfl)
theorem dJ8_fixAfterDeletion_202 : decode cJ8_fixAfterDeletion 202 = .ok (.iconst 1, 1) := dk_4 (dk_at dksJ8_fixAfterDeletion_8 12 rfl rfl)
theorem dJ8_fixAfterDeletion_203 : decode cJ8_fixAfterDeletion 203 = .ok (.invokestatic 307, 3) := dk_184 1 51 (dk_at dksJ8_fixAfterDeletion_8 13 rfl rfl)
theorem dJ8_fixAfterDeletion_206 : decode cJ8_fixAfterDeletion 206 = .ok (.aload_n 1, 1) := dk_43 (dk_at dksJ8_fixAfterDeletion_8 16 rfl rfl)
theorem dJ8_fixAfterDeletion_207 : decode cJ8_fixAfterDeletion 207 = .ok (.invokestatic 294, 3) := dk_184 1 38 (dk_at dksJ8_fixAfterDeletion_8 17 rfl rfl)
theorem dJ8_fixAfterDeletion_210 : decode cJ8_fixAfterDeletion 210 = .ok (.iconst 0, 1) := dk_3 (dk_at dksJ8_fixAfterDeletion_8 20 rfl rfl)
theorem dJ8_fixAfterDeletion_211 : decode cJ8_fixAfterDeletion 211 = .ok (.invokestatic 307, 3) := dk_184 1 51 (dk_at dksJ8_fixAfterDeletion_8 21 rfl rfl)
theorem dJ8_fixAfterDeletion_214 : decode cJ8_fixAfterDeletion 214 = .ok (.aload_n 0, 1) := dk_42 (dk_at dksJ8_fixAfterDeletion_9 0 rfl rfl)
theorem dJ8_fixAfterDeletion_215 : decode cJ8_fixAfterDeletion 215 = .ok (.aload_n 1, 1) := dk_43 (dk_at dksJ8_fixAfterDeletion_9 1 rfl rfl)
theorem dJ8_fixAfterDeletion_216 : decode cJ8_fixAfterDeletion 216 = .ok (.invokestatic 294, 3) := dk_184 1 38 (dk_at dksJ8_fixAfterDeletion_9 2 rfl rfl)
theorem dJ8_fixAfterDeletion_219 : decode cJ8_fixAfterDeletion 219 = .ok (.invokevirtual 314, 3) := dk_182 1 58 (dk_at dksJ8_fixAfterDeletion_9 5 rfl rfl)
theorem dJ8_fixAfterDeletion_222 : decode cJ8_fixAfterDeletion 222 = .ok (.aload_n 1, 1) := dk_43 (dk_at dksJ8_fixAfterDeletion_9 8 rfl rfl)
theorem dJ8_fixAfterDeletion_223 : decode cJ8_fixAfterDeletion 223 = .ok (.invokestatic 294, 3) := dk_184 1 38 (dk_at dksJ8_fixAfterDeletion_9 9 rfl rfl)
theorem dJ8_fixAfterDeletion_226 : decode cJ8_fixAfterDeletion 226 = .ok (.invokestatic 297, 3) := dk_184 1 41 (dk_at dksJ8_fixAfterDeletion_9 12 rfl rfl)
theorem dJ8_fixAfterDeletion_229 : decode cJ8_fixAfterDeletion 229 = .ok (.astore_n 2, 1) := dk_77 (dk_at dksJ8_fixAfterDeletion_9 15 rfl rfl)
theorem dJ8_fixAfterDeletion_230 : decode cJ8_fixAfterDeletion 230 = .ok (.aload_n 2, 1) := dk_44 (dk_at dksJ8_fixAfterDeletion_9 16 rfl rfl)
theorem dJ8_fixAfterDeletion_231 : decode cJ8_fixAfterDeletion 231 = .ok (.invokestatic 300, 3) := dk_184 1 44 (dk_at dksJ8_fixAfterDeletion_9 17 rfl rfl)
theorem dJ8_fixAfterDeletion_234 : decode cJ8_fixAfterDeletion 234 = .ok (.invokestatic 303, 3) := dk_184 1 47 (dk_at dksJ8_fixAfterDeletion_9 20 rfl rfl)
theorem dJ8_fixAfterDeletion_237 : decode cJ8_fixAfterDeletion 237 = .ok (.iconst 1, 1) := dk_4 (dk_at dksJ8_fixAfterDeletion_9 23 rfl rfl)
theorem dJ8_fixAfterDeletion_238 : decode cJ8_fixAfterDeletion 238 = .ok (.if_icmp .ne 27, 3) := dk_160 0 27 (dk_at dksJ8_fixAfterDeletion_10 0 rfl rfl)
theorem dJ8_fixAfterDeletion_241 : decode cJ8_fixAfterDeletion 241 = .ok (.aload_n 2, 1) := dk_44 (dk_at dksJ8_fixAfterDeletion_10 3 rfl rfl)
theorem dJ8_fixAfterDeletion_242 : decode cJ8_fixAfterDeletion 242 = .ok (.invokestatic 297, 3) := dk_184 1 41 (dk_at dksJ8_fixAfterDeletion_10 4 rfl rfl)
theorem dJ8_fixAfterDeletion_245 : decode cJ8_fixAfterDeletion 245 = .ok (.invokestatic 303, 3) := dk_184 1 47 (dk_at dksJ8_fixAfterDeletion_10 7 rfl rfl)
theorem dJ8_fixAfterDeletion_248 : decode cJ8_fixAfterDeletion 248 = .ok (.iconst 1, 1) := dk_4 (dk_at dksJ8_fixAfterDeletion_10 10 rfl rfl)
theorem dJ8_fixAfterDeletion_249 : decode cJ8_fixAfterDeletion 249 = .ok (.if_icmp .ne 16, 3) := dk_160 0 16 (dk_at dksJ8_fixAfterDeletion_10 11 rfl rfl)
theorem dJ8_fixAfterDeletion_252 : decode cJ8_fixAfterDeletion 252 = .ok (.aload_n 2, 1) := dk_44 (dk_at dksJ8_fixAfterDeletion_10 14 rfl rfl)
theorem dJ8_fixAfterDeletion_253 : decode cJ8_fixAfterDeletion 253 = .ok (.iconst 0, 1) := dk_3 (dk_at dksJ8_fixAfterDeletion_10 15 rfl rfl)
theorem dJ8_fixAfterDeletion_254 : decode cJ8_fixAfterDeletion 254 = .ok (.invokestatic 307, 3) := dk_184 1 51 (dk_at dksJ8_fixAfterDeletion_10 16 rfl rfl)
theorem dJ8_fixAfterDeletion_257 : decode cJ8_fixAfterDeletion 257 = .ok (.aload_n 1, 1) := dk_43 (dk_at dksJ8_fixAfterDeletion_10 19 rfl rfl)
theorem dJ8_fixAfterDeletion_258 : decode cJ8_fixAfterDeletion 258 = .ok (.invokestatic 294, 3) := dk_184 1 38 (dk_at dksJ8_fixAfterDeletion_10 20 rfl rfl)
theorem dJ8_fixAfterDeletion_261 : decode cJ8_fixAfterDeletion 261 = .ok (.astore_n 1, 1) := dk_76 (dk_at dksJ8_fixAfterDeletion_10 23 rfl rfl)
theorem dJ8_fixAfterDeletion_262 : decode cJ8_fixAfterDeletion 262 = .ok (.goto 80, 3) := dk_167 0 80 (dk_at dksJ8_fixAfterDeletion_11 0 rfl rfl)
theorem dJ8_fixAfterDeletion_265 : decode cJ8_fixAfterDeletion 265 = .ok (.aload_n 2, 1) := dk_44 (dk_at dksJ8_fixAfterDeletion_11 3 rfl rfl)
theorem dJ8_fixAfterDeletion_266 : decode cJ8_fixAfterDeletion 266 = .ok (.invokestatic 297, 3) := dk_184 1 41 (dk_at dksJ8_fixAfterDeletion_11 4 rfl rfl)
theorem dJ8_fixAfterDeletion_269 : decode cJ8_fixAfterDeletion 269 = .ok (.invokestatic 303, 3) := dk_184 1 47 (dk_at dksJ8_fixAfterDeletion_11 7 rfl rfl)
theorem dJ8_fixAfterDeletion_272 : decode cJ8_fixAfterDeletion 272 = .ok (.iconst 1, 1) := dk_4 (dk_at dksJ8_fixAfterDeletion_11 10 rfl rfl)
theorem dJ8_fixAfterDeletion_273 : decode cJ8_fixAfterDeletion 273 = .ok (.if_icmp .ne 29, 3) := dk_160 0 29 (dk_at dksJ8_fixAfterDeletion_11 11 rfl rfl)
theorem dJ8_fixAfterDeletion_276 : decode cJ8_fixAfterDeletion 276 = .ok (.aload_n 2, 1) := dk_44 (dk_at dksJ8_fixAfterDeletion_11 14 rfl rfl)
theorem dJ8_fixAfterDeletion_277 : decode cJ8_fixAfterDeletion 277 = .ok (.invokestatic 300, 3) := dk_184 1 44 (dk_at dksJ8_fixAfterDeletion_11 15 rfl rfl)
theorem dJ8_fixAfterDeletion_280 : decode cJ8_fixAfterDeletion 280 = .ok (.iconst 1, 1) := dk_4 (dk_at dksJ8_fixAfterDeletion_11 18 rfl rfl)
theorem dJ8_fixAfterDeletion_281 : decode cJ8_fixAfterDeletion 281 = .ok (.invokestatic 307, 3) := dk_184 1 51 (dk_at dksJ8_fixAfterDeletion_11 19 rfl rfl)
theorem dJ8_fixAfterDeletion_284 : decode cJ8_fixAfterDeletion 284 = .ok (.aload_n 2, 1) := dk_44 (dk_at dksJ8_fixAfterDeletion_11 22 rfl rfl)
theorem dJ8_fixAfterDeletion_285 : decode cJ8_fixAfterDeletion 285 = .ok (.iconst 0, 1) := dk_3 (dk_at dksJ8_fixAfterDeletion_11 23 rfl rfl)
theorem dJ8_fixAfterDeletion_286 : decode cJ8_fixAfterDeletion 286 = .ok (.invokestatic 307, 3) := dk_184 1 51 (dk_at dksJ8_fixAfterDeletion_12 0 rfl rfl)
theorem dJ8_fixAfterDeletion_289 : decode cJ8_fixAfterDeletion 289 = .ok (.aload_n 0, 1) := dk_42 (dk_at dksJ8_fixAfterDeletion_12 3 rfl rfl)
theorem dJ8_fixAfterDeletion_290 : decode cJ8_fixAfterDeletion 290 = .ok (.aload_n 2, 1) := dk_44 (dk_at dksJ8_fixAfterDeletion_12 4 rfl rfl)
theorem dJ8_fixAfterDeletion_291 : decode cJ8_fixAfterDeletion 291 = .ok (.invokevirtual 311, 3) := dk_182 1 55 (dk_at dksJ8_fixAfterDeletion_12 5 rfl rfl)
theorem dJ8_fixAfterDeletion_294 : decode cJ8_fixAfterDeletion 294 = .ok (.aload_n 1, 1) := dk_43 (dk_at dksJ8_fixAfterDeletion_12 8 rfl rfl)
theorem dJ8_fixAfterDeletion_295 : decode cJ8_fixAfterDeletion 295 = .ok (.invokestatic 294, 3) := dk_184 1 38 (dk_at dksJ8_fixAfterDeletion_12 9 rfl rfl)
theorem dJ8_fixAfterDeletion_298 : decode cJ8_fixAfterDeletion 298 = .ok (.invokestatic 297, 3) := dk_184 1 41 (dk_at dksJ8_fixAfterDeletion_12 12 rfl rfl)
theorem dJ8_fixAfterDeletion_301 : decode cJ8_fixAfterDeletion 301 = .ok (.astore_n 2, 1) := dk_77 (dk_at dksJ8_fixAfterDeletion_12 15 rfl rfl)
theorem dJ8_fixAfterDeletion_302 : decode cJ8_fixAfterDeletion 302 = .ok (.aload_n 2, 1) := dk_44 (dk_at dksJ8_fixAfterDeletion_12 16 rfl rfl)
theorem dJ8_fixAfterDeletion_303 : decode cJ8_fixAfterDeletion 303 = .ok (.aload_n 1, 1) := dk_43 (dk_at dksJ8_fixAfterDeletion_12 17 rfl rfl)
theorem dJ8_fixAfterDeletion_304 : decode cJ8_fixAfterDeletion 304 = .ok (.invokestatic 294, 3) := dk_184 1 38 (dk_at dksJ8_fixAfterDeletion_12 18 rfl rfl)
theorem dJ8_fixAfterDeletion_307 : decode cJ8_fixAfterDeletion 307 = .ok (.invokestatic 303, 3) := dk_184 1 47 (dk_at dksJ8_fixAfterDeletion_12 21 rfl rfl)
theorem dJ8_fixAfterDeletion_310 : decode cJ8_fixAfterDeletion 310 = .ok (.invokestatic 307, 3) := dk_184 1 51 (dk_at dksJ8_fixAfterDeletion_13 0 rfl rfl)
theorem dJ8_fixAfterDeletion_313 : decode cJ8_fixAfterDeletion 313 = .ok (.aload_n 1, 1) := dk_43 (dk_at dksJ8_fixAfterDeletion_13 3 rfl rfl)
theorem dJ8_fixAfterDeletion_314 : decode cJ8_fixAfterDeletion 314 = .ok (.invokestatic 294, 3) := dk_184 1 38 (dk_at dksJ8_fixAfterDeletion_13 4 rfl rfl)
theorem dJ8_fixAfterDeletion_317 : decode cJ8_fixAfterDeletion 317 = .ok (.iconst 1, 1) := dk_4 (dk_at dksJ8_fixAfterDeletion_13 7 rfl rfl)
theorem dJ8_fixAfterDeletion_318 : decode cJ8_fixAfterDeletion 318 = .ok (.invokestatic 307, 3) := dk_184 1 51 (dk_at dksJ8_fixAfterDeletion_13 8 rfl rfl)
theorem dJ8_fixAfterDeletion_321 : decode cJ8_fixAfterDeletion 321 = .ok (.aload_n 2, 1) := dk_44 (dk_at dksJ8_fixAfterDeletion_13 11 rfl rfl)
theorem dJ8_fixAfterDeletion_322 : decode cJ8_fixAfterDeletion 322 = .ok (.invokestatic 297, 3) := dk_184 1 41 (dk_at dksJ8_fixAfterDeletion_13 12 rfl rfl)
theorem dJ8_fixAfterDeletion_325 : decode cJ8_fixAfterDeletion 325 = .ok (.iconst 1, 1) := dk_4 (dk_at dksJ8_fixAfterDeletion_13 15 rfl rfl)
theorem dJ8_fixAfterDeletion_326 : decode cJ8_fixAfterDeletion 326 = .ok (.invokestatic 307, 3) := dk_184 1 51 (dk_at dksJ8_fixAfterDeletion_13 16 rfl rfl)
theorem dJ8_fixAfterDeletion_329 : decode cJ8_fixAfterDeletion 329 = .ok (.aload_n 0, 1) := dk_42 (dk_at dksJ8_fixAfterDeletion_13 19 rfl rfl)
theorem dJ8_fixAfterDeletion_330 : decode cJ8_fixAfterDeletion 330 = .ok (.aload_n 1, 1) := dk_43 (dk_at dksJ8_fixAfterDeletion_13 20 rfl rfl)
theorem dJ8_fixAfterDeletion_331 : decode cJ8_fixAfterDeletion 331 = .ok (.invokestatic 294, 3) := dk_184 1 38 (dk_at dksJ8_fixAfterDeletion_13 21 rfl rfl)
theorem dJ8_fixAfterDeletion_334 : decode cJ8_fixAfterDeletion 334 = .ok (.invokevirtual 314, 3) := dk_182 1 58 (dk_at dksJ8_fixAfterDeletion_14 0 rfl rfl)
theorem dJ8_fixAfterDeletion_337 : decode cJ8_fixAfterDeletion 337 = .ok (.aload_n 0, 1) := dk_42 (dk_at dksJ8_fixAfterDeletion_14 3 rfl rfl)
theorem dJ8_fixAfterDeletion_338 : decode cJ8_fixAfterDeletion 338 = .ok (.getfield 101, 3) := dk_180 0 101 (dk_at dksJ8_fixAfterDeletion_14 4 rfl rfl)
theorem dJ8_fixAfterDeletion_341 : decode cJ8_fixAfterDeletion 341 = .ok (.astore_n 1, 1) := dk_76 (dk_at dksJ8_fixAfterDeletion_14 7 rfl rfl)
theorem dJ8_fixAfterDeletion_342 : decode cJ8_fixAfterDeletion 342 = .ok (.goto (-342), 3) := dk_167 254 170 (dk_at dksJ8_fixAfterDeletion_14 8 rfl rfl)
theorem dJ8_fixAfterDeletion_345 : decode cJ8_fixAfterDeletion 345 = .ok (.aload_n 1, 1) := dk_43 (dk_at dksJ8_fixAfterDeletion_14 11 rfl rfl)
theorem dJ8_fixAfterDeletion_346 : decode cJ8_fixAfterDeletion 346 = .ok (.iconst 1, 1) := dk_4 (dk_at dksJ8_fixAfterDeletion_14 12 rfl rfl)
theorem dJ8_fixAfterDeletion_347 : decode cJ8_fixAfterDeletion 347 = .ok (.invokestatic 307, 3) := dk_184 1 51 (dk_at dksJ8_fixAfterDeletion_14 13 rfl rfl)
theorem dJ8_fixAfterDeletion_350 : decode cJ8_fixAfterDeletion 350 = .ok (.return_, 1) := dk_177 (dk_at dksJ8_fixAfterDeletion_14 16 rfl rfl)
abbrev cJ8_containsKey : ByteArray := prog_62_method_6_code
def yJ8_containsKey : MethodName := ⟨RJ8, "containsKey", "(Ljava/lang/Object;)Z"⟩
def dkwJ8_containsKey_0 : List UInt8 := [42, 43, 182, 0, 50, 198, 0, 7, 4, 167, 0, 4, 3, 172]
abbrev dktJ8_containsKey_0 : List UInt8 := dkwJ8_containsKey_0 ++ []
theorem dksJ8_containsKey_0 : cJ8_containsKey.data.toList.drop 0 = dktJ8_containsKey_0 := by decide +kernel
theorem dJ8_containsKey_0 : decode cJ8_containsKey 0 = .ok (.aload_n 0, 1) := dk_42 (dk_at dksJ8_containsKey_0 0 rfl rfl)
theorem dJ8_containsKey_1 : decode cJ8_containsKey 1 = .ok (.aload_n 1, 1) := dk_43 (dk_at dksJ8_containsKey_0 1 rfl rfl)
theorem dJ8_containsKey_2 : decode cJ8_containsKey 2 = .ok (.invokevirtual 50, 3) := dk_182 0 50 (dk_at dksJ8_containsKey_0 2 rfl rfl)
theorem dJ8_containsKey_5 : decode cJ8_containsKey 5 = .ok (.ifnull 7, 3) := dk_198 0 7 (dk_at dksJ8_containsKey_0 5 rfl rfl)
theorem dJ8_containsKey_8 : decode cJ8_containsKey 8 = .ok (.iconst 1, 1) := dk_4 (dk_at dksJ8_containsKey_0 8 rfl rfl)
theorem dJ8_containsKey_9 : decode cJ8_containsKey 9 = .ok (.goto 4, 3) := dk_167 0 4 (dk_at dksJ8_containsKey_0 9 rfl rfl)
theorem dJ8_containsKey_12 : decode cJ8_containsKey 12 = .ok (.iconst 0, 1) := dk_3 (dk_at dksJ8_containsKey_0 12 rfl rfl)
theorem dJ8_containsKey_13 : decode cJ8_containsKey 13 = .ok (.ireturn, 1) := dk_172 (dk_at dksJ8_containsKey_0 13 rfl rfl)
theorem q103 : (Jvm.Cond.initialized "java/util/TreeMap") ∈ lw_all := lw_g (lw_at lw_m1 11 rfl) rfl
theorem q256 : (Jvm.Cond.instantiable "java/util/TreeMap" (9 : Nat)) ∈ lw_all := lw_g (lw_at lw_m1 164 rfl) rfl
theorem q258 : (Jvm.Cond.instanceMethod ({ cls := "java/util/TreeMap", name := "<init>", desc := "()V" } : Jvm.MethodName)) ∈ lw_all := lw_g (lw_at lw_m1 166 rfl) rfl
theorem q259 : (Jvm.Cond.code ({ cls := "java/util/TreeMap", name := "<init>", desc := "()V" } : Jvm.MethodName) prog_62_method_1_code (1 : Nat) (Option.none : Option Jvm.ClassFile.FieldType)) ∈ lw_all := lw_g (lw_at lw_m1 167 rfl) rfl
theorem q260 : (Jvm.Cond.methodLink "java/util/TreeMap" (1 : Nat) ({ cls := "java/util/AbstractMap", name := "<init>", desc := "()V" } : Jvm.MethodName)) ∈ lw_all := lw_g (lw_at lw_m1 168 rfl) rfl
theorem q264 : (Jvm.Cond.fieldLink "java/util/TreeMap" (16 : Nat) "java/util/TreeMap" "comparator" "Ljava/util/Comparator;") ∈ lw_all := lw_g (lw_at lw_m1 172 rfl) rfl
theorem q265 : (Jvm.Cond.fieldLink "java/util/TreeMap" (101 : Nat) "java/util/TreeMap" "root" "Ljava/util/TreeMap$Entry;") ∈ lw_all := lw_g (lw_at lw_m1 173 rfl) rfl
theorem q266 : (Jvm.Cond.fieldLink "java/util/TreeMap" (7 : Nat) "java/util/TreeMap" "size" "I") ∈ lw_all := lw_g (lw_at lw_m1 174 rfl) rfl
theorem q267 : (Jvm.Cond.fieldLink "java/util/TreeMap" (13 : Nat) "java/util/TreeMap" "modCount" "I") ∈ lw_all := lw_g (lw_at lw_m1 175 rfl) rfl
theorem q269 : (Jvm.Cond.fieldLink "java/util/TreeMap" (188 : Nat) "java/util/TreeMap" "entrySet" "Ljava/util/TreeMap$EntrySet;") ∈ lw_all := lw_g (lw_at lw_m1 177 rfl) rfl
theorem q270 : (Jvm.Cond.fieldLink "java/util/TreeMap" (191 : Nat) "java/util/TreeMap" "navigableKeySet" "Ljava/util/TreeMap$KeySet;") ∈ lw_all := lw_g (lw_at lw_m1 178 rfl) rfl
theorem q271 : (Jvm.Cond.laysFinal "java/util/TreeMap" "java/util/TreeMap" "comparator" "Ljava/util/Comparator;") ∈ lw_all := lw_g (lw_at lw_m1 179 rfl) rfl
theorem q272 : (Jvm.Cond.soleField "java/util/TreeMap" "comparator") ∈ lw_all := lw_g (lw_at lw_m1 180 rfl) rfl
theorem q273 : (Jvm.Cond.lays "java/util/TreeMap" "java/util/TreeMap" "root" "Ljava/util/TreeMap$Entry;") ∈ lw_all := lw_g (lw_at lw_m1 181 rfl) rfl
theorem q274 : (Jvm.Cond.soleField "java/util/TreeMap" "root") ∈ lw_all := lw_g (lw_at lw_m1 182 rfl) rfl
theorem q275 : (Jvm.Cond.lays "java/util/TreeMap" "java/util/TreeMap" "size" "I") ∈ lw_all := lw_g (lw_at lw_m1 183 rfl) rfl
theorem q276 : (Jvm.Cond.soleField "java/util/TreeMap" "size") ∈ lw_all := lw_g (lw_at lw_m1 184 rfl) rfl
theorem q277 : (Jvm.Cond.lays "java/util/TreeMap" "java/util/TreeMap" "modCount" "I") ∈ lw_all := lw_g (lw_at lw_m1 185 rfl) rfl
theorem q278 : (Jvm.Cond.soleField "java/util/TreeMap" "modCount") ∈ lw_all := lw_g (lw_at lw_m1 186 rfl) rfl
theorem q279 : (Jvm.Cond.lays "java/util/TreeMap" "java/util/TreeMap" "entrySet" "Ljava/util/TreeMap$EntrySet;") ∈ lw_all := lw_g (lw_at lw_m1 187 rfl) rfl
theorem q280 : (Jvm.Cond.soleField "java/util/TreeMap" "entrySet") ∈ lw_all := lw_g (lw_at lw_m1 188 rfl) rfl
theorem q281 : (Jvm.Cond.lays "java/util/TreeMap" "java/util/TreeMap" "navigableKeySet" "Ljava/util/TreeMap$KeySet;") ∈ lw_all := lw_g (lw_at lw_m1 189 rfl) rfl
theorem q282 : (Jvm.Cond.soleField "java/util/TreeMap" "navigableKeySet") ∈ lw_all := lw_g (lw_at lw_m1 190 rfl) rfl
theorem q283 : (Jvm.Cond.lays "java/util/TreeMap" "java/util/TreeMap" "descendingMap" "Ljava/util/NavigableMap;") ∈ lw_all := lw_g (lw_at lw_m1 191 rfl) rfl
theorem q284 : (Jvm.Cond.soleField "java/util/TreeMap" "descendingMap") ∈ lw_all := lw_g (lw_at lw_m1 192 rfl) rfl
theorem q285 : (Jvm.Cond.lays "java/util/TreeMap" "java/util/AbstractMap" "keySet" "Ljava/util/Set;") ∈ lw_all := lw_g (lw_at lw_m1 193 rfl) rfl
theorem q287 : (Jvm.Cond.lays "java/util/TreeMap" "java/util/AbstractMap" "values" "Ljava/util/Collection;") ∈ lw_all := lw_g (lw_at lw_m1 195 rfl) rfl
theorem q289 : (Jvm.Cond.superclass "java/util/TreeMap" "java/util/AbstractMap") ∈ lw_all := lw_g (lw_at lw_m1 197 rfl) rfl
theorem q936 : (Jvm.Cond.castable "java/util/TreeMap" "java/util/NavigableMap") ∈ lw_tbl := lw_at lw_m4 124 rfl
theorem q937 : (Jvm.Cond.selects "java/util/TreeMap" ({ cls := "java/util/Map", name := "size", desc := "()I" } : Jvm.MethodName) ({ cls := "java/util/TreeMap", name := "size", desc := "()I" } : Jvm.MethodName)) ∈ lw_all := lw_g (lw_at lw_m4 125 rfl) rfl
theorem q938 : (Jvm.Cond.unhidden "java/util/TreeMap" "size" "()I") ∈ lw_tbl := lw_at lw_m4 126 rfl
theorem q939 : (Jvm.Cond.instanceMethod ({ cls := "java/util/TreeMap", name := "size", desc := "()I" } : Jvm.MethodName)) ∈ lw_all := lw_g (lw_at lw_m4 127 rfl) rfl
theorem q940 : (Jvm.Cond.publicMethod ({ cls := "java/util/TreeMap", name := "size", desc := "()I" } : Jvm.MethodName)) ∈ lw_tbl := lw_at lw_m4 128 rfl
theorem q941 : (Jvm.Cond.code ({ cls := "java/util/TreeMap", name := "size", desc := "()I" } : Jvm.MethodName) prog_62_method_5_code (1 : Nat) (Option.some Jvm.ClassFile.FieldType.int)) ∈ lw_all := lw_g (lw_at lw_m4 129 rfl) rfl
theorem q969 : (Jvm.Cond.instanceMethod ({ cls := "java/util/TreeMap", name := "clear", desc := "()V" } : Jvm.MethodName)) ∈ lw_all := lw_g (lw_at lw_m4 157 rfl) rfl
theorem q970 : (Jvm.Cond.selects "java/util/TreeMap" ({ cls := "java/util/TreeMap", name := "clear", desc := "()V" } : Jvm.MethodName) ({ cls := "java/util/TreeMap", name := "clear", desc := "()V" } : Jvm.MethodName)) ∈ lw_all := lw_g (lw_at lw_m4 158 rfl) rfl
theorem q971 : (Jvm.Cond.code ({ cls := "java/util/TreeMap", name := "clear", desc := "()V" } : Jvm.MethodName) prog_62_method_35_code (1 : Nat) (Option.none : Option Jvm.ClassFile.FieldType)) ∈ lw_all := lw_g (lw_at lw_m4 159 rfl) rfl
theorem q973 : (Jvm.Cond.instanceMethod ({ cls := "java/util/TreeMap", name := "keySet", desc := "()Ljava/util/Set;" } : Jvm.MethodName)) ∈ lw_all := lw_g (lw_at lw_m4 161 rfl) rfl
theorem q974 : (Jvm.Cond.selects "java/util/TreeMap" ({ cls := "java/util/TreeMap", name := "keySet", desc := "()Ljava/util/Set;" } : Jvm.MethodName) ({ cls := "java/util/TreeMap", name := "keySet", desc := "()Ljava/util/Set;" } : Jvm.MethodName)) ∈ lw_all := lw_g (lw_at lw_m4 162 rfl) rfl
theorem q975 : (Jvm.Cond.code ({ cls := "java/util/TreeMap", name := "keySet", desc := "()Ljava/util/Set;" } : Jvm.MethodName) prog_62_method_49_code (1 : Nat) (Option.some (Jvm.ClassFile.FieldType.object "java/util/Set"))) ∈ lw_all := lw_g (lw_at lw_m4 163 rfl) rfl
theorem q976 : (Jvm.Cond.methodLink "java/util/TreeMap" (219 : Nat) ({ cls := "java/util/TreeMap", name := "navigableKeySet", desc := "()Ljava/util/NavigableSet;" } : Jvm.MethodName)) ∈ lw_all := lw_g (lw_at lw_m4 164 rfl) rfl
theorem q977 : (Jvm.Cond.instanceMethod ({ cls := "java/util/TreeMap", name := "navigableKeySet", desc := "()Ljava/util/NavigableSet;" } : Jvm.MethodName)) ∈ lw_all := lw_g (lw_at lw_m4 165 rfl) rfl
theorem q978 : (Jvm.Cond.selects "java/util/TreeMap" ({ cls := "java/util/TreeMap", name := "navigableKeySet", desc := "()Ljava/util/NavigableSet;" } : Jvm.MethodName) ({ cls := "java/util/TreeMap", name := "navigableKeySet", desc := "()Ljava/util/NavigableSet;" } : Jvm.MethodName)) ∈ lw_all := lw_g (lw_at lw_m4 166 rfl) rfl
theorem q979 : (Jvm.Cond.code ({ cls := "java/util/TreeMap", name := "navigableKeySet", desc := "()Ljava/util/NavigableSet;" } : Jvm.MethodName) prog_62_method_50_code (2 : Nat) (Option.some (Jvm.ClassFile.FieldType.object "java/util/NavigableSet"))) ∈ lw_all := lw_g (lw_at lw_m4 167 rfl) rfl
theorem q980 : (Jvm.Cond.classLink "java/util/TreeMap" (222 : Nat) "java/util/TreeMap$KeySet") ∈ lw_all := lw_g (lw_at lw_m4 168 rfl) rfl
theorem q982 : (Jvm.Cond.methodLink "java/util/TreeMap" (224 : Nat) ({ cls := "java/util/TreeMap$KeySet", name := "<init>", desc := "(Ljava/util/NavigableMap;)V" } : Jvm.MethodName)) ∈ lw_all := lw_g (lw_at lw_m4 170 rfl) rfl
theorem q1003 : (Jvm.Cond.instanceMethod ({ cls := "java/util/TreeMap", name := "getFirstEntry", desc := "()Ljava/util/TreeMap$Entry;" } : Jvm.MethodName)) ∈ lw_all := lw_g (lw_at lw_m4 191 rfl) rfl
theorem q1004 : (Jvm.Cond.selects "java/util/TreeMap" ({ cls := "java/util/TreeMap", name := "getFirstEntry", desc := "()Ljava/util/TreeMap$Entry;" } : Jvm.MethodName) ({ cls := "java/util/TreeMap", name := "getFirstEntry", desc := "()Ljava/util/TreeMap$Entry;" } : Jvm.MethodName)) ∈ lw_all := lw_g (lw_at lw_m4 192 rfl) rfl
theorem q1005 : (Jvm.Cond.code ({ cls := "java/util/TreeMap", name := "getFirstEntry", desc := "()Ljava/util/TreeMap$Entry;" } : Jvm.MethodName) prog_62_method_72_code (2 : Nat) (Option.some (Jvm.ClassFile.FieldType.object "java/util/TreeMap$Entry"))) ∈ lw_all := lw_g (lw_at lw_m4 193 rfl) rfl
theorem q1034 : (Jvm.Cond.instanceMethod ({ cls := "java/util/TreeMap", name := "keyIterator", desc := "()Ljava/util/Iterator;" } : Jvm.MethodName)) ∈ lw_all := lw_g (lw_at lw_m4 222 rfl) rfl
theorem q1035 : (Jvm.Cond.selects "java/util/TreeMap" ({ cls := "java/util/TreeMap", name := "keyIterator", desc := "()Ljava/util/Iterator;" } : Jvm.MethodName) ({ cls := "java/util/TreeMap", name := "keyIterator", desc := "()Ljava/util/Iterator;" } : Jvm.MethodName)) ∈ lw_all := lw_g (lw_at lw_m4 223 rfl) rfl
theorem q1036 : (Jvm.Cond.code ({ cls := "java/util/TreeMap", name := "keyIterator", desc := "()Ljava/util/Iterator;" } : Jvm.MethodName) prog_62_method_65_code (1 : Nat) (Option.some (Jvm.ClassFile.FieldType.object "java/util/Iterator"))) ∈ lw_all := lw_g (lw_at lw_m4 224 rfl) rfl
theorem q1037 : (Jvm.Cond.classLink "java/util/TreeMap" (269 : Nat) "java/util/TreeMap$KeyIterator") ∈ lw_all := lw_g (lw_at lw_m4 225 rfl) rfl
theorem q1039 : (Jvm.Cond.methodLink "java/util/TreeMap" (54 : Nat) ({ cls := "java/util/TreeMap", name := "getFirstEntry", desc := "()Ljava/util/TreeMap$Entry;" } : Jvm.MethodName)) ∈ lw_all := lw_g (lw_at lw_m4 227 rfl) rfl
theorem q1040 : (Jvm.Cond.methodLink "java/util/TreeMap" (271 : Nat) ({ cls := "java/util/TreeMap$KeyIterator", name := "<init>", desc := "(Ljava/util/TreeMap;Ljava/util/TreeMap$Entry;)V" } : Jvm.MethodName)) ∈ lw_all := lw_g (lw_at lw_m4 228 rfl) rfl
theorem q1063 : (Jvm.Cond.selects "java/util/TreeMap" ({ cls := "java/util/NavigableMap", name := "navigableKeySet", desc := "()Ljava/util/NavigableSet;" } : Jvm.MethodName) ({ cls := "java/util/TreeMap", name := "navigableKeySet", desc := "()Ljava/util/NavigableSet;" } : Jvm.MethodName)) ∈ lw_all := lw_g (lw_at lw_m5 11 rfl) rfl
theorem q1064 : (Jvm.Cond.unhidden "java/util/TreeMap" "navigableKeySet" "()Ljava/util/NavigableSet;") ∈ lw_tbl := lw_at lw_m5 12 rfl
theorem q1065 : (Jvm.Cond.publicMethod ({ cls := "java/util/TreeMap", name := "navigableKeySet", desc := "()Ljava/util/NavigableSet;" } : Jvm.MethodName)) ∈ lw_tbl := lw_at lw_m5 13 rfl
theorem q1107 : (Jvm.Cond.static ({ cls := "java/util/TreeMap", name := "successor", desc := "(Ljava/util/TreeMap$Entry;)Ljava/util/TreeMap$Entry;" } : Jvm.MethodName)) ∈ lw_all := lw_g (lw_at lw_m5 55 rfl) rfl
theorem q1108 : (Jvm.Cond.code ({ cls := "java/util/TreeMap", name := "successor", desc := "(Ljava/util/TreeMap$Entry;)Ljava/util/TreeMap$Entry;" } : Jvm.MethodName) prog_62_method_74_code (3 : Nat) (Option.some (Jvm.ClassFile.FieldType.object "java/util/TreeMap$Entry"))) ∈ lw_all := lw_g (lw_at lw_m5 56 rfl) rfl
theorem q1119 : (Jvm.Cond.instanceMethod ({ cls := "java/util/TreeMap", name := "get", desc := "(Ljava/lang/Object;)Ljava/lang/Object;" } : Jvm.MethodName)) ∈ lw_all := lw_g (lw_at lw_m5 67 rfl) rfl
theorem q1120 : (Jvm.Cond.selects "java/util/TreeMap" ({ cls := "java/util/TreeMap", name := "get", desc := "(Ljava/lang/Object;)Ljava/lang/Object;" } : Jvm.MethodName) ({ cls := "java/util/TreeMap", name := "get", desc := "(Ljava/lang/Object;)Ljava/lang/Object;" } : Jvm.MethodName)) ∈ lw_all := lw_g (lw_at lw_m5 68 rfl) rfl
theorem q1121 : (Jvm.Cond.code ({ cls := "java/util/TreeMap", name := "get", desc := "(Ljava/lang/Object;)Ljava/lang/Object;" } : Jvm.MethodName) prog_62_method_8_code (3 : Nat) (Option.some (Jvm.ClassFile.FieldType.object "java/lang/Object"))) ∈ lw_all := lw_g (lw_at lw_m5 69 rfl) rfl
theorem q1122 : (Jvm.Cond.methodLink "java/util/TreeMap" (50 : Nat) ({ cls := "java/util/TreeMap", name := "getEntry", desc := "(Ljava/lang/Object;)Ljava/util/TreeMap$Entry;" } : Jvm.MethodName)) ∈ lw_all := lw_g (lw_at lw_m5 70 rfl) rfl
theorem q1123 : (Jvm.Cond.instanceMethod ({ cls := "java/util/TreeMap", name := "getEntry", desc := "(Ljava/lang/Object;)Ljava/util/TreeMap$Entry;" } : Jvm.MethodName)) ∈ lw_all := lw_g (lw_at lw_m5 71 rfl) rfl
theorem q1124 : (Jvm.Cond.selects "java/util/TreeMap" ({ cls := "java/util/TreeMap", name := "getEntry", desc := "(Ljava/lang/Object;)Ljava/util/TreeMap$Entry;" } : Jvm.MethodName) ({ cls := "java/util/TreeMap", name := "getEntry", desc := "(Ljava/lang/Object;)Ljava/util/TreeMap$Entry;" } : Jvm.MethodName)) ∈ lw_all := lw_g (lw_at lw_m5 72 rfl) rfl
theorem q1125 : (Jvm.Cond.code ({ cls := "java/util/TreeMap", name := "getEntry", desc := "(Ljava/lang/Object;)Ljava/util/TreeMap$Entry;" } : Jvm.MethodName) prog_62_method_15_code (5 : Nat) (Option.some (Jvm.ClassFile.FieldType.object "java/util/TreeMap$Entry"))) ∈ lw_all := lw_g (lw_at lw_m5 73 rfl) rfl
theorem q1126 : (Jvm.Cond.methodLink "java/util/TreeMap" (92 : Nat) ({ cls := "java/util/TreeMap", name := "getEntryUsingComparator", desc := "(Ljava/lang/Object;)Ljava/util/TreeMap$Entry;" } : Jvm.MethodName)) ∈ lw_all := lw_g (lw_at lw_m5 74 rfl) rfl
theorem q1127 : (Jvm.Cond.instanceMethod ({ cls := "java/util/TreeMap", name := "getEntryUsingComparator", desc := "(Ljava/lang/Object;)Ljava/util/TreeMap$Entry;" } : Jvm.MethodName)) ∈ lw_all := lw_g (lw_at lw_m5 75 rfl) rfl
theorem q1128 : (Jvm.Cond.selects "java/util/TreeMap" ({ cls := "java/util/TreeMap", name := "getEntryUsingComparator", desc := "(Ljava/lang/Object;)Ljava/util/TreeMap$Entry;" } : Jvm.MethodName) ({ cls := "java/util/TreeMap", name := "getEntryUsingComparator", desc := "(Ljava/lang/Object;)Ljava/util/TreeMap$Entry;" } : Jvm.MethodName)) ∈ lw_all := lw_g (lw_at lw_m5 76 rfl) rfl
theorem q1129 : (Jvm.Cond.code ({ cls := "java/util/TreeMap", name := "getEntryUsingComparator", desc := "(Ljava/lang/Object;)Ljava/util/TreeMap$Entry;" } : Jvm.MethodName) prog_62_method_16_code (6 : Nat) (Option.some (Jvm.ClassFile.FieldType.object "java/util/TreeMap$Entry"))) ∈ lw_all := lw_g (lw_at lw_m5 77 rfl) rfl
theorem q1130 : (Jvm.Cond.interfaceEntry "java/util/TreeMap" (117 : Nat)) ∈ lw_tbl := lw_at lw_m5 78 rfl
theorem q1131 : (Jvm.Cond.methodLink "java/util/TreeMap" (117 : Nat) ({ cls := "java/util/Comparator", name := "compare", desc := "(Ljava/lang/Object;Ljava/lang/Object;)I" } : Jvm.MethodName)) ∈ lw_all := lw_g (lw_at lw_m5 79 rfl) rfl
theorem q1134 : (Jvm.Cond.methodLink "java/util/TreeMap" (95 : Nat) ({ cls := "java/util/Objects", name := "requireNonNull", desc := "(Ljava/lang/Object;)Ljava/lang/Object;" } : Jvm.MethodName)) ∈ lw_all := lw_g (lw_at lw_m5 82 rfl) rfl
theorem q1137 : (Jvm.Cond.classLink "java/util/TreeMap" (99 : Nat) "java/lang/Comparable") ∈ lw_all := lw_g (lw_at lw_m5 85 rfl) rfl
theorem q1138 : (Jvm.Cond.interfaceEntry "java/util/TreeMap" (107 : Nat)) ∈ lw_tbl := lw_at lw_m5 86 rfl
theorem q1139 : (Jvm.Cond.methodLink "java/util/TreeMap" (107 : Nat) ({ cls := "java/lang/Comparable", name := "compareTo", desc := "(Ljava/lang/Object;)I" } : Jvm.MethodName)) ∈ lw_all := lw_g (lw_at lw_m5 87 rfl) rfl
theorem q1358 : (Jvm.Cond.instanceMethod ({ cls := "java/util/TreeMap", name := "put", desc := "(Ljava/lang/Object;Ljava/lang/Object;)Ljava/lang/Object;" } : Jvm.MethodName)) ∈ lw_all := lw_g (lw_at lw_m6 66 rfl) rfl
theorem q1359 : (Jvm.Cond.selects "java/util/TreeMap" ({ cls := "java/util/TreeMap", name := "put", desc := "(Ljava/lang/Object;Ljava/lang/Object;)Ljava/lang/Object;" } : Jvm.MethodName) ({ cls := "java/util/TreeMap", name := "put", desc := "(Ljava/lang/Object;Ljava/lang/Object;)Ljava/lang/Object;" } : Jvm.MethodName)) ∈ lw_all := lw_g (lw_at lw_m6 67 rfl) rfl
theorem q1360 : (Jvm.Cond.code ({ cls := "java/util/TreeMap", name := "put", desc := "(Ljava/lang/Object;Ljava/lang/Object;)Ljava/lang/Object;" } : Jvm.MethodName) prog_62_method_21_code (3 : Nat) (Option.some (Jvm.ClassFile.FieldType.object "java/lang/Object"))) ∈ lw_all := lw_g (lw_at lw_m6 68 rfl) rfl
theorem q1361 : (Jvm.Cond.methodLink "java/util/TreeMap" (127 : Nat) ({ cls := "java/util/TreeMap", name := "put", desc := "(Ljava/lang/Object;Ljava/lang/Object;Z)Ljava/lang/Object;" } : Jvm.MethodName)) ∈ lw_all := lw_g (lw_at lw_m6 69 rfl) rfl
theorem q1362 : (Jvm.Cond.privateMethod ({ cls := "java/util/TreeMap", name := "put", desc := "(Ljava/lang/Object;Ljava/lang/Object;Z)Ljava/lang/Object;" } : Jvm.MethodName)) ∈ lw_tbl := lw_at lw_m6 70 rfl
theorem q1363 : (Jvm.Cond.instanceMethod ({ cls := "java/util/TreeMap", name := "put", desc := "(Ljava/lang/Object;Ljava/lang/Object;Z)Ljava/lang/Object;" } : Jvm.MethodName)) ∈ lw_all := lw_g (lw_at lw_m6 71 rfl) rfl
theorem q1364 : (Jvm.Cond.code ({ cls := "java/util/TreeMap", name := "put", desc := "(Ljava/lang/Object;Ljava/lang/Object;Z)Ljava/lang/Object;" } : Jvm.MethodName) prog_62_method_31_code (10 : Nat) (Option.some (Jvm.ClassFile.FieldType.object "java/lang/Object"))) ∈ lw_all := lw_g (lw_at lw_m6 72 rfl) rfl
theorem q1365 : (Jvm.Cond.methodLink "java/util/TreeMap" (135 : Nat) ({ cls := "java/util/TreeMap", name := "addEntryToEmptyMap", desc := "(Ljava/lang/Object;Ljava/lang/Object;)V" } : Jvm.MethodName)) ∈ lw_all := lw_g (lw_at lw_m6 73 rfl) rfl
theorem q1366 : (Jvm.Cond.privateMethod ({ cls := "java/util/TreeMap", name := "addEntryToEmptyMap", desc := "(Ljava/lang/Object;Ljava/lang/Object;)V" } : Jvm.MethodName)) ∈ lw_tbl := lw_at lw_m6 74 rfl
theorem q1367 : (Jvm.Cond.instanceMethod ({ cls := "java/util/TreeMap", name := "addEntryToEmptyMap", desc := "(Ljava/lang/Object;Ljava/lang/Object;)V" } : Jvm.MethodName)) ∈ lw_all := lw_g (lw_at lw_m6 75 rfl) rfl
theorem q1368 : (Jvm.Cond.code ({ cls := "java/util/TreeMap", name := "addEntryToEmptyMap", desc := "(Ljava/lang/Object;Ljava/lang/Object;)V" } : Jvm.MethodName) prog_62_method_30_code (3 : Nat) (Option.none : Option Jvm.ClassFile.FieldType)) ∈ lw_all := lw_g (lw_at lw_m6 76 rfl) rfl
theorem q1369 : (Jvm.Cond.methodLink "java/util/TreeMap" (123 : Nat) ({ cls := "java/util/TreeMap", name := "compare", desc := "(Ljava/lang/Object;Ljava/lang/Object;)I" } : Jvm.MethodName)) ∈ lw_all := lw_g (lw_at lw_m6 77 rfl) rfl
theorem q1370 : (Jvm.Cond.instanceMethod ({ cls := "java/util/TreeMap", name := "compare", desc := "(Ljava/lang/Object;Ljava/lang/Object;)I" } : Jvm.MethodName)) ∈ lw_all := lw_g (lw_at lw_m6 78 rfl) rfl
theorem q1371 : (Jvm.Cond.selects "java/util/TreeMap" ({ cls := "java/util/TreeMap", name := "compare", desc := "(Ljava/lang/Object;Ljava/lang/Object;)I" } : Jvm.MethodName) ({ cls := "java/util/TreeMap", name := "compare", desc := "(Ljava/lang/Object;Ljava/lang/Object;)I" } : Jvm.MethodName)) ∈ lw_all := lw_g (lw_at lw_m6 79 rfl) rfl
theorem q1372 : (Jvm.Cond.code ({ cls := "java/util/TreeMap", name := "compare", desc := "(Ljava/lang/Object;Ljava/lang/Object;)I" } : Jvm.MethodName) prog_62_method_67_code (3 : Nat) (Option.some Jvm.ClassFile.FieldType.int)) ∈ lw_all := lw_g (lw_at lw_m6 80 rfl) rfl
theorem q1373 : (Jvm.Cond.classLink "java/util/TreeMap" (59 : Nat) "java/util/TreeMap$Entry") ∈ lw_all := lw_g (lw_at lw_m6 81 rfl) rfl
theorem q1375 : (Jvm.Cond.methodLink "java/util/TreeMap" (167 : Nat) ({ cls := "java/util/TreeMap$Entry", name := "<init>", desc := "(Ljava/lang/Object;Ljava/lang/Object;Ljava/util/TreeMap$Entry;)V" } : Jvm.MethodName)) ∈ lw_all := lw_g (lw_at lw_m6 83 rfl) rfl
theorem q1381 : (Jvm.Cond.fieldLink "java/util/TreeMap" (105 : Nat) "java/util/TreeMap$Entry" "key" "Ljava/lang/Object;") ∈ lw_all := lw_g (lw_at lw_m6 89 rfl) rfl
theorem q1383 : (Jvm.Cond.fieldLink "java/util/TreeMap" (58 : Nat) "java/util/TreeMap$Entry" "value" "Ljava/lang/Object;") ∈ lw_all := lw_g (lw_at lw_m6 91 rfl) rfl
theorem q1384 : (Jvm.Cond.fieldLink "java/util/TreeMap" (111 : Nat) "java/util/TreeMap$Entry" "left" "Ljava/util/TreeMap$Entry;") ∈ lw_all := lw_g (lw_at lw_m6 92 rfl) rfl
theorem q1385 : (Jvm.Cond.fieldLink "java/util/TreeMap" (114 : Nat) "java/util/TreeMap$Entry" "right" "Ljava/util/TreeMap$Entry;") ∈ lw_all := lw_g (lw_at lw_m6 93 rfl) rfl
theorem q1387 : (Jvm.Cond.fieldLink "java/util/TreeMap" (124 : Nat) "java/util/TreeMap$Entry" "parent" "Ljava/util/TreeMap$Entry;") ∈ lw_all := lw_g (lw_at lw_m6 95 rfl) rfl
theorem q1389 : (Jvm.Cond.fieldLink "java/util/TreeMap" (290 : Nat) "java/util/TreeMap$Entry" "color" "Z") ∈ lw_all := lw_g (lw_at lw_m6 97 rfl) rfl
theorem q1403 : (Jvm.Cond.methodLink "java/util/TreeMap" (139 : Nat) ({ cls := "java/util/TreeMap", name := "addEntry", desc := "(Ljava/lang/Object;Ljava/lang/Object;Ljava/util/TreeMap$Entry;Z)V" } : Jvm.MethodName)) ∈ lw_all := lw_g (lw_at lw_m6 111 rfl) rfl
theorem q1404 : (Jvm.Cond.privateMethod ({ cls := "java/util/TreeMap", name := "addEntry", desc := "(Ljava/lang/Object;Ljava/lang/Object;Ljava/util/TreeMap$Entry;Z)V" } : Jvm.MethodName)) ∈ lw_tbl := lw_at lw_m6 112 rfl
theorem q1405 : (Jvm.Cond.instanceMethod ({ cls := "java/util/TreeMap", name := "addEntry", desc := "(Ljava/lang/Object;Ljava/lang/Object;Ljava/util/TreeMap$Entry;Z)V" } : Jvm.MethodName)) ∈ lw_all := lw_g (lw_at lw_m6 113 rfl) rfl
theorem q1406 : (Jvm.Cond.code ({ cls := "java/util/TreeMap", name := "addEntry", desc := "(Ljava/lang/Object;Ljava/lang/Object;Ljava/util/TreeMap$Entry;Z)V" } : Jvm.MethodName) prog_62_method_29_code (6 : Nat) (Option.none : Option Jvm.ClassFile.FieldType)) ∈ lw_all := lw_g (lw_at lw_m6 114 rfl) rfl
theorem q1407 : (Jvm.Cond.methodLink "java/util/TreeMap" (170 : Nat) ({ cls := "java/util/TreeMap", name := "fixAfterInsertion", desc := "(Ljava/util/TreeMap$Entry;)V" } : Jvm.MethodName)) ∈ lw_all := lw_g (lw_at lw_m6 115 rfl) rfl
theorem q1408 : (Jvm.Cond.privateMethod ({ cls := "java/util/TreeMap", name := "fixAfterInsertion", desc := "(Ljava/util/TreeMap$Entry;)V" } : Jvm.MethodName)) ∈ lw_tbl := lw_at lw_m6 116 rfl
theorem q1409 : (Jvm.Cond.instanceMethod ({ cls := "java/util/TreeMap", name := "fixAfterInsertion", desc := "(Ljava/util/TreeMap$Entry;)V" } : Jvm.MethodName)) ∈ lw_all := lw_g (lw_at lw_m6 117 rfl) rfl
theorem q1410 : (Jvm.Cond.code ({ cls := "java/util/TreeMap", name := "fixAfterInsertion", desc := "(Ljava/util/TreeMap$Entry;)V" } : Jvm.MethodName) prog_62_method_83_code (3 : Nat) (Option.none : Option Jvm.ClassFile.FieldType)) ∈ lw_all := lw_g (lw_at lw_m6 118 rfl) rfl
theorem q1411 : (Jvm.Cond.methodLink "java/util/TreeMap" (294 : Nat) ({ cls := "java/util/TreeMap", name := "parentOf", desc := "(Ljava/util/TreeMap$Entry;)Ljava/util/TreeMap$Entry;" } : Jvm.MethodName)) ∈ lw_all := lw_g (lw_at lw_m6 119 rfl) rfl
theorem q1412 : (Jvm.Cond.static ({ cls := "java/util/TreeMap", name := "parentOf", desc := "(Ljava/util/TreeMap$Entry;)Ljava/util/TreeMap$Entry;" } : Jvm.MethodName)) ∈ lw_all := lw_g (lw_at lw_m6 120 rfl) rfl
theorem q1413 : (Jvm.Cond.code ({ cls := "java/util/TreeMap", name := "parentOf", desc := "(Ljava/util/TreeMap$Entry;)Ljava/util/TreeMap$Entry;" } : Jvm.MethodName) prog_62_method_77_code (1 : Nat) (Option.some (Jvm.ClassFile.FieldType.object "java/util/TreeMap$Entry"))) ∈ lw_all := lw_g (lw_at lw_m6 121 rfl) rfl
theorem q1414 : (Jvm.Cond.methodLink "java/util/TreeMap" (297 : Nat) ({ cls := "java/util/TreeMap", name := "leftOf", desc := "(Ljava/util/TreeMap$Entry;)Ljava/util/TreeMap$Entry;" } : Jvm.MethodName)) ∈ lw_all := lw_g (lw_at lw_m6 122 rfl) rfl
theorem q1415 : (Jvm.Cond.static ({ cls := "java/util/TreeMap", name := "leftOf", desc := "(Ljava/util/TreeMap$Entry;)Ljava/util/TreeMap$Entry;" } : Jvm.MethodName)) ∈ lw_all := lw_g (lw_at lw_m6 123 rfl) rfl
theorem q1416 : (Jvm.Cond.code ({ cls := "java/util/TreeMap", name := "leftOf", desc := "(Ljava/util/TreeMap$Entry;)Ljava/util/TreeMap$Entry;" } : Jvm.MethodName) prog_62_method_79_code (1 : Nat) (Option.some (Jvm.ClassFile.FieldType.object "java/util/TreeMap$Entry"))) ∈ lw_all := lw_g (lw_at lw_m6 124 rfl) rfl
theorem q1417 : (Jvm.Cond.methodLink "java/util/TreeMap" (300 : Nat) ({ cls := "java/util/TreeMap", name := "rightOf", desc := "(Ljava/util/TreeMap$Entry;)Ljava/util/TreeMap$Entry;" } : Jvm.MethodName)) ∈ lw_all := lw_g (lw_at lw_m6 125 rfl) rfl
theorem q1418 : (Jvm.Cond.static ({ cls := "java/util/TreeMap", name := "rightOf", desc := "(Ljava/util/TreeMap$Entry;)Ljava/util/TreeMap$Entry;" } : Jvm.MethodName)) ∈ lw_all := lw_g (lw_at lw_m6 126 rfl) rfl
theorem q1419 : (Jvm.Cond.code ({ cls := "java/util/TreeMap", name := "rightOf", desc := "(Ljava/util/TreeMap$Entry;)Ljava/util/TreeMap$Entry;" } : Jvm.MethodName) prog_62_method_80_code (1 : Nat) (Option.some (Jvm.ClassFile.FieldType.object "java/util/TreeMap$Entry"))) ∈ lw_all := lw_g (lw_at lw_m6 127 rfl) rfl
theorem q1420 : (Jvm.Cond.methodLink "java/util/TreeMap" (303 : Nat) ({ cls := "java/util/TreeMap", name := "colorOf", desc := "(Ljava/util/TreeMap$Entry;)Z" } : Jvm.MethodName)) ∈ lw_all := lw_g (lw_at lw_m6 128 rfl) rfl
theorem q1421 : (Jvm.Cond.static ({ cls := "java/util/TreeMap", name := "colorOf", desc := "(Ljava/util/TreeMap$Entry;)Z" } : Jvm.MethodName)) ∈ lw_all := lw_g (lw_at lw_m6 129 rfl) rfl
theorem q1422 : (Jvm.Cond.code ({ cls := "java/util/TreeMap", name := "colorOf", desc := "(Ljava/util/TreeMap$Entry;)Z" } : Jvm.MethodName) prog_62_method_76_code (1 : Nat) (Option.some Jvm.ClassFile.FieldType.boolean)) ∈ lw_all := lw_g (lw_at lw_m6 130 rfl) rfl
theorem q1423 : (Jvm.Cond.methodLink "java/util/TreeMap" (307 : Nat) ({ cls := "java/util/TreeMap", name := "setColor", desc := "(Ljava/util/TreeMap$Entry;Z)V" } : Jvm.MethodName)) ∈ lw_all := lw_g (lw_at lw_m6 131 rfl) rfl
theorem q1424 : (Jvm.Cond.static ({ cls := "java/util/TreeMap", name := "setColor", desc := "(Ljava/util/TreeMap$Entry;Z)V" } : Jvm.MethodName)) ∈ lw_all := lw_g (lw_at lw_m6 132 rfl) rfl
theorem q1425 : (Jvm.Cond.code ({ cls := "java/util/TreeMap", name := "setColor", desc := "(Ljava/util/TreeMap$Entry;Z)V" } : Jvm.MethodName) prog_62_method_78_code (2 : Nat) (Option.none : Option Jvm.ClassFile.FieldType)) ∈ lw_all := lw_g (lw_at lw_m6 133 rfl) rfl
theorem q1426 : (Jvm.Cond.methodLink "java/util/TreeMap" (311 : Nat) ({ cls := "java/util/TreeMap", name := "rotateLeft", desc := "(Ljava/util/TreeMap$Entry;)V" } : Jvm.MethodName)) ∈ lw_all := lw_g (lw_at lw_m6 134 rfl) rfl
theorem q1427 : (Jvm.Cond.privateMethod ({ cls := "java/util/TreeMap", name := "rotateLeft", desc := "(Ljava/util/TreeMap$Entry;)V" } : Jvm.MethodName)) ∈ lw_tbl := lw_at lw_m6 135 rfl
theorem q1428 : (Jvm.Cond.instanceMethod ({ cls := "java/util/TreeMap", name := "rotateLeft", desc := "(Ljava/util/TreeMap$Entry;)V" } : Jvm.MethodName)) ∈ lw_all := lw_g (lw_at lw_m6 136 rfl) rfl
theorem q1429 : (Jvm.Cond.code ({ cls := "java/util/TreeMap", name := "rotateLeft", desc := "(Ljava/util/TreeMap$Entry;)V" } : Jvm.MethodName) prog_62_method_81_code (3 : Nat) (Option.none : Option Jvm.ClassFile.FieldType)) ∈ lw_all := lw_g (lw_at lw_m6 137 rfl) rfl
theorem q1430 : (Jvm.Cond.methodLink "java/util/TreeMap" (314 : Nat) ({ cls := "java/util/TreeMap", name := "rotateRight", desc := "(Ljava/util/TreeMap$Entry;)V" } : Jvm.MethodName)) ∈ lw_all := lw_g (lw_at lw_m6 138 rfl) rfl
theorem q1431 : (Jvm.Cond.privateMethod ({ cls := "java/util/TreeMap", name := "rotateRight", desc := "(Ljava/util/TreeMap$Entry;)V" } : Jvm.MethodName)) ∈ lw_tbl := lw_at lw_m6 139 rfl
theorem q1432 : (Jvm.Cond.instanceMethod ({ cls := "java/util/TreeMap", name := "rotateRight", desc := "(Ljava/util/TreeMap$Entry;)V" } : Jvm.MethodName)) ∈ lw_all := lw_g (lw_at lw_m6 140 rfl) rfl
theorem q1433 : (Jvm.Cond.code ({ cls := "java/util/TreeMap", name := "rotateRight", desc := "(Ljava/util/TreeMap$Entry;)V" } : Jvm.MethodName) prog_62_method_82_code (3 : Nat) (Option.none : Option Jvm.ClassFile.FieldType)) ∈ lw_all := lw_g (lw_at lw_m6 141 rfl) rfl
theorem q1441 : (Jvm.Cond.selects "java/util/TreeMap" ({ cls := "java/util/Map", name := "clear", desc := "()V" } : Jvm.MethodName) ({ cls := "java/util/TreeMap", name := "clear", desc := "()V" } : Jvm.MethodName)) ∈ lw_all := lw_g (lw_at lw_m6 149 rfl) rfl
theorem q1442 : (Jvm.Cond.unhidden "java/util/TreeMap" "clear" "()V") ∈ lw_tbl := lw_at lw_m6 150 rfl
theorem q1443 : (Jvm.Cond.publicMethod ({ cls := "java/util/TreeMap", name := "clear", desc := "()V" } : Jvm.MethodName)) ∈ lw_tbl := lw_at lw_m6 151 rfl
theorem q1455 : (Jvm.Cond.selects "java/util/TreeMap" ({ cls := "java/util/Map", name := "put", desc := "(Ljava/lang/Object;Ljava/lang/Object;)Ljava/lang/Object;" } : Jvm.MethodName) ({ cls := "java/util/TreeMap", name := "put", desc := "(Ljava/lang/Object;Ljava/lang/Object;)Ljava/lang/Object;" } : Jvm.MethodName)) ∈ lw_all := lw_g (lw_at lw_m6 163 rfl) rfl
theorem q1456 : (Jvm.Cond.unhidden "java/util/TreeMap" "put" "(Ljava/lang/Object;Ljava/lang/Object;)Ljava/lang/Object;") ∈ lw_tbl := lw_at lw_m6 164 rfl
theorem q1457 : (Jvm.Cond.publicMethod ({ cls := "java/util/TreeMap", name := "put", desc := "(Ljava/lang/Object;Ljava/lang/Object;)Ljava/lang/Object;" } : Jvm.MethodName)) ∈ lw_tbl := lw_at lw_m6 165 rfl
theorem q1488 : (Jvm.Cond.instanceMethod ({ cls := "java/util/TreeMap", name := "floorKey", desc := "(Ljava/lang/Object;)Ljava/lang/Object;" } : Jvm.MethodName)) ∈ lw_all := lw_g (lw_at lw_m6 196 rfl) rfl
theorem q1489 : (Jvm.Cond.selects "java/util/TreeMap" ({ cls := "java/util/TreeMap", name := "floorKey", desc := "(Ljava/lang/Object;)Ljava/lang/Object;" } : Jvm.MethodName) ({ cls := "java/util/TreeMap", name := "floorKey", desc := "(Ljava/lang/Object;)Ljava/lang/Object;" } : Jvm.MethodName)) ∈ lw_all := lw_g (lw_at lw_m6 197 rfl) rfl
theorem q1490 : (Jvm.Cond.code ({ cls := "java/util/TreeMap", name := "floorKey", desc := "(Ljava/lang/Object;)Ljava/lang/Object;" } : Jvm.MethodName) prog_62_method_44_code (2 : Nat) (Option.some (Jvm.ClassFile.FieldType.object "java/lang/Object"))) ∈ lw_all := lw_g (lw_at lw_m6 198 rfl) rfl
theorem q1491 : (Jvm.Cond.methodLink "java/util/TreeMap" (210 : Nat) ({ cls := "java/util/TreeMap", name := "getFloorEntry", desc := "(Ljava/lang/Object;)Ljava/util/TreeMap$Entry;" } : Jvm.MethodName)) ∈ lw_all := lw_g (lw_at lw_m6 199 rfl) rfl
theorem q1492 : (Jvm.Cond.instanceMethod ({ cls := "java/util/TreeMap", name := "getFloorEntry", desc := "(Ljava/lang/Object;)Ljava/util/TreeMap$Entry;" } : Jvm.MethodName)) ∈ lw_all := lw_g (lw_at lw_m6 200 rfl) rfl
theorem q1493 : (Jvm.Cond.selects "java/util/TreeMap" ({ cls := "java/util/TreeMap", name := "getFloorEntry", desc := "(Ljava/lang/Object;)Ljava/util/TreeMap$Entry;" } : Jvm.MethodName) ({ cls := "java/util/TreeMap", name := "getFloorEntry", desc := "(Ljava/lang/Object;)Ljava/util/TreeMap$Entry;" } : Jvm.MethodName)) ∈ lw_all := lw_g (lw_at lw_m6 201 rfl) rfl
theorem q1494 : (Jvm.Cond.code ({ cls := "java/util/TreeMap", name := "getFloorEntry", desc := "(Ljava/lang/Object;)Ljava/util/TreeMap$Entry;" } : Jvm.MethodName) prog_62_method_18_code (6 : Nat) (Option.some (Jvm.ClassFile.FieldType.object "java/util/TreeMap$Entry"))) ∈ lw_all := lw_g (lw_at lw_m6 202 rfl) rfl
theorem q1495 : (Jvm.Cond.methodLink "java/util/TreeMap" (207 : Nat) ({ cls := "java/util/TreeMap", name := "keyOrNull", desc := "(Ljava/util/TreeMap$Entry;)Ljava/lang/Object;" } : Jvm.MethodName)) ∈ lw_all := lw_g (lw_at lw_m6 203 rfl) rfl
theorem q1496 : (Jvm.Cond.static ({ cls := "java/util/TreeMap", name := "keyOrNull", desc := "(Ljava/util/TreeMap$Entry;)Ljava/lang/Object;" } : Jvm.MethodName)) ∈ lw_all := lw_g (lw_at lw_m6 204 rfl) rfl
theorem q1497 : (Jvm.Cond.code ({ cls := "java/util/TreeMap", name := "keyOrNull", desc := "(Ljava/util/TreeMap$Entry;)Ljava/lang/Object;" } : Jvm.MethodName) prog_62_method_70_code (1 : Nat) (Option.some (Jvm.ClassFile.FieldType.object "java/lang/Object"))) ∈ lw_all := lw_g (lw_at lw_m6 205 rfl) rfl
theorem q1566 : (Jvm.Cond.selects "java/util/TreeMap" ({ cls := "java/lang/Object", name := "getClass", desc := "()Ljava/lang/Class;" } : Jvm.MethodName) ({ cls := "java/lang/Object", name := "getClass", desc := "()Ljava/lang/Class;" } : Jvm.MethodName)) ∈ lw_all := lw_g (lw_at lw_m7 34 rfl) rfl
theorem q1645 : (Jvm.Cond.selects "java/util/TreeMap" ({ cls := "java/util/Map", name := "isEmpty", desc := "()Z" } : Jvm.MethodName) ({ cls := "java/util/AbstractMap", name := "isEmpty", desc := "()Z" } : Jvm.MethodName)) ∈ lw_all := lw_g (lw_at lw_m7 113 rfl) rfl
theorem q1646 : (Jvm.Cond.unhidden "java/util/TreeMap" "isEmpty" "()Z") ∈ lw_tbl := lw_at lw_m7 114 rfl
theorem q1653 : (Jvm.Cond.selects "java/util/TreeMap" ({ cls := "java/util/AbstractMap", name := "size", desc := "()I" } : Jvm.MethodName) ({ cls := "java/util/TreeMap", name := "size", desc := "()I" } : Jvm.MethodName)) ∈ lw_all := lw_g (lw_at lw_m7 121 rfl) rfl
theorem q1662 : (Jvm.Cond.selects "java/util/TreeMap" ({ cls := "java/util/SortedMap", name := "firstKey", desc := "()Ljava/lang/Object;" } : Jvm.MethodName) ({ cls := "java/util/TreeMap", name := "firstKey", desc := "()Ljava/lang/Object;" } : Jvm.MethodName)) ∈ lw_all := lw_g (lw_at lw_m7 130 rfl) rfl
theorem q1663 : (Jvm.Cond.unhidden "java/util/TreeMap" "firstKey" "()Ljava/lang/Object;") ∈ lw_tbl := lw_at lw_m7 131 rfl
theorem q1664 : (Jvm.Cond.instanceMethod ({ cls := "java/util/TreeMap", name := "firstKey", desc := "()Ljava/lang/Object;" } : Jvm.MethodName)) ∈ lw_all := lw_g (lw_at lw_m7 132 rfl) rfl
theorem q1665 : (Jvm.Cond.publicMethod ({ cls := "java/util/TreeMap", name := "firstKey", desc := "()Ljava/lang/Object;" } : Jvm.MethodName)) ∈ lw_tbl := lw_at lw_m7 133 rfl
theorem q1666 : (Jvm.Cond.code ({ cls := "java/util/TreeMap", name := "firstKey", desc := "()Ljava/lang/Object;" } : Jvm.MethodName) prog_62_method_10_code (1 : Nat) (Option.some (Jvm.ClassFile.FieldType.object "java/lang/Object"))) ∈ lw_all := lw_g (lw_at lw_m7 134 rfl) rfl
theorem q1667 : (Jvm.Cond.methodLink "java/util/TreeMap" (72 : Nat) ({ cls := "java/util/TreeMap", name := "key", desc := "(Ljava/util/TreeMap$Entry;)Ljava/lang/Object;" } : Jvm.MethodName)) ∈ lw_all := lw_g (lw_at lw_m7 135 rfl) rfl
theorem q1668 : (Jvm.Cond.static ({ cls := "java/util/TreeMap", name := "key", desc := "(Ljava/util/TreeMap$Entry;)Ljava/lang/Object;" } : Jvm.MethodName)) ∈ lw_all := lw_g (lw_at lw_m7 136 rfl) rfl
theorem q1669 : (Jvm.Cond.code ({ cls := "java/util/TreeMap", name := "key", desc := "(Ljava/util/TreeMap$Entry;)Ljava/lang/Object;" } : Jvm.MethodName) prog_62_method_71_code (1 : Nat) (Option.some (Jvm.ClassFile.FieldType.object "java/lang/Object"))) ∈ lw_all := lw_g (lw_at lw_m7 137 rfl) rfl
theorem q1677 : (Jvm.Cond.selects "java/util/TreeMap" ({ cls := "java/util/Map", name := "remove", desc := "(Ljava/lang/Object;)Ljava/lang/Object;" } : Jvm.MethodName) ({ cls := "java/util/TreeMap", name := "remove", desc := "(Ljava/lang/Object;)Ljava/lang/Object;" } : Jvm.MethodName)) ∈ lw_all := lw_g (lw_at lw_m7 145 rfl) rfl
theorem q1678 : (Jvm.Cond.unhidden "java/util/TreeMap" "remove" "(Ljava/lang/Object;)Ljava/lang/Object;") ∈ lw_tbl := lw_at lw_m7 146 rfl
theorem q1679 : (Jvm.Cond.instanceMethod ({ cls := "java/util/TreeMap", name := "remove", desc := "(Ljava/lang/Object;)Ljava/lang/Object;" } : Jvm.MethodName)) ∈ lw_all := lw_g (lw_at lw_m7 147 rfl) rfl
theorem q1680 : (Jvm.Cond.publicMethod ({ cls := "java/util/TreeMap", name := "remove", desc := "(Ljava/lang/Object;)Ljava/lang/Object;" } : Jvm.MethodName)) ∈ lw_tbl := lw_at lw_m7 148 rfl
theorem q1681 : (Jvm.Cond.code ({ cls := "java/util/TreeMap", name := "remove", desc := "(Ljava/lang/Object;)Ljava/lang/Object;" } : Jvm.MethodName) prog_62_method_34_code (4 : Nat) (Option.some (Jvm.ClassFile.FieldType.object "java/lang/Object"))) ∈ lw_all := lw_g (lw_at lw_m7 149 rfl) rfl
theorem q1682 : (Jvm.Cond.methodLink "java/util/TreeMap" (174 : Nat) ({ cls := "java/util/TreeMap", name := "deleteEntry", desc := "(Ljava/util/TreeMap$Entry;)V" } : Jvm.MethodName)) ∈ lw_all := lw_g (lw_at lw_m7 150 rfl) rfl
theorem q1683 : (Jvm.Cond.privateMethod ({ cls := "java/util/TreeMap", name := "deleteEntry", desc := "(Ljava/util/TreeMap$Entry;)V" } : Jvm.MethodName)) ∈ lw_tbl := lw_at lw_m7 151 rfl
theorem q1684 : (Jvm.Cond.instanceMethod ({ cls := "java/util/TreeMap", name := "deleteEntry", desc := "(Ljava/util/TreeMap$Entry;)V" } : Jvm.MethodName)) ∈ lw_all := lw_g (lw_at lw_m7 152 rfl) rfl
theorem q1685 : (Jvm.Cond.code ({ cls := "java/util/TreeMap", name := "deleteEntry", desc := "(Ljava/util/TreeMap$Entry;)V" } : Jvm.MethodName) prog_62_method_84_code (3 : Nat) (Option.none : Option Jvm.ClassFile.FieldType)) ∈ lw_all := lw_g (lw_at lw_m7 153 rfl) rfl
theorem q1686 : (Jvm.Cond.methodLink "java/util/TreeMap" (68 : Nat) ({ cls := "java/util/TreeMap", name := "successor", desc := "(Ljava/util/TreeMap$Entry;)Ljava/util/TreeMap$Entry;" } : Jvm.MethodName)) ∈ lw_all := lw_g (lw_at lw_m7 154 rfl) rfl
theorem q1687 : (Jvm.Cond.methodLink "java/util/TreeMap" (317 : Nat) ({ cls := "java/util/TreeMap", name := "fixAfterDeletion", desc := "(Ljava/util/TreeMap$Entry;)V" } : Jvm.MethodName)) ∈ lw_all := lw_g (lw_at lw_m7 155 rfl) rfl
theorem q1688 : (Jvm.Cond.privateMethod ({ cls := "java/util/TreeMap", name := "fixAfterDeletion", desc := "(Ljava/util/TreeMap$Entry;)V" } : Jvm.MethodName)) ∈ lw_tbl := lw_at lw_m7 156 rfl
theorem q1689 : (Jvm.Cond.instanceMethod ({ cls := "java/util/TreeMap", name := "fixAfterDeletion", desc := "(Ljava/util/TreeMap$Entry;)V" } : Jvm.MethodName)) ∈ lw_all := lw_g (lw_at lw_m7 157 rfl) rfl
theorem q1690 : (Jvm.Cond.code ({ cls := "java/util/TreeMap", name := "fixAfterDeletion", desc := "(Ljava/util/TreeMap$Entry;)V" } : Jvm.MethodName) prog_62_method_85_code (3 : Nat) (Option.none : Option Jvm.ClassFile.FieldType)) ∈ lw_all := lw_g (lw_at lw_m7 158 rfl) rfl
theorem q1951 : (Jvm.Cond.instanceMethod ({ cls := "java/util/TreeMap", name := "containsKey", desc := "(Ljava/lang/Object;)Z" } : Jvm.MethodName)) ∈ lw_all := lw_g (lw_at lw_m8 179 rfl) rfl
theorem q1952 : (Jvm.Cond.selects "java/util/TreeMap" ({ cls := "java/util/TreeMap", name := "containsKey", desc := "(Ljava/lang/Object;)Z" } : Jvm.MethodName) ({ cls := "java/util/TreeMap", name := "containsKey", desc := "(Ljava/lang/Object;)Z" } : Jvm.MethodName)) ∈ lw_all := lw_g (lw_at lw_m8 180 rfl) rfl
theorem q1953 : (Jvm.Cond.code ({ cls := "java/util/TreeMap", name := "containsKey", desc := "(Ljava/lang/Object;)Z" } : Jvm.MethodName) prog_62_method_6_code (2 : Nat) (Option.some Jvm.ClassFile.FieldType.boolean)) ∈ lw_all := lw_g (lw_at lw_m8 181 rfl) rfl
theorem q2526 : (Jvm.Cond.selects "java/util/TreeMap" ({ cls := "java/util/TreeMap", name := "size", desc := "()I" } : Jvm.MethodName) ({ cls := "java/util/TreeMap", name := "size", desc := "()I" } : Jvm.MethodName)) ∈ lw_all := lw_g (lw_at lw_m11 34 rfl) rfl
theorem q2527 : (Jvm.Cond.selects "java/util/TreeMap" ({ cls := "java/util/TreeMap", name := "remove", desc := "(Ljava/lang/Object;)Ljava/lang/Object;" } : Jvm.MethodName) ({ cls := "java/util/TreeMap", name := "remove", desc := "(Ljava/lang/Object;)Ljava/lang/Object;" } : Jvm.MethodName)) ∈ lw_all := lw_g (lw_at lw_m11 35 rfl) rfl
theorem q2538 : (Jvm.Cond.castable "java/util/TreeMap" "java/lang/Object") ∈ lw_tbl := lw_at lw_m11 46 rfl
theorem in_J8 : ∀ w ∈ wsJ80, w ∈ lw_all := lw_in wsJ80 [285, 287, 271, 273, 275, 277, 279, 281, 283] (by decide +kernel) (by decide +kernel)
/-! java/util/AbstractSet -/
set_option maxRecDepth 100000
def RJ9 : String := "java/util/AbstractSet"
abbrev cJ9_init : ByteArray := prog_41_method_1_code
def yJ9_init : MethodName := ⟨RJ9, "<init>", "()V"⟩
theorem dJ9_init_0 : decode cJ9_init 0 = .ok (.aload_n 0, 1) := by decide +kernel
theorem dJ9_init_1 : decode cJ9_init 1 = .ok (.invokespecial 1, 3) := by decide +kernel
theorem dJ9_init_4 : decode cJ9_init 4 = .ok (.return_, 1) := by decide +kernel
theorem q104 : (Jvm.Cond.initialized "java/util/AbstractSet") ∈ lw_all := lw_g (lw_at lw_m1 12 rfl) rfl
theorem q301 : (Jvm.Cond.instanceMethod ({ cls := "java/util/AbstractSet", name := "<init>", desc := "()V" } : Jvm.MethodName)) ∈ lw_all := lw_g (lw_at lw_m1 209 rfl) rfl
theorem q302 : (Jvm.Cond.code ({ cls := "java/util/AbstractSet", name := "<init>", desc := "()V" } : Jvm.MethodName) prog_41_method_1_code (1 : Nat) (Option.none : Option Jvm.ClassFile.FieldType)) ∈ lw_all := lw_g (lw_at lw_m1 210 rfl) rfl
theorem q303 : (Jvm.Cond.methodLink "java/util/AbstractSet" (1 : Nat) ({ cls := "java/util/AbstractCollection", name := "<init>", desc := "()V" } : Jvm.MethodName)) ∈ lw_all := lw_g (lw_at lw_m1 211 rfl) rfl
/-! java/util/TreeSet -/
set_option maxRecDepth 100000
def RJ10 : String := "java/util/TreeSet"
def TJ10 : u_T := fun k => match k with
  | _ => ("java/util/TreeSet", "m", "Ljava/util/NavigableMap;", false)
def tyJ10 : Nat → FieldType := fun k => match k with
  | _ => .object "java/util/NavigableMap"
abbrev wsJ100 : List Cond := u_ws RJ10 TJ10 1
theorem nmJ10 : ∀ a, a < 1 → ∀ b, b < 1 → a ≠ b → (TJ10 a).2.1 ≠ (TJ10 b).2.1 := by decide +kernel
theorem tyJ10_ok : ∀ k, k < 1 → parseFieldDescriptor (TJ10 k).2.2.1 = some (tyJ10 k) := by decide +kernel
abbrev cJ10_init : ByteArray := prog_70_method_2_code
def yJ10_init : MethodName := ⟨RJ10, "<init>", "()V"⟩
def dkwJ10_init_0 : List UInt8 := [42, 187, 0, 13, 89, 183, 0, 15, 183, 0, 16, 177]
abbrev dktJ10_init_0 : List UInt8 := dkwJ10_init_0 ++ []
theorem dksJ10_init_0 : cJ10_init.data.toList.drop 0 = dktJ10_init_0 := by decide +kernel
theorem dJ10_init_0 : decode cJ10_init 0 = .ok (.aload_n 0, 1) := dk_42 (dk_at dksJ10_init_0 0 rfl rfl)
theorem dJ10_init_1 : decode cJ10_init 1 = .ok (.new 13, 3) := dk_187 0 13 (dk_at dksJ10_init_0 1 rfl rfl)
theorem dJ10_init_4 : decode cJ10_init 4 = .ok (.dup, 1) := dk_89 (dk_at dksJ10_init_0 4 rfl rfl)
theorem dJ10_init_5 : decode cJ10_init 5 = .ok (.invokespecial 15, 3) := dk_183 0 15 (dk_at dksJ10_init_0 5 rfl rfl)
theorem dJ10_init_8 : decode cJ10_init 8 = .ok (.invokespecial 16, 3) := dk_183 0 16 (dk_at dksJ10_init_0 8 rfl rfl)
theorem dJ10_init_11 : decode cJ10_init 11 = .ok (.return_, 1) := dk_177 (dk_at dksJ10_init_0 11 rfl rfl)
abbrev cJ10_init_2 : ByteArray := prog_70_method_1_code
def yJ10_init_2 : MethodName := ⟨RJ10, "<init>", "(Ljava/util/NavigableMap;)V"⟩
def dkwJ10_init_2_0 : List UInt8 := [42, 183, 0, 1, 42, 43, 181, 0, 7, 177]
abbrev dktJ10_init_2_0 : List UInt8 := dkwJ10_init_2_0 ++ []
theorem dksJ10_init_2_0 : cJ10_init_2.data.toList.drop 0 = dktJ10_init_2_0 := by decide +kernel
theorem dJ10_init_2_0 : decode cJ10_init_2 0 = .ok (.aload_n 0, 1) := dk_42 (dk_at dksJ10_init_2_0 0 rfl rfl)
theorem dJ10_init_2_1 : decode cJ10_init_2 1 = .ok (.invokespecial 1, 3) := dk_183 0 1 (dk_at dksJ10_init_2_0 1 rfl rfl)
theorem dJ10_init_2_4 : decode cJ10_init_2 4 = .ok (.aload_n 0, 1) := dk_42 (dk_at dksJ10_init_2_0 4 rfl rfl)
theorem dJ10_init_2_5 : decode cJ10_init_2 5 = .ok (.aload_n 1, 1) := dk_43 (dk_at dksJ10_init_2_0 5 rfl rfl)
theorem dJ10_init_2_6 : decode cJ10_init_2 6 = .ok (.putfield 7, 3) := dk_181 0 7 (dk_at dksJ10_init_2_0 6 rfl rfl)
theorem dJ10_init_2_9 : decode cJ10_init_2 9 = .ok (.return_, 1) := dk_177 (dk_at dksJ10_init_2_0 9 rfl rfl)
abbrev cJ10_size : ByteArray := prog_70_method_9_code
def yJ10_size : MethodName := ⟨RJ10, "size", "()I"⟩
def dkwJ10_size_0 : List UInt8 := [42, 180, 0, 7, 185, 0, 53, 1, 0, 172]
abbrev dktJ10_size_0 : List UInt8 := dkwJ10_size_0 ++ []
theorem dksJ10_size_0 : cJ10_size.data.toList.drop 0 = dktJ10_size_0 := by decide +kernel
theorem dJ10_size_0 : decode cJ10_size 0 = .ok (.aload_n 0, 1) := dk_42 (dk_at dksJ10_size_0 0 rfl rfl)
theorem dJ10_size_1 : decode cJ10_size 1 = .ok (.getfield 7, 3) := dk_180 0 7 (dk_at dksJ10_size_0 1 rfl rfl)
theorem dJ10_size_4 : decode cJ10_size 4 = .ok (.invokeinterface 53 1, 5) := by decide +kernel
theorem dJ10_size_9 : decode cJ10_size 9 = .ok (.ireturn, 1) := dk_172 (dk_at dksJ10_size_0 9 rfl rfl)
abbrev cJ10_iterator : ByteArray := prog_70_method_6_code
def yJ10_iterator : MethodName := ⟨RJ10, "iterator", "()Ljava/util/Iterator;"⟩
def dkwJ10_iterator_0 : List UInt8 := [42, 180, 0, 7, 185, 0, 34, 1, 0, 185, 0, 40, 1, 0, 176]
abbrev dktJ10_iterator_0 : List UInt8 := dkwJ10_iterator_0 ++ []
theorem dksJ10_iterator_0 : cJ10_iterator.data.toList.drop 0 = dktJ10_iterator_0 := by decide +kernel
theorem dJ10_iterator_0 : decode cJ10_iterator 0 = .ok (.aload_n 0, 1) := dk_42 (dk_at dksJ10_iterator_0 0 rfl rfl)
theorem dJ10_iterator_1 : decode cJ10_iterator 1 = .ok (.getfield 7, 3) := dk_180 0 7 (dk_at dksJ10_iterator_0 1 rfl rfl)
theorem dJ10_iterator_4 : decode cJ10_iterator 4 = .ok (.invokeinterface 34 1, 5) := by decide +kernel
theorem dJ10_iterator_9 : decode cJ10_iterator 9 = .ok (.invokeinterface 40 1, 5) := by decide +kernel
theorem dJ10_iterator_14 : decode cJ10_iterator 14 = .ok (.areturn, 1) := dk_176 (dk_at dksJ10_iterator_0 14 rfl rfl)
abbrev cJ10_clear : ByteArray := prog_70_method_14_code
def yJ10_clear : MethodName := ⟨RJ10, "clear", "()V"⟩
def dkwJ10_clear_0 : List UInt8 := [42, 180, 0, 7, 185, 0, 77, 1, 0, 177]
abbrev dktJ10_clear_0 : List UInt8 := dkwJ10_clear_0 ++ []
theorem dksJ10_clear_0 : cJ10_clear.data.toList.drop 0 = dktJ10_clear_0 := by decide +kernel
theorem dJ10_clear_0 : decode cJ10_clear 0 = .ok (.aload_n 0, 1) := dk_42 (dk_at dksJ10_clear_0 0 rfl rfl)
theorem dJ10_clear_1 : decode cJ10_clear 1 = .ok (.getfield 7, 3) := dk_180 0 7 (dk_at dksJ10_clear_0 1 rfl rfl)
theorem dJ10_clear_4 : decode cJ10_clear 4 = .ok (.invokeinterface 77 1, 5) := by decide +kernel
theorem dJ10_clear_9 : decode cJ10_clear 9 = .ok (.return_, 1) := dk_177 (dk_at dksJ10_clear_0 9 rfl rfl)
abbrev cJ10_add : ByteArray := prog_70_method_12_code
def yJ10_add : MethodName := ⟨RJ10, "add", "(Ljava/lang/Object;)Z"⟩
def dkwJ10_add_0 : List UInt8 := [42, 180, 0, 7, 43, 178, 0, 65, 185, 0, 69, 3, 0, 199, 0, 7, 4, 167, 0, 4, 3, 172]
abbrev dktJ10_add_0 : List UInt8 := dkwJ10_add_0 ++ []
theorem dksJ10_add_0 : cJ10_add.data.toList.drop 0 = dktJ10_add_0 := by decide +kernel
theorem dJ10_add_0 : decode cJ10_add 0 = .ok (.aload_n 0, 1) := dk_42 (dk_at dksJ10_add_0 0 rfl rfl)
theorem dJ10_add_1 : decode cJ10_add 1 = .ok (.getfield 7, 3) := dk_180 0 7 (dk_at dksJ10_add_0 1 rfl rfl)
theorem dJ10_add_4 : decode cJ10_add 4 = .ok (.aload_n 1, 1) := dk_43 (dk_at dksJ10_add_0 4 rfl rfl)
theorem dJ10_add_5 : decode cJ10_add 5 = .ok (.getstatic 65, 3) := dk_178 0 65 (dk_at dksJ10_add_0 5 rfl rfl)
theorem dJ10_add_8 : decode cJ10_add 8 = .ok (.invokeinterface 69 3, 5) := by decide +kernel
theorem dJ10_add_13 : decode cJ10_add 13 = .ok (.ifnonnull 7, 3) := dk_199 0 7 (dk_at dksJ10_add_0 13 rfl rfl)
theorem dJ10_add_16 : decode cJ10_add 16 = .ok (.iconst 1, 1) := dk_4 (dk_at dksJ10_add_0 16 rfl rfl)
theorem dJ10_add_17 : decode cJ10_add 17 = .ok (.goto 4, 3) := dk_167 0 4 (dk_at dksJ10_add_0 17 rfl rfl)
theorem dJ10_add_20 : decode cJ10_add 20 = .ok (.iconst 0, 1) := dk_3 (dk_at dksJ10_add_0 20 rfl rfl)
theorem dJ10_add_21 : decode cJ10_add 21 = .ok (.ireturn, 1) := dk_172 (dk_at dksJ10_add_0 21 rfl rfl)
abbrev cJ10_isEmpty : ByteArray := prog_70_method_10_code
def yJ10_isEmpty : MethodName := ⟨RJ10, "isEmpty", "()Z"⟩
def dkwJ10_isEmpty_0 : List UInt8 := [42, 180, 0, 7, 185, 0, 57, 1, 0, 172]
abbrev dktJ10_isEmpty_0 : List UInt8 := dkwJ10_isEmpty_0 ++ []
theorem dksJ10_isEmpty_0 : cJ10_isEmpty.data.toList.drop 0 = dktJ10_isEmpty_0 := by decide +kernel
theorem dJ10_isEmpty_0 : decode cJ10_isEmpty 0 = .ok (.aload_n 0, 1) := dk_42 (dk_at dksJ10_isEmpty_0 0 rfl rfl)
theorem dJ10_isEmpty_1 : decode cJ10_isEmpty 1 = .ok (.getfield 7, 3) := dk_180 0 7 (dk_at dksJ10_isEmpty_0 1 rfl rfl)
theorem dJ10_isEmpty_4 : decode cJ10_isEmpty 4 = .ok (.invokeinterface 57 1, 5) := by decide +kernel
theorem dJ10_isEmpty_9 : decode cJ10_isEmpty 9 = .ok (.ireturn, 1) := dk_172 (dk_at dksJ10_isEmpty_0 9 rfl rfl)
abbrev cJ10_first : ByteArray := prog_70_method_23_code
def yJ10_first : MethodName := ⟨RJ10, "first", "()Ljava/lang/Object;"⟩
def dkwJ10_first_0 : List UInt8 := [42, 180, 0, 7, 185, 0, 118, 1, 0, 176]
abbrev dktJ10_first_0 : List UInt8 := dkwJ10_first_0 ++ []
theorem dksJ10_first_0 : cJ10_first.data.toList.drop 0 = dktJ10_first_0 := by decide +kernel
theorem dJ10_first_0 : decode cJ10_first 0 = .ok (.aload_n 0, 1) := dk_42 (dk_at dksJ10_first_0 0 rfl rfl)
theorem dJ10_first_1 : decode cJ10_first 1 = .ok (.getfield 7, 3) := dk_180 0 7 (dk_at dksJ10_first_0 1 rfl rfl)
theorem dJ10_first_4 : decode cJ10_first 4 = .ok (.invokeinterface 118 1, 5) := by decide +kernel
theorem dJ10_first_9 : decode cJ10_first 9 = .ok (.areturn, 1) := dk_176 (dk_at dksJ10_first_0 9 rfl rfl)
abbrev cJ10_remove : ByteArray := prog_70_method_13_code
def yJ10_remove : MethodName := ⟨RJ10, "remove", "(Ljava/lang/Object;)Z"⟩
def dkwJ10_remove_0 : List UInt8 := [42, 180, 0, 7, 43, 185, 0, 73, 2, 0, 178, 0, 65, 166, 0, 7, 4, 167, 0, 4, 3, 172]
abbrev dktJ10_remove_0 : List UInt8 := dkwJ10_remove_0 ++ []
theorem dksJ10_remove_0 : cJ10_remove.data.toList.drop 0 = dktJ10_remove_0 := by decide +kernel
theorem dJ10_remove_0 : decode cJ10_remove 0 = .ok (.aload_n 0, 1) := dk_42 (dk_at dksJ10_remove_0 0 rfl rfl)
theorem dJ10_remove_1 : decode cJ10_remove 1 = .ok (.getfield 7, 3) := dk_180 0 7 (dk_at dksJ10_remove_0 1 rfl rfl)
theorem dJ10_remove_4 : decode cJ10_remove 4 = .ok (.aload_n 1, 1) := dk_43 (dk_at dksJ10_remove_0 4 rfl rfl)
theorem dJ10_remove_5 : decode cJ10_remove 5 = .ok (.invokeinterface 73 2, 5) := by decide +kernel
theorem dJ10_remove_10 : decode cJ10_remove 10 = .ok (.getstatic 65, 3) := dk_178 0 65 (dk_at dksJ10_remove_0 10 rfl rfl)
theorem dJ10_remove_13 : decode cJ10_remove 13 = .ok (.if_acmp .ne 7, 3) := dk_166 0 7 (dk_at dksJ10_remove_0 13 rfl rfl)
theorem dJ10_remove_16 : decode cJ10_remove 16 = .ok (.iconst 1, 1) := dk_4 (dk_at dksJ10_remove_0 16 rfl rfl)
theorem dJ10_remove_17 : decode cJ10_remove 17 = .ok (.goto 4, 3) := dk_167 0 4 (dk_at dksJ10_remove_0 17 rfl rfl)
theorem dJ10_remove_20 : decode cJ10_remove 20 = .ok (.iconst 0, 1) := dk_3 (dk_at dksJ10_remove_0 20 rfl rfl)
theorem dJ10_remove_21 : decode cJ10_remove 21 = .ok (.ireturn, 1) := dk_172 (dk_at dksJ10_remove_0 21 rfl rfl)
theorem q105 : (Jvm.Cond.initialized "java/util/TreeSet") ∈ lw_all := lw_g (lw_at lw_m1 13 rfl) rfl
theorem q291 : (Jvm.Cond.instantiable "java/util/TreeSet" (1 : Nat)) ∈ lw_all := lw_g (lw_at lw_m1 199 rfl) rfl
theorem q293 : (Jvm.Cond.instanceMethod ({ cls := "java/util/TreeSet", name := "<init>", desc := "()V" } : Jvm.MethodName)) ∈ lw_all := lw_g (lw_at lw_m1 201 rfl) rfl
theorem q294 : (Jvm.Cond.code ({ cls := "java/util/TreeSet", name := "<init>", desc := "()V" } : Jvm.MethodName) prog_70_method_2_code (1 : Nat) (Option.none : Option Jvm.ClassFile.FieldType)) ∈ lw_all := lw_g (lw_at lw_m1 202 rfl) rfl
theorem q295 : (Jvm.Cond.classLink "java/util/TreeSet" (13 : Nat) "java/util/TreeMap") ∈ lw_all := lw_g (lw_at lw_m1 203 rfl) rfl
theorem q296 : (Jvm.Cond.methodLink "java/util/TreeSet" (15 : Nat) ({ cls := "java/util/TreeMap", name := "<init>", desc := "()V" } : Jvm.MethodName)) ∈ lw_all := lw_g (lw_at lw_m1 204 rfl) rfl
theorem q297 : (Jvm.Cond.methodLink "java/util/TreeSet" (16 : Nat) ({ cls := "java/util/TreeSet", name := "<init>", desc := "(Ljava/util/NavigableMap;)V" } : Jvm.MethodName)) ∈ lw_all := lw_g (lw_at lw_m1 205 rfl) rfl
theorem q298 : (Jvm.Cond.instanceMethod ({ cls := "java/util/TreeSet", name := "<init>", desc := "(Ljava/util/NavigableMap;)V" } : Jvm.MethodName)) ∈ lw_all := lw_g (lw_at lw_m1 206 rfl) rfl
theorem q299 : (Jvm.Cond.code ({ cls := "java/util/TreeSet", name := "<init>", desc := "(Ljava/util/NavigableMap;)V" } : Jvm.MethodName) prog_70_method_1_code (2 : Nat) (Option.none : Option Jvm.ClassFile.FieldType)) ∈ lw_all := lw_g (lw_at lw_m1 207 rfl) rfl
theorem q300 : (Jvm.Cond.methodLink "java/util/TreeSet" (1 : Nat) ({ cls := "java/util/AbstractSet", name := "<init>", desc := "()V" } : Jvm.MethodName)) ∈ lw_all := lw_g (lw_at lw_m1 208 rfl) rfl
theorem q304 : (Jvm.Cond.fieldLink "java/util/TreeSet" (7 : Nat) "java/util/TreeSet" "m" "Ljava/util/NavigableMap;") ∈ lw_all := lw_g (lw_at lw_m1 212 rfl) rfl
theorem q305 : (Jvm.Cond.lays "java/util/TreeSet" "java/util/TreeSet" "m" "Ljava/util/NavigableMap;") ∈ lw_all := lw_g (lw_at lw_m1 213 rfl) rfl
theorem q306 : (Jvm.Cond.soleField "java/util/TreeSet" "m") ∈ lw_all := lw_g (lw_at lw_m1 214 rfl) rfl
theorem q307 : (Jvm.Cond.superclass "java/util/TreeSet" "java/util/AbstractSet") ∈ lw_all := lw_g (lw_at lw_m1 215 rfl) rfl
theorem q930 : (Jvm.Cond.instanceMethod ({ cls := "java/util/TreeSet", name := "size", desc := "()I" } : Jvm.MethodName)) ∈ lw_all := lw_g (lw_at lw_m4 118 rfl) rfl
theorem q931 : (Jvm.Cond.selects "java/util/TreeSet" ({ cls := "java/util/TreeSet", name := "size", desc := "()I" } : Jvm.MethodName) ({ cls := "java/util/TreeSet", name := "size", desc := "()I" } : Jvm.MethodName)) ∈ lw_all := lw_g (lw_at lw_m4 119 rfl) rfl
theorem q932 : (Jvm.Cond.code ({ cls := "java/util/TreeSet", name := "size", desc := "()I" } : Jvm.MethodName) prog_70_method_9_code (1 : Nat) (Option.some Jvm.ClassFile.FieldType.int)) ∈ lw_all := lw_g (lw_at lw_m4 120 rfl) rfl
theorem q933 : (Jvm.Cond.interfaceEntry "java/util/TreeSet" (53 : Nat)) ∈ lw_tbl := lw_at lw_m4 121 rfl
theorem q1053 : (Jvm.Cond.castable "java/util/TreeSet" "java/util/Set") ∈ lw_tbl := lw_at lw_m5 1 rfl
theorem q1054 : (Jvm.Cond.selects "java/util/TreeSet" ({ cls := "java/util/Set", name := "iterator", desc := "()Ljava/util/Iterator;" } : Jvm.MethodName) ({ cls := "java/util/TreeSet", name := "iterator", desc := "()Ljava/util/Iterator;" } : Jvm.MethodName)) ∈ lw_all := lw_g (lw_at lw_m5 2 rfl) rfl
theorem q1055 : (Jvm.Cond.unhidden "java/util/TreeSet" "iterator" "()Ljava/util/Iterator;") ∈ lw_tbl := lw_at lw_m5 3 rfl
theorem q1056 : (Jvm.Cond.instanceMethod ({ cls := "java/util/TreeSet", name := "iterator", desc := "()Ljava/util/Iterator;" } : Jvm.MethodName)) ∈ lw_all := lw_g (lw_at lw_m5 4 rfl) rfl
theorem q1057 : (Jvm.Cond.publicMethod ({ cls := "java/util/TreeSet", name := "iterator", desc := "()Ljava/util/Iterator;" } : Jvm.MethodName)) ∈ lw_tbl := lw_at lw_m5 5 rfl
theorem q1058 : (Jvm.Cond.code ({ cls := "java/util/TreeSet", name := "iterator", desc := "()Ljava/util/Iterator;" } : Jvm.MethodName) prog_70_method_6_code (1 : Nat) (Option.some (Jvm.ClassFile.FieldType.object "java/util/Iterator"))) ∈ lw_all := lw_g (lw_at lw_m5 6 rfl) rfl
theorem q1059 : (Jvm.Cond.interfaceEntry "java/util/TreeSet" (34 : Nat)) ∈ lw_tbl := lw_at lw_m5 7 rfl
theorem q1060 : (Jvm.Cond.methodLink "java/util/TreeSet" (34 : Nat) ({ cls := "java/util/NavigableMap", name := "navigableKeySet", desc := "()Ljava/util/NavigableSet;" } : Jvm.MethodName)) ∈ lw_all := lw_g (lw_at lw_m5 8 rfl) rfl
theorem q1066 : (Jvm.Cond.interfaceEntry "java/util/TreeSet" (40 : Nat)) ∈ lw_tbl := lw_at lw_m5 14 rfl
theorem q1067 : (Jvm.Cond.methodLink "java/util/TreeSet" (40 : Nat) ({ cls := "java/util/NavigableSet", name := "iterator", desc := "()Ljava/util/Iterator;" } : Jvm.MethodName)) ∈ lw_all := lw_g (lw_at lw_m5 15 rfl) rfl
theorem q1072 : (Jvm.Cond.castable "java/util/TreeSet" "java/util/NavigableSet") ∈ lw_tbl := lw_at lw_m5 20 rfl
theorem q1073 : (Jvm.Cond.selects "java/util/TreeSet" ({ cls := "java/util/NavigableSet", name := "iterator", desc := "()Ljava/util/Iterator;" } : Jvm.MethodName) ({ cls := "java/util/TreeSet", name := "iterator", desc := "()Ljava/util/Iterator;" } : Jvm.MethodName)) ∈ lw_all := lw_g (lw_at lw_m5 21 rfl) rfl
theorem q1435 : (Jvm.Cond.instanceMethod ({ cls := "java/util/TreeSet", name := "clear", desc := "()V" } : Jvm.MethodName)) ∈ lw_all := lw_g (lw_at lw_m6 143 rfl) rfl
theorem q1436 : (Jvm.Cond.selects "java/util/TreeSet" ({ cls := "java/util/TreeSet", name := "clear", desc := "()V" } : Jvm.MethodName) ({ cls := "java/util/TreeSet", name := "clear", desc := "()V" } : Jvm.MethodName)) ∈ lw_all := lw_g (lw_at lw_m6 144 rfl) rfl
theorem q1437 : (Jvm.Cond.code ({ cls := "java/util/TreeSet", name := "clear", desc := "()V" } : Jvm.MethodName) prog_70_method_14_code (1 : Nat) (Option.none : Option Jvm.ClassFile.FieldType)) ∈ lw_all := lw_g (lw_at lw_m6 145 rfl) rfl
theorem q1438 : (Jvm.Cond.interfaceEntry "java/util/TreeSet" (77 : Nat)) ∈ lw_tbl := lw_at lw_m6 146 rfl
theorem q1447 : (Jvm.Cond.instanceMethod ({ cls := "java/util/TreeSet", name := "add", desc := "(Ljava/lang/Object;)Z" } : Jvm.MethodName)) ∈ lw_all := lw_g (lw_at lw_m6 155 rfl) rfl
theorem q1448 : (Jvm.Cond.selects "java/util/TreeSet" ({ cls := "java/util/TreeSet", name := "add", desc := "(Ljava/lang/Object;)Z" } : Jvm.MethodName) ({ cls := "java/util/TreeSet", name := "add", desc := "(Ljava/lang/Object;)Z" } : Jvm.MethodName)) ∈ lw_all := lw_g (lw_at lw_m6 156 rfl) rfl
theorem q1449 : (Jvm.Cond.code ({ cls := "java/util/TreeSet", name := "add", desc := "(Ljava/lang/Object;)Z" } : Jvm.MethodName) prog_70_method_12_code (2 : Nat) (Option.some Jvm.ClassFile.FieldType.boolean)) ∈ lw_all := lw_g (lw_at lw_m6 157 rfl) rfl
theorem q1450 : (Jvm.Cond.fieldLink "java/util/TreeSet" (65 : Nat) "java/util/TreeSet" "PRESENT" "Ljava/lang/Object;") ∈ lw_all := lw_g (lw_at lw_m6 158 rfl) rfl
theorem q1451 : (Jvm.Cond.laysStatic "java/util/TreeSet" "PRESENT" "Ljava/lang/Object;") ∈ lw_tbl := lw_at lw_m6 159 rfl
theorem q1452 : (Jvm.Cond.interfaceEntry "java/util/TreeSet" (69 : Nat)) ∈ lw_tbl := lw_at lw_m6 160 rfl
theorem q1572 : (Jvm.Cond.selects "java/util/TreeSet" ({ cls := "java/lang/Object", name := "getClass", desc := "()Ljava/lang/Class;" } : Jvm.MethodName) ({ cls := "java/lang/Object", name := "getClass", desc := "()Ljava/lang/Class;" } : Jvm.MethodName)) ∈ lw_all := lw_g (lw_at lw_m7 40 rfl) rfl
theorem q1616 : (Jvm.Cond.selects "java/util/TreeSet" ({ cls := "java/util/AbstractCollection", name := "size", desc := "()I" } : Jvm.MethodName) ({ cls := "java/util/TreeSet", name := "size", desc := "()I" } : Jvm.MethodName)) ∈ lw_all := lw_g (lw_at lw_m7 84 rfl) rfl
theorem q1639 : (Jvm.Cond.instanceMethod ({ cls := "java/util/TreeSet", name := "isEmpty", desc := "()Z" } : Jvm.MethodName)) ∈ lw_all := lw_g (lw_at lw_m7 107 rfl) rfl
theorem q1640 : (Jvm.Cond.selects "java/util/TreeSet" ({ cls := "java/util/TreeSet", name := "isEmpty", desc := "()Z" } : Jvm.MethodName) ({ cls := "java/util/TreeSet", name := "isEmpty", desc := "()Z" } : Jvm.MethodName)) ∈ lw_all := lw_g (lw_at lw_m7 108 rfl) rfl
theorem q1641 : (Jvm.Cond.code ({ cls := "java/util/TreeSet", name := "isEmpty", desc := "()Z" } : Jvm.MethodName) prog_70_method_10_code (1 : Nat) (Option.some Jvm.ClassFile.FieldType.boolean)) ∈ lw_all := lw_g (lw_at lw_m7 109 rfl) rfl
theorem q1642 : (Jvm.Cond.interfaceEntry "java/util/TreeSet" (57 : Nat)) ∈ lw_tbl := lw_at lw_m7 110 rfl
theorem q1656 : (Jvm.Cond.instanceMethod ({ cls := "java/util/TreeSet", name := "first", desc := "()Ljava/lang/Object;" } : Jvm.MethodName)) ∈ lw_all := lw_g (lw_at lw_m7 124 rfl) rfl
theorem q1657 : (Jvm.Cond.selects "java/util/TreeSet" ({ cls := "java/util/TreeSet", name := "first", desc := "()Ljava/lang/Object;" } : Jvm.MethodName) ({ cls := "java/util/TreeSet", name := "first", desc := "()Ljava/lang/Object;" } : Jvm.MethodName)) ∈ lw_all := lw_g (lw_at lw_m7 125 rfl) rfl
theorem q1658 : (Jvm.Cond.code ({ cls := "java/util/TreeSet", name := "first", desc := "()Ljava/lang/Object;" } : Jvm.MethodName) prog_70_method_23_code (1 : Nat) (Option.some (Jvm.ClassFile.FieldType.object "java/lang/Object"))) ∈ lw_all := lw_g (lw_at lw_m7 126 rfl) rfl
theorem q1659 : (Jvm.Cond.interfaceEntry "java/util/TreeSet" (118 : Nat)) ∈ lw_tbl := lw_at lw_m7 127 rfl
theorem q1671 : (Jvm.Cond.instanceMethod ({ cls := "java/util/TreeSet", name := "remove", desc := "(Ljava/lang/Object;)Z" } : Jvm.MethodName)) ∈ lw_all := lw_g (lw_at lw_m7 139 rfl) rfl
theorem q1672 : (Jvm.Cond.selects "java/util/TreeSet" ({ cls := "java/util/TreeSet", name := "remove", desc := "(Ljava/lang/Object;)Z" } : Jvm.MethodName) ({ cls := "java/util/TreeSet", name := "remove", desc := "(Ljava/lang/Object;)Z" } : Jvm.MethodName)) ∈ lw_all := lw_g (lw_at lw_m7 140 rfl) rfl
theorem q1673 : (Jvm.Cond.code ({ cls := "java/util/TreeSet", name := "remove", desc := "(Ljava/lang/Object;)Z" } : Jvm.MethodName) prog_70_method_13_code (2 : Nat) (Option.some Jvm.ClassFile.FieldType.boolean)) ∈ lw_all := lw_g (lw_at lw_m7 141 rfl) rfl
theorem q1674 : (Jvm.Cond.interfaceEntry "java/util/TreeSet" (73 : Nat)) ∈ lw_tbl := lw_at lw_m7 142 rfl
theorem q2525 : (Jvm.Cond.selects "java/util/TreeSet" ({ cls := "java/util/TreeSet", name := "iterator", desc := "()Ljava/util/Iterator;" } : Jvm.MethodName) ({ cls := "java/util/TreeSet", name := "iterator", desc := "()Ljava/util/Iterator;" } : Jvm.MethodName)) ∈ lw_all := lw_g (lw_at lw_m11 33 rfl) rfl
theorem q2539 : (Jvm.Cond.castable "java/util/TreeSet" "java/lang/Object") ∈ lw_tbl := lw_at lw_m11 47 rfl
theorem in_J10 : ∀ w ∈ wsJ100, w ∈ lw_all := lw_in wsJ100 [305] (by decide +kernel) (by decide +kernel)
/-! java/util/AbstractList -/
set_option maxRecDepth 100000
def RJ11 : String := "java/util/AbstractList"
abbrev cJ11_init : ByteArray := prog_38_method_1_code
def yJ11_init : MethodName := ⟨RJ11, "<init>", "()V"⟩
def dkwJ11_init_0 : List UInt8 := [42, 183, 0, 1, 42, 3, 181, 0, 7, 177]
abbrev dktJ11_init_0 : List UInt8 := dkwJ11_init_0 ++ []
theorem dksJ11_init_0 : cJ11_init.data.toList.drop 0 = dktJ11_init_0 := by decide +kernel
theorem dJ11_init_0 : decode cJ11_init 0 = .ok (.aload_n 0, 1) := dk_42 (dk_at dksJ11_init_0 0 rfl rfl)
theorem dJ11_init_1 : decode cJ11_init 1 = .ok (.invokespecial 1, 3) := dk_183 0 1 (dk_at dksJ11_init_0 1 rfl rfl)
theorem dJ11_init_4 : decode cJ11_init 4 = .ok (.aload_n 0, 1) := dk_42 (dk_at dksJ11_init_0 4 rfl rfl)
theorem dJ11_init_5 : decode cJ11_init 5 = .ok (.iconst 0, 1) := dk_3 (dk_at dksJ11_init_0 5 rfl rfl)
theorem dJ11_init_6 : decode cJ11_init 6 = .ok (.putfield 7, 3) := dk_181 0 7 (dk_at dksJ11_init_0 6 rfl rfl)
theorem dJ11_init_9 : decode cJ11_init 9 = .ok (.return_, 1) := dk_177 (dk_at dksJ11_init_0 9 rfl rfl)
theorem q108 : (Jvm.Cond.initialized "java/util/AbstractList") ∈ lw_all := lw_g (lw_at lw_m1 16 rfl) rfl
theorem q456 : (Jvm.Cond.instanceMethod ({ cls := "java/util/AbstractList", name := "<init>", desc := "()V" } : Jvm.MethodName)) ∈ lw_all := lw_g (lw_at lw_m2 124 rfl) rfl
theorem q457 : (Jvm.Cond.code ({ cls := "java/util/AbstractList", name := "<init>", desc := "()V" } : Jvm.MethodName) prog_38_method_1_code (1 : Nat) (Option.none : Option Jvm.ClassFile.FieldType)) ∈ lw_all := lw_g (lw_at lw_m2 125 rfl) rfl
theorem q458 : (Jvm.Cond.methodLink "java/util/AbstractList" (1 : Nat) ({ cls := "java/util/AbstractCollection", name := "<init>", desc := "()V" } : Jvm.MethodName)) ∈ lw_all := lw_g (lw_at lw_m2 126 rfl) rfl
theorem q463 : (Jvm.Cond.fieldLink "java/util/AbstractList" (7 : Nat) "java/util/AbstractList" "modCount" "I") ∈ lw_all := lw_g (lw_at lw_m2 131 rfl) rfl
theorem q471 : (Jvm.Cond.soleField "java/util/AbstractList" "modCount") ∈ lw_all := lw_g (lw_at lw_m2 139 rfl) rfl
/-! java/util/ArrayList -/
set_option maxRecDepth 100000
def RJ12 : String := "java/util/ArrayList"
def TJ12 : u_T := fun k => match k with
  | 0 => ("java/util/AbstractList", "modCount", "I", false)
  | 1 => ("java/util/ArrayList", "elementData", "[Ljava/lang/Object;", false)
  | _ => ("java/util/ArrayList", "size", "I", false)
def tyJ12 : Nat → FieldType := fun k => match k with
  | 0 => .int
  | 1 => .array (.object "java/lang/Object")
  | _ => .int
abbrev wsJ120 : List Cond := u_ws RJ12 TJ12 3
theorem nmJ12 : ∀ a, a < 3 → ∀ b, b < 3 → a ≠ b → (TJ12 a).2.1 ≠ (TJ12 b).2.1 := by decide +kernel
theorem tyJ12_ok : ∀ k, k < 3 → parseFieldDescriptor (TJ12 k).2.2.1 = some (tyJ12 k) := by decide +kernel
abbrev cJ12_init : ByteArray := prog_42_method_2_code
def yJ12_init : MethodName := ⟨RJ12, "<init>", "()V"⟩
def dkwJ12_init_0 : List UInt8 := [42, 183, 0, 1, 42, 178, 0, 39, 181, 0, 9, 177]
abbrev dktJ12_init_0 : List UInt8 := dkwJ12_init_0 ++ []
theorem dksJ12_init_0 : cJ12_init.data.toList.drop 0 = dktJ12_init_0 := by decide +kernel
theorem dJ12_init_0 : decode cJ12_init 0 = .ok (.aload_n 0, 1) := dk_42 (dk_at dksJ12_init_0 0 rfl rfl)
theorem dJ12_init_1 : decode cJ12_init 1 = .ok (.invokespecial 1, 3) := dk_183 0 1 (dk_at dksJ12_init_0 1 rfl rfl)
theorem dJ12_init_4 : decode cJ12_init 4 = .ok (.aload_n 0, 1) := dk_42 (dk_at dksJ12_init_0 4 rfl rfl)
theorem dJ12_init_5 : decode cJ12_init 5 = .ok (.getstatic 39, 3) := dk_178 0 39 (dk_at dksJ12_init_0 5 rfl rfl)
theorem dJ12_init_8 : decode cJ12_init 8 = .ok (.putfield 9, 3) := dk_181 0 9 (dk_at dksJ12_init_0 8 rfl rfl)
theorem dJ12_init_11 : decode cJ12_init 11 = .ok (.return_, 1) := dk_177 (dk_at dksJ12_init_0 11 rfl rfl)
abbrev cJ12_size : ByteArray := prog_42_method_8_code
def yJ12_size : MethodName := ⟨RJ12, "size", "()I"⟩
theorem dJ12_size_0 : decode cJ12_size 0 = .ok (.aload_n 0, 1) := by decide +kernel
theorem dJ12_size_1 : decode cJ12_size 1 = .ok (.getfield 48, 3) := by decide +kernel
theorem dJ12_size_4 : decode cJ12_size 4 = .ok (.ireturn, 1) := by decide +kernel
abbrev cJ12_remove : ByteArray := prog_42_method_29_code
def yJ12_remove : MethodName := ⟨RJ12, "remove", "(I)Ljava/lang/Object;"⟩
def dkwJ12_remove_1 : List UInt8 := [45, 176]
abbrev dktJ12_remove_1 : List UInt8 := dkwJ12_remove_1 ++ []
def dkwJ12_remove_0 : List UInt8 := [27, 42, 180, 0, 48, 184, 0, 118, 87, 42, 180, 0, 9, 77, 44, 27, 50, 78, 42, 44, 27, 182, 0, 144]
abbrev dktJ12_remove_0 : List UInt8 := dkwJ12_remove_0 ++ dktJ12_remove_1
theorem dksJ12_remove_0 : cJ12_remove.data.toList.drop 0 = dktJ12_remove_0 := by decide +kernel
theorem dksJ12_remove_1 : cJ12_remove.data.toList.drop 24 = dktJ12_remove_1 := dk_seg dksJ12_remove_0 24 rfl rfl
theorem dJ12_remove_0 : decode cJ12_remove 0 = .ok (.iload_n 1, 1) := dk_27 (dk_at dksJ12_remove_0 0 rfl rfl)
theorem dJ12_remove_1 : decode cJ12_remove 1 = .ok (.aload_n 0, 1) := dk_42 (dk_at dksJ12_remove_0 1 rfl rfl)
theorem dJ12_remove_2 : decode cJ12_remove 2 = .ok (.getfield 48, 3) := dk_180 0 48 (dk_at dksJ12_remove_0 2 rfl rfl)
theorem dJ12_remove_5 : decode cJ12_remove 5 = .ok (.invokestatic 118, 3) := dk_184 0 118 (dk_at dksJ12_remove_0 5 rfl rfl)
theorem dJ12_remove_8 : decode cJ12_remove 8 = .ok (.pop, 1) := dk_87 (dk_at dksJ12_remove_0 8 rfl rfl)
theorem dJ12_remove_9 : decode cJ12_remove 9 = .ok (.aload_n 0, 1) := dk_42 (dk_at dksJ12_remove_0 9 rfl rfl)
theorem dJ12_remove_10 : decode cJ12_remove 10 = .ok (.getfield 9, 3) := dk_180 0 9 (dk_at dksJ12_remove_0 10 rfl rfl)
theorem dJ12_remove_13 : decode cJ12_remove 13 = .ok (.astore_n 2, 1) := dk_77 (dk_at dksJ12_remove_0 13 rfl rfl)
theorem dJ12_remove_14 : decode cJ12_remove 14 = .ok (.aload_n 2, 1) := dk_44 (dk_at dksJ12_remove_0 14 rfl rfl)
theorem dJ12_remove_15 : decode cJ12_remove 15 = .ok (.iload_n 1, 1) := dk_27 (dk_at dksJ12_remove_0 15 rfl rfl)
theorem dJ12_remove_16 : decode cJ12_remove 16 = .ok (.aaload, 1) := dk_50 (dk_at dksJ12_remove_0 16 rfl rfl)
theorem dJ12_remove_17 : decode cJ12_remove 17 = .ok (.astore_n 3, 1) := dk_78 (dk_at dksJ12_remove_0 17 rfl rfl)
theorem dJ12_remove_18 : decode cJ12_remove 18 = .ok (.aload_n 0, 1) := dk_42 (dk_at dksJ12_remove_0 18 rfl rfl)
theorem dJ12_remove_19 : decode cJ12_remove 19 = .ok (.aload_n 2, 1) := dk_44 (dk_at dksJ12_remove_0 19 rfl rfl)
theorem dJ12_remove_20 : decode cJ12_remove 20 = .ok (.iload_n 1, 1) := dk_27 (dk_at dksJ12_remove_0 20 rfl rfl)
theorem dJ12_remove_21 : decode cJ12_remove 21 = .ok (.invokevirtual 144, 3) := dk_182 0 144 (dk_at dksJ12_remove_0 21 rfl rfl)
theorem dJ12_remove_24 : decode cJ12_remove 24 = .ok (.aload_n 3, 1) := dk_45 (dk_at dksJ12_remove_1 0 rfl rfl)
theorem dJ12_remove_25 : decode cJ12_remove 25 = .ok (.areturn, 1) := dk_176 (dk_at dksJ12_remove_1 1 rfl rfl)
abbrev cJ12_fastRemove : ByteArray := prog_42_method_39_code
def yJ12_fastRemove : MethodName := ⟨RJ12, "fastRemove", "([Ljava/lang/Object;I)V"⟩
def dkwJ12_fastRemove_1 : List UInt8 := [4, 96, 43, 28, 29, 28, 100, 184, 0, 112, 43, 42, 29, 90, 181, 0, 48, 1, 83, 177]
abbrev dktJ12_fastRemove_1 : List UInt8 := dkwJ12_fastRemove_1 ++ []
def dkwJ12_fastRemove_0 : List UInt8 := [42, 89, 180, 0, 63, 4, 96, 181, 0, 63, 42, 180, 0, 48, 4, 100, 89, 62, 28, 164, 0, 15, 43, 28]
abbrev dktJ12_fastRemove_0 : List UInt8 := dkwJ12_fastRemove_0 ++ dktJ12_fastRemove_1
theorem dksJ12_fastRemove_0 : cJ12_fastRemove.data.toList.drop 0 = dktJ12_fastRemove_0 := by decide +kernel
theorem dksJ12_fastRemove_1 : cJ12_fastRemove.data.toList.drop 24 = dktJ12_fastRemove_1 := dk_seg dksJ12_fastRemove_0 24 rfl rfl
theorem dJ12_fastRemove_0 : decode cJ12_fastRemove 0 = .ok (.aload_n 0, 1) := dk_42 (dk_at dksJ12_fastRemove_0 0 rfl rfl)
theorem dJ12_fastRemove_1 : decode cJ12_fastRemove 1 = .ok (.dup, 1) := dk_89 (dk_at dksJ12_fastRemove_0 1 rfl rfl)
theorem dJ12_fastRemove_2 : decode cJ12_fastRemove 2 = .ok (.getfield 63, 3) := dk_180 0 63 (dk_at dksJ12_fastRemove_0 2 rfl rfl)
theorem dJ12_fastRemove_5 : decode cJ12_fastRemove 5 = .ok (.iconst 1, 1) := dk_4 (dk_at dksJ12_fastRemove_0 5 rfl rfl)
theorem dJ12_fastRemove_6 : decode cJ12_fastRemove 6 = .ok (.iadd, 1) := dk_96 (dk_at dksJ12_fastRemove_0 6 rfl rfl)
theorem dJ12_fastRemove_7 : decode cJ12_fastRemove 7 = .ok (.putfield 63, 3) := dk_181 0 63 (dk_at dksJ12_fastRemove_0 7 rfl rfl)
theorem dJ12_fastRemove_10 : decode cJ12_fastRemove 10 = .ok (.aload_n 0, 1) := dk_42 (dk_at dksJ12_fastRemove_0 10 rfl rfl)
theorem dJ12_fastRemove_11 : decode cJ12_fastRemove 11 = .ok (.getfield 48, 3) := dk_180 0 48 (dk_at dksJ12_fastRemove_0 11 rfl rfl)
theorem dJ12_fastRemove_14 : decode cJ12_fastRemove 14 = .ok (.iconst 1, 1) := dk_4 (dk_at dksJ12_fastRemove_0 14 rfl rfl)
theorem dJ12_fastRemove_15 : decode cJ12_fastRemove 15 = .ok (.isub, 1) := dk_100 (dk_at dksJ12_fastRemove_0 15 rfl rfl)
theorem dJ12_fastRemove_16 : decode cJ12_fastRemove 16 = .ok (.dup, 1) := dk_89 (dk_at dksJ12_fastRemove_0 16 rfl rfl)
theorem dJ12_fastRemove_17 : decode cJ12_fastRemove 17 = .ok (.istore_n 3, 1) := dk_62 (dk_at dksJ12_fastRemove_0 17 rfl rfl)
theorem dJ12_fastRemove_18 : decode cJ12_fastRemove 18 = .ok (.iload_n 2, 1) := dk_28 (dk_at dksJ12_fastRemove_0 18 rfl rfl)
theorem dJ12_fastRemove_19 : decode cJ12_fastRemove 19 = .ok (.if_icmp .le 15, 3) := dk_164 0 15 (dk_at dksJ12_fastRemove_0 19 rfl rfl)
theorem dJ12_fastRemove_22 : decode cJ12_fastRemove 22 = .ok (.aload_n 1, 1) := dk_43 (dk_at dksJ12_fastRemove_0 22 rfl rfl)
theorem dJ12_fastRemove_23 : decode cJ12_fastRemove 23 = .ok (.iload_n 2, 1) := dk_28 (dk_at dksJ12_fastRemove_0 23 rfl rfl)
theorem dJ12_fastRemove_24 : decode cJ12_fastRemove 24 = .ok (.iconst 1, 1) := dk_4 (dk_at dksJ12_fastRemove_1 0 rfl rfl)
theorem dJ12_fastRemove_25 : decode cJ12_fastRemove 25 = .ok (.iadd, 1) := dk_96 (dk_at dksJ12_fastRemove_1 1 rfl rfl)
theorem dJ12_fastRemove_26 : decode cJ12_fastRemove 26 = .ok (.aload_n 1, 1) := dk_43 (dk_at dksJ12_fastRemove_1 2 rfl rfl)
theorem dJ12_fastRemove_27 : decode cJ12_fastRemove 27 = .ok (.iload_n 2, 1) := dk_28 (dk_at dksJ12_fastRemove_1 3 rfl rfl)
theorem dJ12_fastRemove_28 : decode cJ12_fastRemove 28 = .ok (.iload_n 3, 1) := dk_29 (dk_at dksJ12_fastRemove_1 4 rfl rfl)
theorem dJ12_fastRemove_29 : decode cJ12_fastRemove 29 = .ok (.iload_n 2, 1) := dk_28 (dk_at dksJ12_fastRemove_1 5 rfl rfl)
theorem dJ12_fastRemove_30 : decode cJ12_fastRemove 30 = .ok (.isub, 1) := dk_100 (dk_at dksJ12_fastRemove_1 6 rfl rfl)
theorem dJ12_fastRemove_31 : decode cJ12_fastRemove 31 = .ok (.invokestatic 112, 3) := dk_184 0 112 (dk_at dksJ12_fastRemove_1 7 rfl rfl)
theorem dJ12_fastRemove_34 : decode cJ12_fastRemove 34 = .ok (.aload_n 1, 1) := dk_43 (dk_at dksJ12_fastRemove_1 10 rfl rfl)
theorem dJ12_fastRemove_35 : decode cJ12_fastRemove 35 = .ok (.aload_n 0, 1) := dk_42 (dk_at dksJ12_fastRemove_1 11 rfl rfl)
theorem dJ12_fastRemove_36 : decode cJ12_fastRemove 36 = .ok (.iload_n 3, 1) := dk_29 (dk_at dksJ12_fastRemove_1 12 rfl rfl)
theorem dJ12_fastRemove_37 : decode cJ12_fastRemove 37 = .ok (.dup_x1, 1) := dk_90 (dk_at dksJ12_fastRemove_1 13 rfl rfl)
theorem dJ12_fastRemove_38 : decode cJ12_fastRemove 38 = .ok (.putfield 48, 3) := dk_181 0 48 (dk_at dksJ12_fastRemove_1 14 rfl rfl)
theorem dJ12_fastRemove_41 : decode cJ12_fastRemove 41 = .ok (.aconst_null, 1) := dk_1 (dk_at dksJ12_fastRemove_1 17 rfl rfl)
theorem dJ12_fastRemove_42 : decode cJ12_fastRemove 42 = .ok (.aastore, 1) := dk_83 (dk_at dksJ12_fastRemove_1 18 rfl rfl)
theorem dJ12_fastRemove_43 : decode cJ12_fastRemove 43 = .ok (.return_, 1) := dk_177 (dk_at dksJ12_fastRemove_1 19 rfl rfl)
abbrev cJ12_add : ByteArray := prog_42_method_25_code
def yJ12_add : MethodName := ⟨RJ12, "add", "(Ljava/lang/Object;)Z"⟩
def dkwJ12_add_1 : List UInt8 := [172]
abbrev dktJ12_add_1 : List UInt8 := dkwJ12_add_1 ++ []
def dkwJ12_add_0 : List UInt8 := [42, 89, 180, 0, 63, 4, 96, 181, 0, 63, 42, 43, 42, 180, 0, 9, 42, 180, 0, 48, 182, 0, 131, 4]
abbrev dktJ12_add_0 : List UInt8 := dkwJ12_add_0 ++ dktJ12_add_1
theorem dksJ12_add_0 : cJ12_add.data.toList.drop 0 = dktJ12_add_0 := by decide +kernel
theorem dksJ12_add_1 : cJ12_add.data.toList.drop 24 = dktJ12_add_1 := dk_seg dksJ12_add_0 24 rfl rfl
theorem dJ12_add_0 : decode cJ12_add 0 = .ok (.aload_n 0, 1) := dk_42 (dk_at dksJ12_add_0 0 rfl rfl)
theorem dJ12_add_1 : decode cJ12_add 1 = .ok (.dup, 1) := dk_89 (dk_at dksJ12_add_0 1 rfl rfl)
theorem dJ12_add_2 : decode cJ12_add 2 = .ok (.getfield 63, 3) := dk_180 0 63 (dk_at dksJ12_add_0 2 rfl rfl)
theorem dJ12_add_5 : decode cJ12_add 5 = .ok (.iconst 1, 1) := dk_4 (dk_at dksJ12_add_0 5 rfl rfl)
theorem dJ12_add_6 : decode cJ12_add 6 = .ok (.iadd, 1) := dk_96 (dk_at dksJ12_add_0 6 rfl rfl)
theorem dJ12_add_7 : decode cJ12_add 7 = .ok (.putfield 63, 3) := dk_181 0 63 (dk_at dksJ12_add_0 7 rfl rfl)
theorem dJ12_add_10 : decode cJ12_add 10 = .ok (.aload_n 0, 1) := dk_42 (dk_at dksJ12_add_0 10 rfl rfl)
theorem dJ12_add_11 : decode cJ12_add 11 = .ok (.aload_n 1, 1) := dk_43 (dk_at dksJ12_add_0 11 rfl rfl)
theorem dJ12_add_12 : decode cJ12_add 12 = .ok (.aload_n 0, 1) := dk_42 (dk_at dksJ12_add_0 12 rfl rfl)
theorem dJ12_add_13 : decode cJ12_add 13 = .ok (.getfield 9, 3) := dk_180 0 9 (dk_at dksJ12_add_0 13 rfl rfl)
theorem dJ12_add_16 : decode cJ12_add 16 = .ok (.aload_n 0, 1) := dk_42 (dk_at dksJ12_add_0 16 rfl rfl)
theorem dJ12_add_17 : decode cJ12_add 17 = .ok (.getfield 48, 3) := dk_180 0 48 (dk_at dksJ12_add_0 17 rfl rfl)
theorem dJ12_add_20 : decode cJ12_add 20 = .ok (.invokevirtual 131, 3) := dk_182 0 131 (dk_at dksJ12_add_0 20 rfl rfl)
theorem dJ12_add_23 : decode cJ12_add 23 = .ok (.iconst 1, 1) := dk_4 (dk_at dksJ12_add_0 23 rfl rfl)
theorem dJ12_add_24 : decode cJ12_add 24 = .ok (.ireturn, 1) := dk_172 (dk_at dksJ12_add_1 0 rfl rfl)
abbrev cJ12_add_2 : ByteArray := prog_42_method_24_code
def yJ12_add_2 : MethodName := ⟨RJ12, "add", "(Ljava/lang/Object;[Ljava/lang/Object;I)V"⟩
def dkwJ12_add_2_0 : List UInt8 := [29, 44, 190, 160, 0, 8, 42, 182, 0, 129, 77, 44, 29, 43, 83, 42, 29, 4, 96, 181, 0, 48, 177]
abbrev dktJ12_add_2_0 : List UInt8 := dkwJ12_add_2_0 ++ []
theorem dksJ12_add_2_0 : cJ12_add_2.data.toList.drop 0 = dktJ12_add_2_0 := by decide +kernel
theorem dJ12_add_2_0 : decode cJ12_add_2 0 = .ok (.iload_n 3, 1) := dk_29 (dk_at dksJ12_add_2_0 0 rfl rfl)
theorem dJ12_add_2_1 : decode cJ12_add_2 1 = .ok (.aload_n 2, 1) := dk_44 (dk_at dksJ12_add_2_0 1 rfl rfl)
theorem dJ12_add_2_2 : decode cJ12_add_2 2 = .ok (.arraylength, 1) := dk_190 (dk_at dksJ12_add_2_0 2 rfl rfl)
theorem dJ12_add_2_3 : decode cJ12_add_2 3 = .ok (.if_icmp .ne 8, 3) := dk_160 0 8 (dk_at dksJ12_add_2_0 3 rfl rfl)
theorem dJ12_add_2_6 : decode cJ12_add_2 6 = .ok (.aload_n 0, 1) := dk_42 (dk_at dksJ12_add_2_0 6 rfl rfl)
theorem dJ12_add_2_7 : decode cJ12_add_2 7 = .ok (.invokevirtual 129, 3) := dk_182 0 129 (dk_at dksJ12_add_2_0 7 rfl rfl)
theorem dJ12_add_2_10 : decode cJ12_add_2 10 = .ok (.astore_n 2, 1) := dk_77 (dk_at dksJ12_add_2_0 10 rfl rfl)
theorem dJ12_add_2_11 : decode cJ12_add_2 11 = .ok (.aload_n 2, 1) := dk_44 (dk_at dksJ12_add_2_0 11 rfl rfl)
theorem dJ12_add_2_12 : decode cJ12_add_2 12 = .ok (.iload_n 3, 1) := dk_29 (dk_at dksJ12_add_2_0 12 rfl rfl)
theorem dJ12_add_2_13 : decode cJ12_add_2 13 = .ok (.aload_n 1, 1) := dk_43 (dk_at dksJ12_add_2_0 13 rfl rfl)
theorem dJ12_add_2_14 : decode cJ12_add_2 14 = .ok (.aastore, 1) := dk_83 (dk_at dksJ12_add_2_0 14 rfl rfl)
theorem dJ12_add_2_15 : decode cJ12_add_2 15 = .ok (.aload_n 0, 1) := dk_42 (dk_at dksJ12_add_2_0 15 rfl rfl)
theorem dJ12_add_2_16 : decode cJ12_add_2 16 = .ok (.iload_n 3, 1) := dk_29 (dk_at dksJ12_add_2_0 16 rfl rfl)
theorem dJ12_add_2_17 : decode cJ12_add_2 17 = .ok (.iconst 1, 1) := dk_4 (dk_at dksJ12_add_2_0 17 rfl rfl)
theorem dJ12_add_2_18 : decode cJ12_add_2 18 = .ok (.iadd, 1) := dk_96 (dk_at dksJ12_add_2_0 18 rfl rfl)
theorem dJ12_add_2_19 : decode cJ12_add_2 19 = .ok (.putfield 48, 3) := dk_181 0 48 (dk_at dksJ12_add_2_0 19 rfl rfl)
theorem dJ12_add_2_22 : decode cJ12_add_2 22 = .ok (.return_, 1) := dk_177 (dk_at dksJ12_add_2_0 22 rfl rfl)
abbrev cJ12_grow : ByteArray := prog_42_method_7_code
def yJ12_grow : MethodName := ⟨RJ12, "grow", "()[Ljava/lang/Object;"⟩
def dkwJ12_grow_0 : List UInt8 := [42, 42, 180, 0, 48, 4, 96, 182, 0, 69, 176]
abbrev dktJ12_grow_0 : List UInt8 := dkwJ12_grow_0 ++ []
theorem dksJ12_grow_0 : cJ12_grow.data.toList.drop 0 = dktJ12_grow_0 := by decide +kernel
theorem dJ12_grow_0 : decode cJ12_grow 0 = .ok (.aload_n 0, 1) := dk_42 (dk_at dksJ12_grow_0 0 rfl rfl)
theorem dJ12_grow_1 : decode cJ12_grow 1 = .ok (.aload_n 0, 1) := dk_42 (dk_at dksJ12_grow_0 1 rfl rfl)
theorem dJ12_grow_2 : decode cJ12_grow 2 = .ok (.getfield 48, 3) := dk_180 0 48 (dk_at dksJ12_grow_0 2 rfl rfl)
theorem dJ12_grow_5 : decode cJ12_grow 5 = .ok (.iconst 1, 1) := dk_4 (dk_at dksJ12_grow_0 5 rfl rfl)
theorem dJ12_grow_6 : decode cJ12_grow 6 = .ok (.iadd, 1) := dk_96 (dk_at dksJ12_grow_0 6 rfl rfl)
theorem dJ12_grow_7 : decode cJ12_grow 7 = .ok (.invokevirtual 69, 3) := dk_182 0 69 (dk_at dksJ12_grow_0 7 rfl rfl)
theorem dJ12_grow_10 : decode cJ12_grow 10 = .ok (.areturn, 1) := dk_176 (dk_at dksJ12_grow_0 10 rfl rfl)
abbrev cJ12_grow_2 : ByteArray := prog_42_method_6_code
def yJ12_grow_2 : MethodName := ⟨RJ12, "grow", "(I)[Ljava/lang/Object;"⟩
def dkwJ12_grow_2_2 : List UInt8 := [27, 184, 0, 79, 189, 0, 7, 90, 181, 0, 9, 176]
abbrev dktJ12_grow_2_2 : List UInt8 := dkwJ12_grow_2_2 ++ []
def dkwJ12_grow_2_1 : List UInt8 := [28, 4, 122, 184, 0, 73, 62, 42, 42, 180, 0, 9, 29, 184, 0, 66, 90, 181, 0, 9, 176, 42, 16, 10]
abbrev dktJ12_grow_2_1 : List UInt8 := dkwJ12_grow_2_1 ++ dktJ12_grow_2_2
def dkwJ12_grow_2_0 : List UInt8 := [42, 180, 0, 9, 190, 61, 28, 157, 0, 13, 42, 180, 0, 9, 178, 0, 39, 165, 0, 28, 28, 27, 28, 100]
abbrev dktJ12_grow_2_0 : List UInt8 := dkwJ12_grow_2_0 ++ dktJ12_grow_2_1
theorem dksJ12_grow_2_0 : cJ12_grow_2.data.toList.drop 0 = dktJ12_grow_2_0 := by decide +kernel
theorem dksJ12_grow_2_1 : cJ12_grow_2.data.toList.drop 24 = dktJ12_grow_2_1 := dk_seg dksJ12_grow_2_0 24 rfl rfl
theorem dksJ12_grow_2_2 : cJ12_grow_2.data.toList.drop 48 = dktJ12_grow_2_2 := dk_seg dksJ12_grow_2_1 24 rfl rfl
theorem dJ12_grow_2_0 : decode cJ12_grow_2 0 = .ok (.aload_n 0, 1) := dk_42 (dk_at dksJ12_grow_2_0 0 rfl rfl)
theorem dJ12_grow_2_1 : decode cJ12_grow_2 1 = .ok (.getfield 9, 3) := dk_180 0 9 (dk_at dksJ12_grow_2_0 1 rfl rfl)
theorem dJ12_grow_2_4 : decode cJ12_grow_2 4 = .ok (.arraylength, 1) := dk_190 (dk_at dksJ12_grow_2_0 4 rfl rfl)
theorem dJ12_grow_2_5 : decode cJ12_grow_2 5 = .ok (.istore_n 2, 1) := dk_61 (dk_at dksJ12_grow_2_0 5 rfl rfl)
theorem dJ12_grow_2_6 : decode cJ12_grow_2 6 = .ok (.iload_n 2, 1) := dk_28 (dk_at dksJ12_grow_2_0 6 rfl rfl)
theorem dJ12_grow_2_7 : decode cJ12_grow_2 7 = .ok (.ifCond .gt 13, 3) := dk_157 0 13 (dk_at dksJ12_grow_2_0 7 rfl rfl)
theorem dJ12_grow_2_10 : decode cJ12_grow_2 10 = .ok (.aload_n 0, 1) := dk_42 (dk_at dksJ12_grow_2_0 10 rfl rfl)
theorem dJ12_grow_2_11 : decode cJ12_grow_2 11 = .ok (.getfield 9, 3) := dk_180 0 9 (dk_at dksJ12_grow_2_0 11 rfl rfl)
theorem dJ12_grow_2_14 : decode cJ12_grow_2 14 = .ok (.getstatic 39, 3) := dk_178 0 39 (dk_at dksJ12_grow_2_0 14 rfl rfl)
theorem dJ12_grow_2_17 : decode cJ12_grow_2 17 = .ok (.if_acmp .eq 28, 3) := dk_165 0 28 (dk_at dksJ12_grow_2_0 17 rfl rfl)
theorem dJ12_grow_2_20 : decode cJ12_grow_2 20 = .ok (.iload_n 2, 1) := dk_28 (dk_at dksJ12_grow_2_0 20 rfl rfl)
theorem dJ12_grow_2_21 : decode cJ12_grow_2 21 = .ok (.iload_n 1, 1) := dk_27 (dk_at dksJ12_grow_2_0 21 rfl rfl)
theorem dJ12_grow_2_22 : decode cJ12_grow_2 22 = .ok (.iload_n 2, 1) := dk_28 (dk_at dksJ12_grow_2_0 22 rfl rfl)
theorem dJ12_grow_2_23 : decode cJ12_grow_2 23 = .ok (.isub, 1) := dk_100 (dk_at dksJ12_grow_2_0 23 rfl rfl)
theorem dJ12_grow_2_24 : decode cJ12_grow_2 24 = .ok (.iload_n 2, 1) := dk_28 (dk_at dksJ12_grow_2_1 0 rfl rfl)
theorem dJ12_grow_2_25 : decode cJ12_grow_2 25 = .ok (.iconst 1, 1) := dk_4 (dk_at dksJ12_grow_2_1 1 rfl rfl)
theorem dJ12_grow_2_26 : decode cJ12_grow_2 26 = .ok (.ishr, 1) := dk_122 (dk_at dksJ12_grow_2_1 2 rfl rfl)
theorem dJ12_grow_2_27 : decode cJ12_grow_2 27 = .ok (.invokestatic 73, 3) := dk_184 0 73 (dk_at dksJ12_grow_2_1 3 rfl rfl)
theorem dJ12_grow_2_30 : decode cJ12_grow_2 30 = .ok (.istore_n 3, 1) := dk_62 (dk_at dksJ12_grow_2_1 6 rfl rfl)
theorem dJ12_grow_2_31 : decode cJ12_grow_2 31 = .ok (.aload_n 0, 1) := dk_42 (dk_at dksJ12_grow_2_1 7 rfl rfl)
theorem dJ12_grow_2_32 : decode cJ12_grow_2 32 = .ok (.aload_n 0, 1) := dk_42 (dk_at dksJ12_grow_2_1 8 rfl rfl)
theorem dJ12_grow_2_33 : decode cJ12_grow_2 33 = .ok (.getfield 9, 3) := dk_180 0 9 (dk_at dksJ12_grow_2_1 9 rfl rfl)
theorem dJ12_grow_2_36 : decode cJ12_grow_2 36 = .ok (.iload_n 3, 1) := dk_29 (dk_at dksJ12_grow_2_1 12 rfl rfl)
theorem dJ12_grow_2_37 : decode cJ12_grow_2 37 = .ok (.invokestatic 66, 3) := dk_184 0 66 (dk_at dksJ12_grow_2_1 13 rfl rfl)
theorem dJ12_grow_2_40 : decode cJ12_grow_2 40 = .ok (.dup_x1, 1) := dk_90 (dk_at dksJ12_grow_2_1 16 rfl rfl)
theorem dJ12_grow_2_41 : decode cJ12_grow_2 41 = .ok (.putfield 9, 3) := dk_181 0 9 (dk_at dksJ12_grow_2_1 17 rfl rfl)
theorem dJ12_grow_2_44 : decode cJ12_grow_2 44 = .ok (.areturn, 1) := dk_176 (dk_at dksJ12_grow_2_1 20 rfl rfl)
theorem dJ12_grow_2_45 : decode cJ12_grow_2 45 = .ok (.aload_n 0, 1) := dk_42 (dk_at dksJ12_grow_2_1 21 rfl rfl)
theorem dJ12_grow_2_46 : decode cJ12_grow_2 46 = .ok (.bipush 10, 2) := dk_16 10 (dk_at dksJ12_grow_2_1 22 rfl rfl)
theorem dJ12_grow_2_48 : decode cJ12_grow_2 48 = .ok (.iload_n 1, 1) := dk_27 (dk_at dksJ12_grow_2_2 0 rfl rfl)
theorem dJ12_grow_2_49 : decode cJ12_grow_2 49 = .ok (.invokestatic 79, 3) := dk_184 0 79 (dk_at dksJ12_grow_2_2 1 rfl rfl)
theorem dJ12_grow_2_52 : decode cJ12_grow_2 52 = .ok (.anewarray 7, 3) := dk_189 0 7 (dk_at dksJ12_grow_2_2 4 rfl rfl)
theorem dJ12_grow_2_55 : decode cJ12_grow_2 55 = .ok (.dup_x1, 1) := dk_90 (dk_at dksJ12_grow_2_2 7 rfl rfl)
theorem dJ12_grow_2_56 : decode cJ12_grow_2 56 = .ok (.putfield 9, 3) := dk_181 0 9 (dk_at dksJ12_grow_2_2 8 rfl rfl)
theorem dJ12_grow_2_59 : decode cJ12_grow_2 59 = .ok (.areturn, 1) := dk_176 (dk_at dksJ12_grow_2_2 11 rfl rfl)
abbrev cJ12_get : ByteArray := prog_42_method_20_code
def yJ12_get : MethodName := ⟨RJ12, "get", "(I)Ljava/lang/Object;"⟩
def dkwJ12_get_0 : List UInt8 := [27, 42, 180, 0, 48, 184, 0, 118, 87, 42, 27, 182, 0, 123, 176]
abbrev dktJ12_get_0 : List UInt8 := dkwJ12_get_0 ++ []
theorem dksJ12_get_0 : cJ12_get.data.toList.drop 0 = dktJ12_get_0 := by decide +kernel
theorem dJ12_get_0 : decode cJ12_get 0 = .ok (.iload_n 1, 1) := dk_27 (dk_at dksJ12_get_0 0 rfl rfl)
theorem dJ12_get_1 : decode cJ12_get 1 = .ok (.aload_n 0, 1) := dk_42 (dk_at dksJ12_get_0 1 rfl rfl)
theorem dJ12_get_2 : decode cJ12_get 2 = .ok (.getfield 48, 3) := dk_180 0 48 (dk_at dksJ12_get_0 2 rfl rfl)
theorem dJ12_get_5 : decode cJ12_get 5 = .ok (.invokestatic 118, 3) := dk_184 0 118 (dk_at dksJ12_get_0 5 rfl rfl)
theorem dJ12_get_8 : decode cJ12_get 8 = .ok (.pop, 1) := dk_87 (dk_at dksJ12_get_0 8 rfl rfl)
theorem dJ12_get_9 : decode cJ12_get 9 = .ok (.aload_n 0, 1) := dk_42 (dk_at dksJ12_get_0 9 rfl rfl)
theorem dJ12_get_10 : decode cJ12_get 10 = .ok (.iload_n 1, 1) := dk_27 (dk_at dksJ12_get_0 10 rfl rfl)
theorem dJ12_get_11 : decode cJ12_get 11 = .ok (.invokevirtual 123, 3) := dk_182 0 123 (dk_at dksJ12_get_0 11 rfl rfl)
theorem dJ12_get_14 : decode cJ12_get 14 = .ok (.areturn, 1) := dk_176 (dk_at dksJ12_get_0 14 rfl rfl)
abbrev cJ12_elementData : ByteArray := prog_42_method_18_code
def yJ12_elementData : MethodName := ⟨RJ12, "elementData", "(I)Ljava/lang/Object;"⟩
def dkwJ12_elementData_0 : List UInt8 := [42, 180, 0, 9, 27, 50, 176]
abbrev dktJ12_elementData_0 : List UInt8 := dkwJ12_elementData_0 ++ []
theorem dksJ12_elementData_0 : cJ12_elementData.data.toList.drop 0 = dktJ12_elementData_0 := by decide +kernel
theorem dJ12_elementData_0 : decode cJ12_elementData 0 = .ok (.aload_n 0, 1) := dk_42 (dk_at dksJ12_elementData_0 0 rfl rfl)
theorem dJ12_elementData_1 : decode cJ12_elementData 1 = .ok (.getfield 9, 3) := dk_180 0 9 (dk_at dksJ12_elementData_0 1 rfl rfl)
theorem dJ12_elementData_4 : decode cJ12_elementData 4 = .ok (.iload_n 1, 1) := dk_27 (dk_at dksJ12_elementData_0 4 rfl rfl)
theorem dJ12_elementData_5 : decode cJ12_elementData 5 = .ok (.aaload, 1) := dk_50 (dk_at dksJ12_elementData_0 5 rfl rfl)
theorem dJ12_elementData_6 : decode cJ12_elementData 6 = .ok (.areturn, 1) := dk_176 (dk_at dksJ12_elementData_0 6 rfl rfl)
abbrev cJ12_isEmpty : ByteArray := prog_42_method_9_code
def yJ12_isEmpty : MethodName := ⟨RJ12, "isEmpty", "()Z"⟩
def dkwJ12_isEmpty_0 : List UInt8 := [42, 180, 0, 48, 154, 0, 7, 4, 167, 0, 4, 3, 172]
abbrev dktJ12_isEmpty_0 : List UInt8 := dkwJ12_isEmpty_0 ++ []
theorem dksJ12_isEmpty_0 : cJ12_isEmpty.data.toList.drop 0 = dktJ12_isEmpty_0 := by decide +kernel
theorem dJ12_isEmpty_0 : decode cJ12_isEmpty 0 = .ok (.aload_n 0, 1) := dk_42 (dk_at dksJ12_isEmpty_0 0 rfl rfl)
theorem dJ12_isEmpty_1 : decode cJ12_isEmpty 1 = .ok (.getfield 48, 3) := dk_180 0 48 (dk_at dksJ12_isEmpty_0 1 rfl rfl)
theorem dJ12_isEmpty_4 : decode cJ12_isEmpty 4 = .ok (.ifCond .ne 7, 3) := dk_154 0 7 (dk_at dksJ12_isEmpty_0 4 rfl rfl)
theorem dJ12_isEmpty_7 : decode cJ12_isEmpty 7 = .ok (.iconst 1, 1) := dk_4 (dk_at dksJ12_isEmpty_0 7 rfl rfl)
theorem dJ12_isEmpty_8 : decode cJ12_isEmpty 8 = .ok (.goto 4, 3) := dk_167 0 4 (dk_at dksJ12_isEmpty_0 8 rfl rfl)
theorem dJ12_isEmpty_11 : decode cJ12_isEmpty 11 = .ok (.iconst 0, 1) := dk_3 (dk_at dksJ12_isEmpty_0 11 rfl rfl)
theorem dJ12_isEmpty_12 : decode cJ12_isEmpty 12 = .ok (.ireturn, 1) := dk_172 (dk_at dksJ12_isEmpty_0 12 rfl rfl)
theorem q109 : (Jvm.Cond.initialized "java/util/ArrayList") ∈ lw_all := lw_g (lw_at lw_m1 17 rfl) rfl
theorem q451 : (Jvm.Cond.instantiable "java/util/ArrayList" (3 : Nat)) ∈ lw_all := lw_g (lw_at lw_m2 119 rfl) rfl
theorem q453 : (Jvm.Cond.instanceMethod ({ cls := "java/util/ArrayList", name := "<init>", desc := "()V" } : Jvm.MethodName)) ∈ lw_all := lw_g (lw_at lw_m2 121 rfl) rfl
theorem q454 : (Jvm.Cond.code ({ cls := "java/util/ArrayList", name := "<init>", desc := "()V" } : Jvm.MethodName) prog_42_method_2_code (1 : Nat) (Option.none : Option Jvm.ClassFile.FieldType)) ∈ lw_all := lw_g (lw_at lw_m2 122 rfl) rfl
theorem q455 : (Jvm.Cond.methodLink "java/util/ArrayList" (1 : Nat) ({ cls := "java/util/AbstractList", name := "<init>", desc := "()V" } : Jvm.MethodName)) ∈ lw_all := lw_g (lw_at lw_m2 123 rfl) rfl
theorem q459 : (Jvm.Cond.fieldLink "java/util/ArrayList" (39 : Nat) "java/util/ArrayList" "DEFAULTCAPACITY_EMPTY_ELEMENTDATA" "[Ljava/lang/Object;") ∈ lw_all := lw_g (lw_at lw_m2 127 rfl) rfl
theorem q460 : (Jvm.Cond.laysStatic "java/util/ArrayList" "DEFAULTCAPACITY_EMPTY_ELEMENTDATA" "[Ljava/lang/Object;") ∈ lw_tbl := lw_at lw_m2 128 rfl
theorem q461 : (Jvm.Cond.fieldLink "java/util/ArrayList" (9 : Nat) "java/util/ArrayList" "elementData" "[Ljava/lang/Object;") ∈ lw_all := lw_g (lw_at lw_m2 129 rfl) rfl
theorem q462 : (Jvm.Cond.fieldLink "java/util/ArrayList" (48 : Nat) "java/util/ArrayList" "size" "I") ∈ lw_all := lw_g (lw_at lw_m2 130 rfl) rfl
theorem q464 : (Jvm.Cond.fieldLink "java/util/ArrayList" (63 : Nat) "java/util/ArrayList" "modCount" "I") ∈ lw_all := lw_g (lw_at lw_m2 132 rfl) rfl
theorem q465 : (Jvm.Cond.sameField "java/util/ArrayList" "java/util/AbstractList" "modCount" "I") ∈ lw_all := lw_g (lw_at lw_m2 133 rfl) rfl
theorem q466 : (Jvm.Cond.lays "java/util/ArrayList" "java/util/ArrayList" "elementData" "[Ljava/lang/Object;") ∈ lw_all := lw_g (lw_at lw_m2 134 rfl) rfl
theorem q467 : (Jvm.Cond.soleField "java/util/ArrayList" "elementData") ∈ lw_all := lw_g (lw_at lw_m2 135 rfl) rfl
theorem q468 : (Jvm.Cond.lays "java/util/ArrayList" "java/util/ArrayList" "size" "I") ∈ lw_all := lw_g (lw_at lw_m2 136 rfl) rfl
theorem q469 : (Jvm.Cond.soleField "java/util/ArrayList" "size") ∈ lw_all := lw_g (lw_at lw_m2 137 rfl) rfl
theorem q470 : (Jvm.Cond.lays "java/util/ArrayList" "java/util/AbstractList" "modCount" "I") ∈ lw_all := lw_g (lw_at lw_m2 138 rfl) rfl
theorem q472 : (Jvm.Cond.superclass "java/util/ArrayList" "java/util/AbstractList") ∈ lw_all := lw_g (lw_at lw_m2 140 rfl) rfl
theorem q943 : (Jvm.Cond.instanceMethod ({ cls := "java/util/ArrayList", name := "size", desc := "()I" } : Jvm.MethodName)) ∈ lw_all := lw_g (lw_at lw_m4 131 rfl) rfl
theorem q944 : (Jvm.Cond.selects "java/util/ArrayList" ({ cls := "java/util/ArrayList", name := "size", desc := "()I" } : Jvm.MethodName) ({ cls := "java/util/ArrayList", name := "size", desc := "()I" } : Jvm.MethodName)) ∈ lw_all := lw_g (lw_at lw_m4 132 rfl) rfl
theorem q945 : (Jvm.Cond.code ({ cls := "java/util/ArrayList", name := "size", desc := "()I" } : Jvm.MethodName) prog_42_method_8_code (1 : Nat) (Option.some Jvm.ClassFile.FieldType.int)) ∈ lw_all := lw_g (lw_at lw_m4 133 rfl) rfl
theorem q1564 : (Jvm.Cond.selects "java/util/ArrayList" ({ cls := "java/lang/Object", name := "getClass", desc := "()Ljava/lang/Class;" } : Jvm.MethodName) ({ cls := "java/lang/Object", name := "getClass", desc := "()Ljava/lang/Class;" } : Jvm.MethodName)) ∈ lw_all := lw_g (lw_at lw_m7 32 rfl) rfl
theorem q1604 : (Jvm.Cond.selects "java/util/ArrayList" ({ cls := "java/util/AbstractCollection", name := "size", desc := "()I" } : Jvm.MethodName) ({ cls := "java/util/ArrayList", name := "size", desc := "()I" } : Jvm.MethodName)) ∈ lw_all := lw_g (lw_at lw_m7 72 rfl) rfl
theorem q1861 : (Jvm.Cond.instanceMethod ({ cls := "java/util/ArrayList", name := "remove", desc := "(I)Ljava/lang/Object;" } : Jvm.MethodName)) ∈ lw_all := lw_g (lw_at lw_m8 89 rfl) rfl
theorem q1862 : (Jvm.Cond.selects "java/util/ArrayList" ({ cls := "java/util/ArrayList", name := "remove", desc := "(I)Ljava/lang/Object;" } : Jvm.MethodName) ({ cls := "java/util/ArrayList", name := "remove", desc := "(I)Ljava/lang/Object;" } : Jvm.MethodName)) ∈ lw_all := lw_g (lw_at lw_m8 90 rfl) rfl
theorem q1863 : (Jvm.Cond.code ({ cls := "java/util/ArrayList", name := "remove", desc := "(I)Ljava/lang/Object;" } : Jvm.MethodName) prog_42_method_29_code (4 : Nat) (Option.some (Jvm.ClassFile.FieldType.object "java/lang/Object"))) ∈ lw_all := lw_g (lw_at lw_m8 91 rfl) rfl
theorem q1864 : (Jvm.Cond.methodLink "java/util/ArrayList" (118 : Nat) ({ cls := "java/util/Objects", name := "checkIndex", desc := "(II)I" } : Jvm.MethodName)) ∈ lw_all := lw_g (lw_at lw_m8 92 rfl) rfl
theorem q1868 : (Jvm.Cond.methodLink "java/util/ArrayList" (144 : Nat) ({ cls := "java/util/ArrayList", name := "fastRemove", desc := "([Ljava/lang/Object;I)V" } : Jvm.MethodName)) ∈ lw_all := lw_g (lw_at lw_m8 96 rfl) rfl
theorem q1869 : (Jvm.Cond.privateMethod ({ cls := "java/util/ArrayList", name := "fastRemove", desc := "([Ljava/lang/Object;I)V" } : Jvm.MethodName)) ∈ lw_tbl := lw_at lw_m8 97 rfl
theorem q1870 : (Jvm.Cond.instanceMethod ({ cls := "java/util/ArrayList", name := "fastRemove", desc := "([Ljava/lang/Object;I)V" } : Jvm.MethodName)) ∈ lw_all := lw_g (lw_at lw_m8 98 rfl) rfl
theorem q1871 : (Jvm.Cond.code ({ cls := "java/util/ArrayList", name := "fastRemove", desc := "([Ljava/lang/Object;I)V" } : Jvm.MethodName) prog_42_method_39_code (4 : Nat) (Option.none : Option Jvm.ClassFile.FieldType)) ∈ lw_all := lw_g (lw_at lw_m8 99 rfl) rfl
theorem q1872 : (Jvm.Cond.methodLink "java/util/ArrayList" (112 : Nat) ({ cls := "java/lang/System", name := "arraycopy", desc := "(Ljava/lang/Object;ILjava/lang/Object;II)V" } : Jvm.MethodName)) ∈ lw_all := lw_g (lw_at lw_m8 100 rfl) rfl
theorem q1874 : (Jvm.Cond.instanceMethod ({ cls := "java/util/ArrayList", name := "add", desc := "(Ljava/lang/Object;)Z" } : Jvm.MethodName)) ∈ lw_all := lw_g (lw_at lw_m8 102 rfl) rfl
theorem q1875 : (Jvm.Cond.selects "java/util/ArrayList" ({ cls := "java/util/ArrayList", name := "add", desc := "(Ljava/lang/Object;)Z" } : Jvm.MethodName) ({ cls := "java/util/ArrayList", name := "add", desc := "(Ljava/lang/Object;)Z" } : Jvm.MethodName)) ∈ lw_all := lw_g (lw_at lw_m8 103 rfl) rfl
theorem q1876 : (Jvm.Cond.code ({ cls := "java/util/ArrayList", name := "add", desc := "(Ljava/lang/Object;)Z" } : Jvm.MethodName) prog_42_method_25_code (2 : Nat) (Option.some Jvm.ClassFile.FieldType.boolean)) ∈ lw_all := lw_g (lw_at lw_m8 104 rfl) rfl
theorem q1877 : (Jvm.Cond.methodLink "java/util/ArrayList" (131 : Nat) ({ cls := "java/util/ArrayList", name := "add", desc := "(Ljava/lang/Object;[Ljava/lang/Object;I)V" } : Jvm.MethodName)) ∈ lw_all := lw_g (lw_at lw_m8 105 rfl) rfl
theorem q1878 : (Jvm.Cond.privateMethod ({ cls := "java/util/ArrayList", name := "add", desc := "(Ljava/lang/Object;[Ljava/lang/Object;I)V" } : Jvm.MethodName)) ∈ lw_tbl := lw_at lw_m8 106 rfl
theorem q1879 : (Jvm.Cond.instanceMethod ({ cls := "java/util/ArrayList", name := "add", desc := "(Ljava/lang/Object;[Ljava/lang/Object;I)V" } : Jvm.MethodName)) ∈ lw_all := lw_g (lw_at lw_m8 107 rfl) rfl
theorem q1880 : (Jvm.Cond.code ({ cls := "java/util/ArrayList", name := "add", desc := "(Ljava/lang/Object;[Ljava/lang/Object;I)V" } : Jvm.MethodName) prog_42_method_24_code (4 : Nat) (Option.none : Option Jvm.ClassFile.FieldType)) ∈ lw_all := lw_g (lw_at lw_m8 108 rfl) rfl
theorem q1881 : (Jvm.Cond.methodLink "java/util/ArrayList" (129 : Nat) ({ cls := "java/util/ArrayList", name := "grow", desc := "()[Ljava/lang/Object;" } : Jvm.MethodName)) ∈ lw_all := lw_g (lw_at lw_m8 109 rfl) rfl
theorem q1882 : (Jvm.Cond.privateMethod ({ cls := "java/util/ArrayList", name := "grow", desc := "()[Ljava/lang/Object;" } : Jvm.MethodName)) ∈ lw_tbl := lw_at lw_m8 110 rfl
theorem q1883 : (Jvm.Cond.instanceMethod ({ cls := "java/util/ArrayList", name := "grow", desc := "()[Ljava/lang/Object;" } : Jvm.MethodName)) ∈ lw_all := lw_g (lw_at lw_m8 111 rfl) rfl
theorem q1884 : (Jvm.Cond.code ({ cls := "java/util/ArrayList", name := "grow", desc := "()[Ljava/lang/Object;" } : Jvm.MethodName) prog_42_method_7_code (1 : Nat) (Option.some (Jvm.ClassFile.FieldType.array (Jvm.ClassFile.FieldType.object "java/lang/Object")))) ∈ lw_all := lw_g (lw_at lw_m8 112 rfl) rfl
theorem q1885 : (Jvm.Cond.methodLink "java/util/ArrayList" (69 : Nat) ({ cls := "java/util/ArrayList", name := "grow", desc := "(I)[Ljava/lang/Object;" } : Jvm.MethodName)) ∈ lw_all := lw_g (lw_at lw_m8 113 rfl) rfl
theorem q1886 : (Jvm.Cond.privateMethod ({ cls := "java/util/ArrayList", name := "grow", desc := "(I)[Ljava/lang/Object;" } : Jvm.MethodName)) ∈ lw_tbl := lw_at lw_m8 114 rfl
theorem q1887 : (Jvm.Cond.instanceMethod ({ cls := "java/util/ArrayList", name := "grow", desc := "(I)[Ljava/lang/Object;" } : Jvm.MethodName)) ∈ lw_all := lw_g (lw_at lw_m8 115 rfl) rfl
theorem q1888 : (Jvm.Cond.code ({ cls := "java/util/ArrayList", name := "grow", desc := "(I)[Ljava/lang/Object;" } : Jvm.MethodName) prog_42_method_6_code (4 : Nat) (Option.some (Jvm.ClassFile.FieldType.array (Jvm.ClassFile.FieldType.object "java/lang/Object")))) ∈ lw_all := lw_g (lw_at lw_m8 116 rfl) rfl
theorem q1889 : (Jvm.Cond.methodLink "java/util/ArrayList" (73 : Nat) ({ cls := "jdk/internal/util/ArraysSupport", name := "newLength", desc := "(III)I" } : Jvm.MethodName)) ∈ lw_all := lw_g (lw_at lw_m8 117 rfl) rfl
theorem q1890 : (Jvm.Cond.methodLink "java/util/ArrayList" (66 : Nat) ({ cls := "java/util/Arrays", name := "copyOf", desc := "([Ljava/lang/Object;I)[Ljava/lang/Object;" } : Jvm.MethodName)) ∈ lw_all := lw_g (lw_at lw_m8 118 rfl) rfl
theorem q1891 : (Jvm.Cond.methodLink "java/util/ArrayList" (79 : Nat) ({ cls := "java/lang/Math", name := "max", desc := "(II)I" } : Jvm.MethodName)) ∈ lw_all := lw_g (lw_at lw_m8 119 rfl) rfl
theorem q1892 : (Jvm.Cond.classLink "java/util/ArrayList" (7 : Nat) "java/lang/Object") ∈ lw_all := lw_g (lw_at lw_m8 120 rfl) rfl
theorem q1973 : (Jvm.Cond.instanceMethod ({ cls := "java/util/ArrayList", name := "get", desc := "(I)Ljava/lang/Object;" } : Jvm.MethodName)) ∈ lw_all := lw_g (lw_at lw_m8 201 rfl) rfl
theorem q1974 : (Jvm.Cond.selects "java/util/ArrayList" ({ cls := "java/util/ArrayList", name := "get", desc := "(I)Ljava/lang/Object;" } : Jvm.MethodName) ({ cls := "java/util/ArrayList", name := "get", desc := "(I)Ljava/lang/Object;" } : Jvm.MethodName)) ∈ lw_all := lw_g (lw_at lw_m8 202 rfl) rfl
theorem q1975 : (Jvm.Cond.code ({ cls := "java/util/ArrayList", name := "get", desc := "(I)Ljava/lang/Object;" } : Jvm.MethodName) prog_42_method_20_code (2 : Nat) (Option.some (Jvm.ClassFile.FieldType.object "java/lang/Object"))) ∈ lw_all := lw_g (lw_at lw_m8 203 rfl) rfl
theorem q1976 : (Jvm.Cond.methodLink "java/util/ArrayList" (123 : Nat) ({ cls := "java/util/ArrayList", name := "elementData", desc := "(I)Ljava/lang/Object;" } : Jvm.MethodName)) ∈ lw_all := lw_g (lw_at lw_m8 204 rfl) rfl
theorem q1977 : (Jvm.Cond.instanceMethod ({ cls := "java/util/ArrayList", name := "elementData", desc := "(I)Ljava/lang/Object;" } : Jvm.MethodName)) ∈ lw_all := lw_g (lw_at lw_m8 205 rfl) rfl
theorem q1978 : (Jvm.Cond.selects "java/util/ArrayList" ({ cls := "java/util/ArrayList", name := "elementData", desc := "(I)Ljava/lang/Object;" } : Jvm.MethodName) ({ cls := "java/util/ArrayList", name := "elementData", desc := "(I)Ljava/lang/Object;" } : Jvm.MethodName)) ∈ lw_all := lw_g (lw_at lw_m8 206 rfl) rfl
theorem q1979 : (Jvm.Cond.code ({ cls := "java/util/ArrayList", name := "elementData", desc := "(I)Ljava/lang/Object;" } : Jvm.MethodName) prog_42_method_18_code (2 : Nat) (Option.some (Jvm.ClassFile.FieldType.object "java/lang/Object"))) ∈ lw_all := lw_g (lw_at lw_m8 207 rfl) rfl
theorem q2041 : (Jvm.Cond.instanceMethod ({ cls := "java/util/ArrayList", name := "isEmpty", desc := "()Z" } : Jvm.MethodName)) ∈ lw_all := lw_g (lw_at lw_m9 29 rfl) rfl
theorem q2042 : (Jvm.Cond.selects "java/util/ArrayList" ({ cls := "java/util/ArrayList", name := "isEmpty", desc := "()Z" } : Jvm.MethodName) ({ cls := "java/util/ArrayList", name := "isEmpty", desc := "()Z" } : Jvm.MethodName)) ∈ lw_all := lw_g (lw_at lw_m9 30 rfl) rfl
theorem q2043 : (Jvm.Cond.code ({ cls := "java/util/ArrayList", name := "isEmpty", desc := "()Z" } : Jvm.MethodName) prog_42_method_9_code (1 : Nat) (Option.some Jvm.ClassFile.FieldType.boolean)) ∈ lw_all := lw_g (lw_at lw_m9 31 rfl) rfl
theorem q2540 : (Jvm.Cond.castable "java/util/ArrayList" "java/lang/Object") ∈ lw_tbl := lw_at lw_m11 48 rfl
theorem in_J12 : ∀ w ∈ wsJ120, w ∈ lw_all := lw_in wsJ120 [470, 466, 468] (by decide +kernel) (by decide +kernel)
/-! java/lang/AbstractStringBuilder -/
set_option maxRecDepth 100000
def RJ13 : String := "java/lang/AbstractStringBuilder"
abbrev cJ13_init : ByteArray := prog_10_method_2_code
def yJ13_init : MethodName := ⟨RJ13, "<init>", "(I)V"⟩
def dkwJ13_init_1 : List UInt8 := [167, 0, 16, 42, 27, 184, 0, 26, 181, 0, 15, 42, 4, 181, 0, 22, 177]
abbrev dktJ13_init_1 : List UInt8 := dkwJ13_init_1 ++ []
def dkwJ13_init_0 : List UInt8 := [42, 183, 0, 3, 178, 0, 18, 153, 0, 18, 42, 27, 188, 8, 181, 0, 15, 42, 3, 181, 0, 22]
abbrev dktJ13_init_0 : List UInt8 := dkwJ13_init_0 ++ dktJ13_init_1
theorem dksJ13_init_0 : cJ13_init.data.toList.drop 0 = dktJ13_init_0 := by decide +kernel
theorem dksJ13_init_1 : cJ13_init.data.toList.drop 22 = dktJ13_init_1 := dk_seg dksJ13_init_0 22 rfl rfl
theorem dJ13_init_0 : decode cJ13_init 0 = .ok (.aload_n 0, 1) := dk_42 (dk_at dksJ13_init_0 0 rfl rfl)
theorem dJ13_init_1 : decode cJ13_init 1 = .ok (.invokespecial 3, 3) := dk_183 0 3 (dk_at dksJ13_init_0 1 rfl rfl)
theorem dJ13_init_4 : decode cJ13_init 4 = .ok (.getstatic 18, 3) := dk_178 0 18 (dk_at dksJ13_init_0 4 rfl rfl)
theorem dJ13_init_7 : decode cJ13_init 7 = .ok (.ifCond .eq 18, 3) := dk_153 0 18 (dk_at dksJ13_init_0 7 rfl rfl)
theorem dJ13_init_10 : decode cJ13_init 10 = .ok (.aload_n 0, 1) := dk_42 (dk_at dksJ13_init_0 10 rfl rfl)
theorem dJ13_init_11 : decode cJ13_init 11 = .ok (.iload_n 1, 1) := dk_27 (dk_at dksJ13_init_0 11 rfl rfl)
theorem dJ13_init_12 : decode cJ13_init 12 = .ok (.newarray .byte, 2) := dk_188_8 (dk_at dksJ13_init_0 12 rfl rfl)
theorem dJ13_init_14 : decode cJ13_init 14 = .ok (.putfield 15, 3) := dk_181 0 15 (dk_at dksJ13_init_0 14 rfl rfl)
theorem dJ13_init_17 : decode cJ13_init 17 = .ok (.aload_n 0, 1) := dk_42 (dk_at dksJ13_init_0 17 rfl rfl)
theorem dJ13_init_18 : decode cJ13_init 18 = .ok (.iconst 0, 1) := dk_3 (dk_at dksJ13_init_0 18 rfl rfl)
theorem dJ13_init_19 : decode cJ13_init 19 = .ok (.putfield 22, 3) := dk_181 0 22 (dk_at dksJ13_init_0 19 rfl rfl)
theorem dJ13_init_22 : decode cJ13_init 22 = .ok (.goto 16, 3) := dk_167 0 16 (dk_at dksJ13_init_1 0 rfl rfl)
theorem dJ13_init_25 : decode cJ13_init 25 = .ok (.aload_n 0, 1) := dk_42 (dk_at dksJ13_init_1 3 rfl rfl)
theorem dJ13_init_26 : decode cJ13_init 26 = .ok (.iload_n 1, 1) := dk_27 (dk_at dksJ13_init_1 4 rfl rfl)
theorem dJ13_init_27 : decode cJ13_init 27 = .ok (.invokestatic 26, 3) := dk_184 0 26 (dk_at dksJ13_init_1 5 rfl rfl)
theorem dJ13_init_30 : decode cJ13_init 30 = .ok (.putfield 15, 3) := dk_181 0 15 (dk_at dksJ13_init_1 8 rfl rfl)
theorem dJ13_init_33 : decode cJ13_init 33 = .ok (.aload_n 0, 1) := dk_42 (dk_at dksJ13_init_1 11 rfl rfl)
theorem dJ13_init_34 : decode cJ13_init 34 = .ok (.iconst 1, 1) := dk_4 (dk_at dksJ13_init_1 12 rfl rfl)
theorem dJ13_init_35 : decode cJ13_init 35 = .ok (.putfield 22, 3) := dk_181 0 22 (dk_at dksJ13_init_1 13 rfl rfl)
theorem dJ13_init_38 : decode cJ13_init 38 = .ok (.return_, 1) := dk_177 (dk_at dksJ13_init_1 16 rfl rfl)
abbrev cJ13_length : ByteArray := prog_10_method_6_code
def yJ13_length : MethodName := ⟨RJ13, "length", "()I"⟩
theorem dJ13_length_0 : decode cJ13_length 0 = .ok (.aload_n 0, 1) := by decide +kernel
theorem dJ13_length_1 : decode cJ13_length 1 = .ok (.getfield 79, 3) := by decide +kernel
theorem dJ13_length_4 : decode cJ13_length 4 = .ok (.ireturn, 1) := by decide +kernel
abbrev cJ13_setLength : ByteArray := prog_10_method_13_code
def yJ13_setLength : MethodName := ⟨RJ13, "setLength", "(I)V"⟩
def dkwJ13_setLength_3 : List UInt8 := [164, 0, 8, 42, 4, 181, 0, 73, 42, 27, 181, 0, 79, 177]
abbrev dktJ13_setLength_3 : List UInt8 := dkwJ13_setLength_3 ++ []
def dkwJ13_setLength_2 : List UInt8 := [167, 0, 31, 42, 180, 0, 15, 42, 180, 0, 79, 27, 184, 0, 137, 167, 0, 16, 42, 180, 0, 79, 27]
abbrev dktJ13_setLength_2 : List UInt8 := dkwJ13_setLength_2 ++ dktJ13_setLength_3
def dkwJ13_setLength_1 : List UInt8 := [162, 0, 40, 42, 182, 0, 83, 153, 0, 18, 42, 180, 0, 15, 42, 180, 0, 79, 27, 184, 0, 133]
abbrev dktJ13_setLength_1 : List UInt8 := dkwJ13_setLength_1 ++ dktJ13_setLength_2
def dkwJ13_setLength_0 : List UInt8 := [27, 156, 0, 12, 187, 0, 129, 89, 27, 183, 0, 131, 191, 42, 27, 182, 0, 100, 42, 180, 0, 79, 27]
abbrev dktJ13_setLength_0 : List UInt8 := dkwJ13_setLength_0 ++ dktJ13_setLength_1
theorem dksJ13_setLength_0 : cJ13_setLength.data.toList.drop 0 = dktJ13_setLength_0 := by decide +kernel
theorem dksJ13_setLength_1 : cJ13_setLength.data.toList.drop 23 = dktJ13_setLength_1 := dk_seg dksJ13_setLength_0 23 rfl rfl
theorem dksJ13_setLength_2 : cJ13_setLength.data.toList.drop 45 = dktJ13_setLength_2 := dk_seg dksJ13_setLength_1 22 rfl rfl
theorem dksJ13_setLength_3 : cJ13_setLength.data.toList.drop 68 = dktJ13_setLength_3 := dk_seg dksJ13_setLength_2 23 rfl rfl
theorem dJ13_setLength_0 : decode cJ13_setLength 0 = .ok (.iload_n 1, 1) := dk_27 (dk_at dksJ13_setLength_0 0 rfl rfl)
theorem dJ13_setLength_1 : decode cJ13_setLength 1 = .ok (.ifCond .ge 12, 3) := dk_156 0 12 (dk_at dksJ13_setLength_0 1 rfl rfl)
theorem dJ13_setLength_4 : decode cJ13_setLength 4 = .ok (.new 129, 3) := dk_187 0 129 (dk_at dksJ13_setLength_0 4 rfl rfl)
theorem dJ13_setLength_7 : decode cJ13_setLength 7 = .ok (.dup, 1) := dk_89 (dk_at dksJ13_setLength_0 7 rfl rfl)
theorem dJ13_setLength_8 : decode cJ13_setLength 8 = .ok (.iload_n 1, 1) := dk_27 (dk_at dksJ13_setLength_0 8 rfl rfl)
theorem dJ13_setLength_9 : decode cJ13_setLength 9 = .ok (.invokespecial 131, 3) := dk_183 0 131 (dk_at dksJ13_setLength_0 9 rfl rfl)
theorem dJ13_setLength_12 : decode cJ13_setLength 12 = .ok (.athrow, 1) := dk_191 (dk_at dksJ13_setLength_0 12 rfl rfl)
theorem dJ13_setLength_13 : decode cJ13_setLength 13 = .ok (.aload_n 0, 1) := dk_42 (dk_at dksJ13_setLength_0 13 rfl rfl)
theorem dJ13_setLength_14 : decode cJ13_setLength 14 = .ok (.iload_n 1, 1) := dk_27 (dk_at dksJ13_setLength_0 14 rfl rfl)
theorem dJ13_setLength_15 : decode cJ13_setLength 15 = .ok (.invokevirtual 100, 3) := dk_182 0 100 (dk_at dksJ13_setLength_0 15 rfl rfl)
theorem dJ13_setLength_18 : decode cJ13_setLength 18 = .ok (.aload_n 0, 1) := dk_42 (dk_at dksJ13_setLength_0 18 rfl rfl)
theorem dJ13_setLength_19 : decode cJ13_setLength 19 = .ok (.getfield 79, 3) := dk_180 0 79 (dk_at dksJ13_setLength_0 19 rfl rfl)
theorem dJ13_setLength_22 : decode cJ13_setLength 22 = .ok (.iload_n 1, 1) := dk_27 (dk_at dksJ13_setLength_0 22 rfl rfl)
theorem dJ13_setLength_23 : decode cJ13_setLength 23 = .ok (.if_icmp .ge 40, 3) := dk_162 0 40 (dk_at dksJ13_setLength_1 0 rfl rfl)
theorem dJ13_setLength_26 : decode cJ13_setLength 26 = .ok (.aload_n 0, 1) := dk_42 (dk_at dksJ13_setLength_1 3 rfl rfl)
theorem dJ13_setLength_27 : decode cJ13_setLength 27 = .ok (.invokevirtual 83, 3) := dk_182 0 83 (dk_at dksJ13_setLength_1 4 rfl rfl)
theorem dJ13_setLength_30 : decode cJ13_setLength 30 = .ok (.ifCond .eq 18, 3) := dk_153 0 18 (dk_at dksJ13_setLength_1 7 rfl rfl)
theorem dJ13_setLength_33 : decode cJ13_setLength 33 = .ok (.aload_n 0, 1) := dk_42 (dk_at dksJ13_setLength_1 10 rfl rfl)
theorem dJ13_setLength_34 : decode cJ13_setLength 34 = .ok (.getfield 15, 3) := dk_180 0 15 (dk_at dksJ13_setLength_1 11 rfl rfl)
theorem dJ13_setLength_37 : decode cJ13_setLength 37 = .ok (.aload_n 0, 1) := dk_42 (dk_at dksJ13_setLength_1 14 rfl rfl)
theorem dJ13_setLength_38 : decode cJ13_setLength 38 = .ok (.getfield 79, 3) := dk_180 0 79 (dk_at dksJ13_setLength_1 15 rfl rfl)
theorem dJ13_setLength_41 : decode cJ13_setLength 41 = .ok (.iload_n 1, 1) := dk_27 (dk_at dksJ13_setLength_1 18 rfl rfl)
theorem dJ13_setLength_42 : decode cJ13_setLength 42 = .ok (.invokestatic 133, 3) := dk_184 0 133 (dk_at dksJ13_setLength_1 19 rfl rfl)
theorem dJ13_setLength_45 : decode cJ13_setLength 45 = .ok (.goto 31, 3) := dk_167 0 31 (dk_at dksJ13_setLength_2 0 rfl rfl)
theorem dJ13_setLength_48 : decode cJ13_setLength 48 = .ok (.aload_n 0, 1) := dk_42 (dk_at dksJ13_setLength_2 3 rfl rfl)
theorem dJ13_setLength_49 : decode cJ13_setLength 49 = .ok (.getfield 15, 3) := dk_180 0 15 (dk_at dksJ13_setLength_2 4 rfl rfl)
theorem dJ13_setLength_52 : decode cJ13_setLength 52 = .ok (.aload_n 0, 1) := dk_42 (dk_at dksJ13_setLength_2 7 rfl rfl)
theorem dJ13_setLength_53 : decode cJ13_setLength 53 = .ok (.getfield 79, 3) := dk_180 0 79 (dk_at dksJ13_setLength_2 8 rfl rfl)
theorem dJ13_setLength_56 : decode cJ13_setLength 56 = .ok (.iload_n 1, 1) := dk_27 (dk_at dksJ13_setLength_2 11 rfl rfl)
theorem dJ13_setLength_57 : decode cJ13_setLength 57 = .ok (.invokestatic 137, 3) := dk_184 0 137 (dk_at dksJ13_setLength_2 12 rfl rfl)
theorem dJ13_setLength_60 : decode cJ13_setLength 60 = .ok (.goto 16, 3) := dk_167 0 16 (dk_at dksJ13_setLength_2 15 rfl rfl)
theorem dJ13_setLength_63 : decode cJ13_setLength 63 = .ok (.aload_n 0, 1) := dk_42 (dk_at dksJ13_setLength_2 18 rfl rfl)
theorem dJ13_setLength_64 : decode cJ13_setLength 64 = .ok (.getfield 79, 3) := dk_180 0 79 (dk_at dksJ13_setLength_2 19 rfl rfl)
theorem dJ13_setLength_67 : decode cJ13_setLength 67 = .ok (.iload_n 1, 1) := dk_27 (dk_at dksJ13_setLength_2 22 rfl rfl)
theorem dJ13_setLength_68 : decode cJ13_setLength 68 = .ok (.if_icmp .le 8, 3) := dk_164 0 8 (dk_at dksJ13_setLength_3 0 rfl rfl)
theorem dJ13_setLength_71 : decode cJ13_setLength 71 = .ok (.aload_n 0, 1) := dk_42 (dk_at dksJ13_setLength_3 3 rfl rfl)
theorem dJ13_setLength_72 : decode cJ13_setLength 72 = .ok (.iconst 1, 1) := dk_4 (dk_at dksJ13_setLength_3 4 rfl rfl)
theorem dJ13_setLength_73 : decode cJ13_setLength 73 = .ok (.putfield 73, 3) := dk_181 0 73 (dk_at dksJ13_setLength_3 5 rfl rfl)
theorem dJ13_setLength_76 : decode cJ13_setLength 76 = .ok (.aload_n 0, 1) := dk_42 (dk_at dksJ13_setLength_3 8 rfl rfl)
theorem dJ13_setLength_77 : decode cJ13_setLength 77 = .ok (.iload_n 1, 1) := dk_27 (dk_at dksJ13_setLength_3 9 rfl rfl)
theorem dJ13_setLength_78 : decode cJ13_setLength 78 = .ok (.putfield 79, 3) := dk_181 0 79 (dk_at dksJ13_setLength_3 10 rfl rfl)
theorem dJ13_setLength_81 : decode cJ13_setLength 81 = .ok (.return_, 1) := dk_177 (dk_at dksJ13_setLength_3 13 rfl rfl)
abbrev cJ13_ensureCapacityInternal : ByteArray := prog_10_method_9_code
def yJ13_ensureCapacityInternal : MethodName := ⟨RJ13, "ensureCapacityInternal", "(I)V"⟩
def dkwJ13_ensureCapacityInternal_1 : List UInt8 := [182, 0, 104, 42, 180, 0, 22, 120, 184, 0, 108, 181, 0, 15, 177]
abbrev dktJ13_ensureCapacityInternal_1 : List UInt8 := dkwJ13_ensureCapacityInternal_1 ++ []
def dkwJ13_ensureCapacityInternal_0 : List UInt8 := [42, 180, 0, 15, 190, 42, 180, 0, 22, 122, 61, 27, 28, 100, 158, 0, 24, 42, 42, 180, 0, 15, 42, 27]
abbrev dktJ13_ensureCapacityInternal_0 : List UInt8 := dkwJ13_ensureCapacityInternal_0 ++ dktJ13_ensureCapacityInternal_1
theorem dksJ13_ensureCapacityInternal_0 : cJ13_ensureCapacityInternal.data.toList.drop 0 = dktJ13_ensureCapacityInternal_0 := by decide +kernel
theorem dksJ13_ensureCapacityInternal_1 : cJ13_ensureCapacityInternal.data.toList.drop 24 = dktJ13_ensureCapacityInternal_1 := dk_seg dksJ13_ensureCapacityInternal_0 24 rfl rfl
theorem dJ13_ensureCapacityInternal_0 : decode cJ13_ensureCapacityInternal 0 = .ok (.aload_n 0, 1) := dk_42 (dk_at dksJ13_ensureCapacityInternal_0 0 rfl rfl)
theorem dJ13_ensureCapacityInternal_1 : decode cJ13_ensureCapacityInternal 1 = .ok (.getfield 15, 3) := dk_180 0 15 (dk_at dksJ13_ensureCapacityInternal_0 1 rfl rfl)
theorem dJ13_ensureCapacityInternal_4 : decode cJ13_ensureCapacityInternal 4 = .ok (.arraylength, 1) := dk_190 (dk_at dksJ13_ensureCapacityInternal_0 4 rfl rfl)
theorem dJ13_ensureCapacityInternal_5 : decode cJ13_ensureCapacityInternal 5 = .ok (.aload_n 0, 1) := dk_42 (dk_at dksJ13_ensureCapacityInternal_0 5 rfl rfl)
theorem dJ13_ensureCapacityInternal_6 : decode cJ13_ensureCapacityInternal 6 = .ok (.getfield 22, 3) := dk_180 0 22 (dk_at dksJ13_ensureCapacityInternal_0 6 rfl rfl)
theorem dJ13_ensureCapacityInternal_9 : decode cJ13_ensureCapacityInternal 9 = .ok (.ishr, 1) := dk_122 (dk_at dksJ13_ensureCapacityInternal_0 9 rfl rfl)
theorem dJ13_ensureCapacityInternal_10 : decode cJ13_ensureCapacityInternal 10 = .ok (.istore_n 2, 1) := dk_61 (dk_at dksJ13_ensureCapacityInternal_0 10 rfl rfl)
theorem dJ13_ensureCapacityInternal_11 : decode cJ13_ensureCapacityInternal 11 = .ok (.iload_n 1, 1) := dk_27 (dk_at dksJ13_ensureCapacityInternal_0 11 rfl rfl)
theorem dJ13_ensureCapacityInternal_12 : decode cJ13_ensureCapacityInternal 12 = .ok (.iload_n 2, 1) := dk_28 (dk_at dksJ13_ensureCapacityInternal_0 12 rfl rfl)
theorem dJ13_ensureCapacityInternal_13 : decode cJ13_ensureCapacityInternal 13 = .ok (.isub, 1) := dk_100 (dk_at dksJ13_ensureCapacityInternal_0 13 rfl rfl)
theorem dJ13_ensureCapacityInternal_14 : decode cJ13_ensureCapacityInternal 14 = .ok (.ifCond .le 24, 3) := dk_158 0 24 (dk_at dksJ13_ensureCapacityInternal_0 14 rfl rfl)
theorem dJ13_ensureCapacityInternal_17 : decode cJ13_ensureCapacityInternal 17 = .ok (.aload_n 0, 1) := dk_42 (dk_at dksJ13_ensureCapacityInternal_0 17 rfl rfl)
theorem dJ13_ensureCapacityInternal_18 : decode cJ13_ensureCapacityInternal 18 = .ok (.aload_n 0, 1) := dk_42 (dk_at dksJ13_ensureCapacityInternal_0 18 rfl rfl)
theorem dJ13_ensureCapacityInternal_19 : decode cJ13_ensureCapacityInternal 19 = .ok (.getfield 15, 3) := dk_180 0 15 (dk_at dksJ13_ensureCapacityInternal_0 19 rfl rfl)
theorem dJ13_ensureCapacityInternal_22 : decode cJ13_ensureCapacityInternal 22 = .ok (.aload_n 0, 1) := dk_42 (dk_at dksJ13_ensureCapacityInternal_0 22 rfl rfl)
theorem dJ13_ensureCapacityInternal_23 : decode cJ13_ensureCapacityInternal 23 = .ok (.iload_n 1, 1) := dk_27 (dk_at dksJ13_ensureCapacityInternal_0 23 rfl rfl)
theorem dJ13_ensureCapacityInternal_24 : decode cJ13_ensureCapacityInternal 24 = .ok (.invokevirtual 104, 3) := dk_182 0 104 (dk_at dksJ13_ensureCapacityInternal_1 0 rfl rfl)
theorem dJ13_ensureCapacityInternal_27 : decode cJ13_ensureCapacityInternal 27 = .ok (.aload_n 0, 1) := dk_42 (dk_at dksJ13_ensureCapacityInternal_1 3 rfl rfl)
theorem dJ13_ensureCapacityInternal_28 : decode cJ13_ensureCapacityInternal 28 = .ok (.getfield 22, 3) := dk_180 0 22 (dk_at dksJ13_ensureCapacityInternal_1 4 rfl rfl)
theorem dJ13_ensureCapacityInternal_31 : decode cJ13_ensureCapacityInternal 31 = .ok (.ishl, 1) := dk_120 (dk_at dksJ13_ensureCapacityInternal_1 7 rfl rfl)
theorem dJ13_ensureCapacityInternal_32 : decode cJ13_ensureCapacityInternal 32 = .ok (.invokestatic 108, 3) := dk_184 0 108 (dk_at dksJ13_ensureCapacityInternal_1 8 rfl rfl)
theorem dJ13_ensureCapacityInternal_35 : decode cJ13_ensureCapacityInternal 35 = .ok (.putfield 15, 3) := dk_181 0 15 (dk_at dksJ13_ensureCapacityInternal_1 11 rfl rfl)
theorem dJ13_ensureCapacityInternal_38 : decode cJ13_ensureCapacityInternal 38 = .ok (.return_, 1) := dk_177 (dk_at dksJ13_ensureCapacityInternal_1 14 rfl rfl)
abbrev cJ13_isLatin1 : ByteArray := prog_10_method_68_code
def yJ13_isLatin1 : MethodName := ⟨RJ13, "isLatin1", "()Z"⟩
def dkwJ13_isLatin1_0 : List UInt8 := [178, 0, 18, 153, 0, 14, 42, 180, 0, 22, 154, 0, 7, 4, 167, 0, 4, 3, 172]
abbrev dktJ13_isLatin1_0 : List UInt8 := dkwJ13_isLatin1_0 ++ []
theorem dksJ13_isLatin1_0 : cJ13_isLatin1.data.toList.drop 0 = dktJ13_isLatin1_0 := by decide +kernel
theorem dJ13_isLatin1_0 : decode cJ13_isLatin1 0 = .ok (.getstatic 18, 3) := dk_178 0 18 (dk_at dksJ13_isLatin1_0 0 rfl rfl)
theorem dJ13_isLatin1_3 : decode cJ13_isLatin1 3 = .ok (.ifCond .eq 14, 3) := dk_153 0 14 (dk_at dksJ13_isLatin1_0 3 rfl rfl)
theorem dJ13_isLatin1_6 : decode cJ13_isLatin1 6 = .ok (.aload_n 0, 1) := dk_42 (dk_at dksJ13_isLatin1_0 6 rfl rfl)
theorem dJ13_isLatin1_7 : decode cJ13_isLatin1 7 = .ok (.getfield 22, 3) := dk_180 0 22 (dk_at dksJ13_isLatin1_0 7 rfl rfl)
theorem dJ13_isLatin1_10 : decode cJ13_isLatin1 10 = .ok (.ifCond .ne 7, 3) := dk_154 0 7 (dk_at dksJ13_isLatin1_0 10 rfl rfl)
theorem dJ13_isLatin1_13 : decode cJ13_isLatin1 13 = .ok (.iconst 1, 1) := dk_4 (dk_at dksJ13_isLatin1_0 13 rfl rfl)
theorem dJ13_isLatin1_14 : decode cJ13_isLatin1 14 = .ok (.goto 4, 3) := dk_167 0 4 (dk_at dksJ13_isLatin1_0 14 rfl rfl)
theorem dJ13_isLatin1_17 : decode cJ13_isLatin1 17 = .ok (.iconst 0, 1) := dk_3 (dk_at dksJ13_isLatin1_0 17 rfl rfl)
theorem dJ13_isLatin1_18 : decode cJ13_isLatin1 18 = .ok (.ireturn, 1) := dk_172 (dk_at dksJ13_isLatin1_0 18 rfl rfl)
abbrev cJ13_charAt : ByteArray := prog_10_method_14_code
def yJ13_charAt : MethodName := ⟨RJ13, "charAt", "(I)C"⟩
def dkwJ13_charAt_1 : List UInt8 := [21, 4, 184, 0, 144, 28, 154, 0, 12, 45, 27, 51, 17, 0, 255, 126, 146, 172, 45, 27, 184, 0, 148, 172]
abbrev dktJ13_charAt_1 : List UInt8 := dkwJ13_charAt_1 ++ []
def dkwJ13_charAt_0 : List UInt8 := [42, 180, 0, 22, 61, 42, 180, 0, 15, 78, 42, 180, 0, 79, 45, 190, 28, 122, 184, 0, 138, 54, 4, 27]
abbrev dktJ13_charAt_0 : List UInt8 := dkwJ13_charAt_0 ++ dktJ13_charAt_1
theorem dksJ13_charAt_0 : cJ13_charAt.data.toList.drop 0 = dktJ13_charAt_0 := by decide +kernel
theorem dksJ13_charAt_1 : cJ13_charAt.data.toList.drop 24 = dktJ13_charAt_1 := dk_seg dksJ13_charAt_0 24 rfl rfl
theorem dJ13_charAt_0 : decode cJ13_charAt 0 = .ok (.aload_n 0, 1) := dk_42 (dk_at dksJ13_charAt_0 0 rfl rfl)
theorem dJ13_charAt_1 : decode cJ13_charAt 1 = .ok (.getfield 22, 3) := dk_180 0 22 (dk_at dksJ13_charAt_0 1 rfl rfl)
theorem dJ13_charAt_4 : decode cJ13_charAt 4 = .ok (.istore_n 2, 1) := dk_61 (dk_at dksJ13_charAt_0 4 rfl rfl)
theorem dJ13_charAt_5 : decode cJ13_charAt 5 = .ok (.aload_n 0, 1) := dk_42 (dk_at dksJ13_charAt_0 5 rfl rfl)
theorem dJ13_charAt_6 : decode cJ13_charAt 6 = .ok (.getfield 15, 3) := dk_180 0 15 (dk_at dksJ13_charAt_0 6 rfl rfl)
theorem dJ13_charAt_9 : decode cJ13_charAt 9 = .ok (.astore_n 3, 1) := dk_78 (dk_at dksJ13_charAt_0 9 rfl rfl)
theorem dJ13_charAt_10 : decode cJ13_charAt 10 = .ok (.aload_n 0, 1) := dk_42 (dk_at dksJ13_charAt_0 10 rfl rfl)
theorem dJ13_charAt_11 : decode cJ13_charAt 11 = .ok (.getfield 79, 3) := dk_180 0 79 (dk_at dksJ13_charAt_0 11 rfl rfl)
theorem dJ13_charAt_14 : decode cJ13_charAt 14 = .ok (.aload_n 3, 1) := dk_45 (dk_at dksJ13_charAt_0 14 rfl rfl)
theorem dJ13_charAt_15 : decode cJ13_charAt 15 = .ok (.arraylength, 1) := dk_190 (dk_at dksJ13_charAt_0 15 rfl rfl)
theorem dJ13_charAt_16 : decode cJ13_charAt 16 = .ok (.iload_n 2, 1) := dk_28 (dk_at dksJ13_charAt_0 16 rfl rfl)
theorem dJ13_charAt_17 : decode cJ13_charAt 17 = .ok (.ishr, 1) := dk_122 (dk_at dksJ13_charAt_0 17 rfl rfl)
theorem dJ13_charAt_18 : decode cJ13_charAt 18 = .ok (.invokestatic 138, 3) := dk_184 0 138 (dk_at dksJ13_charAt_0 18 rfl rfl)
theorem dJ13_charAt_21 : decode cJ13_charAt 21 = .ok (.istore 4, 2) := dk_54 4 (dk_at dksJ13_charAt_0 21 rfl rfl)
theorem dJ13_charAt_23 : decode cJ13_charAt 23 = .ok (.iload_n 1, 1) := dk_27 (dk_at dksJ13_charAt_0 23 rfl rfl)
theorem dJ13_charAt_24 : decode cJ13_charAt 24 = .ok (.iload 4, 2) := dk_21 4 (dk_at dksJ13_charAt_1 0 rfl rfl)
theorem dJ13_charAt_26 : decode cJ13_charAt 26 = .ok (.invokestatic 144, 3) := dk_184 0 144 (dk_at dksJ13_charAt_1 2 rfl rfl)
theorem dJ13_charAt_29 : decode cJ13_charAt 29 = .ok (.iload_n 2, 1) := dk_28 (dk_at dksJ13_charAt_1 5 rfl rfl)
theorem dJ13_charAt_30 : decode cJ13_charAt 30 = .ok (.ifCond .ne 12, 3) := dk_154 0 12 (dk_at dksJ13_charAt_1 6 rfl rfl)
theorem dJ13_charAt_33 : decode cJ13_charAt 33 = .ok (.aload_n 3, 1) := dk_45 (dk_at dksJ13_charAt_1 9 rfl rfl)
theorem dJ13_charAt_34 : decode cJ13_charAt 34 = .ok (.iload_n 1, 1) := dk_27 (dk_at dksJ13_charAt_1 10 rfl rfl)
theorem dJ13_charAt_35 : decode cJ13_charAt 35 = .ok (.baload, 1) := dk_51 (dk_at dksJ13_charAt_1 11 rfl rfl)
theorem dJ13_charAt_36 : decode cJ13_charAt 36 = .ok (.sipush 255, 3) := dk_17 0 255 (dk_at dksJ13_charAt_1 12 rfl rfl)
theorem dJ13_charAt_39 : decode cJ13_charAt 39 = .ok (.iand, 1) := dk_126 (dk_at dksJ13_charAt_1 15 rfl rfl)
theorem dJ13_charAt_40 : decode cJ13_charAt 40 = .ok (.i2c, 1) := dk_146 (dk_at dksJ13_charAt_1 16 rfl rfl)
theorem dJ13_charAt_41 : decode cJ13_charAt 41 = .ok (.ireturn, 1) := dk_172 (dk_at dksJ13_charAt_1 17 rfl rfl)
theorem dJ13_charAt_42 : decode cJ13_charAt 42 = .ok (.aload_n 3, 1) := dk_45 (dk_at dksJ13_charAt_1 18 rfl rfl)
theorem dJ13_charAt_43 : decode cJ13_charAt 43 = .ok (.iload_n 1, 1) := dk_27 (dk_at dksJ13_charAt_1 19 rfl rfl)
theorem dJ13_charAt_44 : decode cJ13_charAt 44 = .ok (.invokestatic 148, 3) := dk_184 0 148 (dk_at dksJ13_charAt_1 20 rfl rfl)
theorem dJ13_charAt_47 : decode cJ13_charAt 47 = .ok (.ireturn, 1) := dk_172 (dk_at dksJ13_charAt_1 23 rfl rfl)
abbrev cJ13_append_3 : ByteArray := prog_10_method_31_code
def yJ13_append_3 : MethodName := ⟨RJ13, "append", "(C)Ljava/lang/AbstractStringBuilder;"⟩
def dkwJ13_append_3_3 : List UInt8 := [181, 0, 79, 27, 184, 0, 197, 42, 176]
abbrev dktJ13_append_3_3 : List UInt8 := dkwJ13_append_3_3 ++ []
def dkwJ13_append_3_2 : List UInt8 := [182, 0, 83, 153, 0, 7, 42, 182, 0, 195, 42, 180, 0, 15, 42, 89, 180, 0, 79, 90, 4, 96]
abbrev dktJ13_append_3_2 : List UInt8 := dkwJ13_append_3_2 ++ dktJ13_append_3_3
def dkwJ13_append_3_1 : List UInt8 := [42, 180, 0, 15, 42, 89, 180, 0, 79, 90, 4, 96, 181, 0, 79, 27, 145, 84, 167, 0, 33, 42]
abbrev dktJ13_append_3_1 : List UInt8 := dkwJ13_append_3_1 ++ dktJ13_append_3_2
def dkwJ13_append_3_0 : List UInt8 := [42, 42, 180, 0, 79, 4, 96, 182, 0, 100, 42, 182, 0, 83, 153, 0, 31, 27, 184, 0, 191, 153, 0, 24]
abbrev dktJ13_append_3_0 : List UInt8 := dkwJ13_append_3_0 ++ dktJ13_append_3_1
theorem dksJ13_append_3_0 : cJ13_append_3.data.toList.drop 0 = dktJ13_append_3_0 := by decide +kernel
theorem dksJ13_append_3_1 : cJ13_append_3.data.toList.drop 24 = dktJ13_append_3_1 := dk_seg dksJ13_append_3_0 24 rfl rfl
theorem dksJ13_append_3_2 : cJ13_append_3.data.toList.drop 46 = dktJ13_append_3_2 := dk_seg dksJ13_append_3_1 22 rfl rfl
theorem dksJ13_append_3_3 : cJ13_append_3.data.toList.drop 68 = dktJ13_append_3_3 := dk_seg dksJ13_append_3_2 22 rfl rfl
theorem dJ13_append_3_0 : decode cJ13_append_3 0 = .ok (.aload_n 0, 1) := dk_42 (dk_at dksJ13_append_3_0 0 rfl rfl)
theorem dJ13_append_3_1 : decode cJ13_append_3 1 = .ok (.aload_n 0, 1) := dk_42 (dk_at dksJ13_append_3_0 1 rfl rfl)
theorem dJ13_append_3_2 : decode cJ13_append_3 2 = .ok (.getfield 79, 3) := dk_180 0 79 (dk_at dksJ13_append_3_0 2 rfl rfl)
theorem dJ13_append_3_5 : decode cJ13_append_3 5 = .ok (.iconst 1, 1) := dk_4 (dk_at dksJ13_append_3_0 5 rfl rfl)
theorem dJ13_append_3_6 : decode cJ13_append_3 6 = .ok (.iadd, 1) := dk_96 (dk_at dksJ13_append_3_0 6 rfl rfl)
theorem dJ13_append_3_7 : decode cJ13_append_3 7 = .ok (.invokevirtual 100, 3) := dk_182 0 100 (dk_at dksJ13_append_3_0 7 rfl rfl)
theorem dJ13_append_3_10 : decode cJ13_append_3 10 = .ok (.aload_n 0, 1) := dk_42 (dk_at dksJ13_append_3_0 10 rfl rfl)
theorem dJ13_append_3_11 : decode cJ13_append_3 11 = .ok (.invokevirtual 83, 3) := dk_182 0 83 (dk_at dksJ13_append_3_0 11 rfl rfl)
theorem dJ13_append_3_14 : decode cJ13_append_3 14 = .ok (.ifCond .eq 31, 3) := dk_153 0 31 (dk_at dksJ13_append_3_0 14 rfl rfl)
theorem dJ13_append_3_17 : decode cJ13_append_3 17 = .ok (.iload_n 1, 1) := dk_27 (dk_at dksJ13_append_3_0 17 rfl rfl)
theorem dJ13_append_3_18 : decode cJ13_append_3 18 = .ok (.invokestatic 191, 3) := dk_184 0 191 (dk_at dksJ13_append_3_0 18 rfl rfl)
theorem dJ13_append_3_21 : decode cJ13_append_3 21 = .ok (.ifCond .eq 24, 3) := dk_153 0 24 (dk_at dksJ13_append_3_0 21 rfl rfl)
theorem dJ13_append_3_24 : decode cJ13_append_3 24 = .ok (.aload_n 0, 1) := dk_42 (dk_at dksJ13_append_3_1 0 rfl rfl)
theorem dJ13_append_3_25 : decode cJ13_append_3 25 = .ok (.getfield 15, 3) := dk_180 0 15 (dk_at dksJ13_append_3_1 1 rfl rfl)
theorem dJ13_append_3_28 : decode cJ13_append_3 28 = .ok (.aload_n 0, 1) := dk_42 (dk_at dksJ13_append_3_1 4 rfl rfl)
theorem dJ13_append_3_29 : decode cJ13_append_3 29 = .ok (.dup, 1) := dk_89 (dk_at dksJ13_append_3_1 5 rfl rfl)
theorem dJ13_append_3_30 : decode cJ13_append_3 30 = .ok (.getfield 79, 3) := dk_180 0 79 (dk_at dksJ13_append_3_1 6 rfl rfl)
theorem dJ13_append_3_33 : decode cJ13_append_3 33 = .ok (.dup_x1, 1) := dk_90 (dk_at dksJ13_append_3_1 9 rfl rfl)
theorem dJ13_append_3_34 : decode cJ13_append_3 34 = .ok (.iconst 1, 1) := dk_4 (dk_at dksJ13_append_3_1 10 rfl rfl)
theorem dJ13_append_3_35 : decode cJ13_append_3 35 = .ok (.iadd, 1) := dk_96 (dk_at dksJ13_append_3_1 11 rfl rfl)
theorem dJ13_append_3_36 : decode cJ13_append_3 36 = .ok (.putfield 79, 3) := dk_181 0 79 (dk_at dksJ13_append_3_1 12 rfl rfl)
theorem dJ13_append_3_39 : decode cJ13_append_3 39 = .ok (.iload_n 1, 1) := dk_27 (dk_at dksJ13_append_3_1 15 rfl rfl)
theorem dJ13_append_3_40 : decode cJ13_append_3 40 = .ok (.i2b, 1) := dk_145 (dk_at dksJ13_append_3_1 16 rfl rfl)
theorem dJ13_append_3_41 : decode cJ13_append_3 41 = .ok (.bastore, 1) := dk_84 (dk_at dksJ13_append_3_1 17 rfl rfl)
theorem dJ13_append_3_42 : decode cJ13_append_3 42 = .ok (.goto 33, 3) := dk_167 0 33 (dk_at dksJ13_append_3_1 18 rfl rfl)
theorem dJ13_append_3_45 : decode cJ13_append_3 45 = .ok (.aload_n 0, 1) := dk_42 (dk_at dksJ13_append_3_1 21 rfl rfl)
theorem dJ13_append_3_46 : decode cJ13_append_3 46 = .ok (.invokevirtual 83, 3) := dk_182 0 83 (dk_at dksJ13_append_3_2 0 rfl rfl)
theorem dJ13_append_3_49 : decode cJ13_append_3 49 = .ok (.ifCond .eq 7, 3) := dk_153 0 7 (dk_at dksJ13_append_3_2 3 rfl rfl)
theorem dJ13_append_3_52 : decode cJ13_append_3 52 = .ok (.aload_n 0, 1) := dk_42 (dk_at dksJ13_append_3_2 6 rfl rfl)
theorem dJ13_append_3_53 : decode cJ13_append_3 53 = .ok (.invokevirtual 195, 3) := dk_182 0 195 (dk_at dksJ13_append_3_2 7 rfl rfl)
theorem dJ13_append_3_56 : decode cJ13_append_3 56 = .ok (.aload_n 0, 1) := dk_42 (dk_at dksJ13_append_3_2 10 rfl rfl)
theorem dJ13_append_3_57 : decode cJ13_append_3 57 = .ok (.getfield 15, 3) := dk_180 0 15 (dk_at dksJ13_append_3_2 11 rfl rfl)
theorem dJ13_append_3_60 : decode cJ13_append_3 60 = .ok (.aload_n 0, 1) := dk_42 (dk_at dksJ13_append_3_2 14 rfl rfl)
theorem dJ13_append_3_61 : decode cJ13_append_3 61 = .ok (.dup, 1) := dk_89 (dk_at dksJ13_append_3_2 15 rfl rfl)
theorem dJ13_append_3_62 : decode cJ13_append_3 62 = .ok (.getfield 79, 3) := dk_180 0 79 (dk_at dksJ13_append_3_2 16 rfl rfl)
theorem dJ13_append_3_65 : decode cJ13_append_3 65 = .ok (.dup_x1, 1) := dk_90 (dk_at dksJ13_append_3_2 19 rfl rfl)
theorem dJ13_append_3_66 : decode cJ13_append_3 66 = .ok (.iconst 1, 1) := dk_4 (dk_at dksJ13_append_3_2 20 rfl rfl)
theorem dJ13_append_3_67 : decode cJ13_append_3 67 = .ok (.iadd, 1) := dk_96 (dk_at dksJ13_append_3_2 21 rfl rfl)
theorem dJ13_append_3_68 : decode cJ13_append_3 68 = .ok (.putfield 79, 3) := dk_181 0 79 (dk_at dksJ13_append_3_3 0 rfl rfl)
theorem dJ13_append_3_71 : decode cJ13_append_3 71 = .ok (.iload_n 1, 1) := dk_27 (dk_at dksJ13_append_3_3 3 rfl rfl)
theorem dJ13_append_3_72 : decode cJ13_append_3 72 = .ok (.invokestatic 197, 3) := dk_184 0 197 (dk_at dksJ13_append_3_3 4 rfl rfl)
theorem dJ13_append_3_75 : decode cJ13_append_3 75 = .ok (.aload_n 0, 1) := dk_42 (dk_at dksJ13_append_3_3 7 rfl rfl)
theorem dJ13_append_3_76 : decode cJ13_append_3 76 = .ok (.areturn, 1) := dk_176 (dk_at dksJ13_append_3_3 8 rfl rfl)
theorem q110 : (Jvm.Cond.initialized "java/lang/AbstractStringBuilder") ∈ lw_all := lw_g (lw_at lw_m1 18 rfl) rfl
theorem q479 : (Jvm.Cond.instanceMethod ({ cls := "java/lang/AbstractStringBuilder", name := "<init>", desc := "(I)V" } : Jvm.MethodName)) ∈ lw_all := lw_g (lw_at lw_m2 147 rfl) rfl
theorem q480 : (Jvm.Cond.code ({ cls := "java/lang/AbstractStringBuilder", name := "<init>", desc := "(I)V" } : Jvm.MethodName) prog_10_method_2_code (2 : Nat) (Option.none : Option Jvm.ClassFile.FieldType)) ∈ lw_all := lw_g (lw_at lw_m2 148 rfl) rfl
theorem q481 : (Jvm.Cond.methodLink "java/lang/AbstractStringBuilder" (3 : Nat) ({ cls := "java/lang/Object", name := "<init>", desc := "()V" } : Jvm.MethodName)) ∈ lw_all := lw_g (lw_at lw_m2 149 rfl) rfl
theorem q482 : (Jvm.Cond.fieldLink "java/lang/AbstractStringBuilder" (18 : Nat) "java/lang/String" "COMPACT_STRINGS" "Z") ∈ lw_all := lw_g (lw_at lw_m2 150 rfl) rfl
theorem q484 : (Jvm.Cond.methodLink "java/lang/AbstractStringBuilder" (26 : Nat) ({ cls := "java/lang/StringUTF16", name := "newBytesFor", desc := "(I)[B" } : Jvm.MethodName)) ∈ lw_all := lw_g (lw_at lw_m2 152 rfl) rfl
theorem q491 : (Jvm.Cond.fieldLink "java/lang/AbstractStringBuilder" (15 : Nat) "java/lang/AbstractStringBuilder" "value" "[B") ∈ lw_all := lw_g (lw_at lw_m2 159 rfl) rfl
theorem q492 : (Jvm.Cond.fieldLink "java/lang/AbstractStringBuilder" (22 : Nat) "java/lang/AbstractStringBuilder" "coder" "B") ∈ lw_all := lw_g (lw_at lw_m2 160 rfl) rfl
theorem q493 : (Jvm.Cond.fieldLink "java/lang/AbstractStringBuilder" (73 : Nat) "java/lang/AbstractStringBuilder" "maybeLatin1" "Z") ∈ lw_all := lw_g (lw_at lw_m2 161 rfl) rfl
theorem q495 : (Jvm.Cond.fieldLink "java/lang/AbstractStringBuilder" (79 : Nat) "java/lang/AbstractStringBuilder" "count" "I") ∈ lw_all := lw_g (lw_at lw_m2 163 rfl) rfl
theorem q497 : (Jvm.Cond.soleField "java/lang/AbstractStringBuilder" "value") ∈ lw_all := lw_g (lw_at lw_m2 165 rfl) rfl
theorem q499 : (Jvm.Cond.soleField "java/lang/AbstractStringBuilder" "coder") ∈ lw_all := lw_g (lw_at lw_m2 167 rfl) rfl
theorem q501 : (Jvm.Cond.soleField "java/lang/AbstractStringBuilder" "maybeLatin1") ∈ lw_all := lw_g (lw_at lw_m2 169 rfl) rfl
theorem q503 : (Jvm.Cond.soleField "java/lang/AbstractStringBuilder" "count") ∈ lw_all := lw_g (lw_at lw_m2 171 rfl) rfl
theorem q532 : (Jvm.Cond.instanceMethod ({ cls := "java/lang/AbstractStringBuilder", name := "length", desc := "()I" } : Jvm.MethodName)) ∈ lw_all := lw_g (lw_at lw_m2 200 rfl) rfl
theorem q533 : (Jvm.Cond.code ({ cls := "java/lang/AbstractStringBuilder", name := "length", desc := "()I" } : Jvm.MethodName) prog_10_method_6_code (1 : Nat) (Option.some Jvm.ClassFile.FieldType.int)) ∈ lw_all := lw_g (lw_at lw_m2 201 rfl) rfl
theorem q539 : (Jvm.Cond.instanceMethod ({ cls := "java/lang/AbstractStringBuilder", name := "setLength", desc := "(I)V" } : Jvm.MethodName)) ∈ lw_all := lw_g (lw_at lw_m2 207 rfl) rfl
theorem q540 : (Jvm.Cond.code ({ cls := "java/lang/AbstractStringBuilder", name := "setLength", desc := "(I)V" } : Jvm.MethodName) prog_10_method_13_code (2 : Nat) (Option.none : Option Jvm.ClassFile.FieldType)) ∈ lw_all := lw_g (lw_at lw_m2 208 rfl) rfl
theorem q541 : (Jvm.Cond.classLink "java/lang/AbstractStringBuilder" (129 : Nat) "java/lang/StringIndexOutOfBoundsException") ∈ lw_all := lw_g (lw_at lw_m2 209 rfl) rfl
theorem q543 : (Jvm.Cond.methodLink "java/lang/AbstractStringBuilder" (131 : Nat) ({ cls := "java/lang/StringIndexOutOfBoundsException", name := "<init>", desc := "(I)V" } : Jvm.MethodName)) ∈ lw_all := lw_g (lw_at lw_m2 211 rfl) rfl
theorem q556 : (Jvm.Cond.instanceMethod ({ cls := "java/lang/AbstractStringBuilder", name := "append", desc := "(Ljava/lang/String;)Ljava/lang/AbstractStringBuilder;" } : Jvm.MethodName)) ∈ lw_all := lw_g (lw_at lw_m2 224 rfl) rfl
theorem q557 : (Jvm.Cond.code ({ cls := "java/lang/AbstractStringBuilder", name := "append", desc := "(Ljava/lang/String;)Ljava/lang/AbstractStringBuilder;" } : Jvm.MethodName) prog_10_method_22_code (3 : Nat) (Option.some (Jvm.ClassFile.FieldType.object "java/lang/AbstractStringBuilder"))) ∈ lw_all := lw_g (lw_at lw_m2 225 rfl) rfl
theorem q558 : (Jvm.Cond.methodLink "java/lang/AbstractStringBuilder" (204 : Nat) ({ cls := "java/lang/AbstractStringBuilder", name := "appendNull", desc := "()Ljava/lang/AbstractStringBuilder;" } : Jvm.MethodName)) ∈ lw_all := lw_g (lw_at lw_m2 226 rfl) rfl
theorem q559 : (Jvm.Cond.privateMethod ({ cls := "java/lang/AbstractStringBuilder", name := "appendNull", desc := "()Ljava/lang/AbstractStringBuilder;" } : Jvm.MethodName)) ∈ lw_tbl := lw_at lw_m2 227 rfl
theorem q560 : (Jvm.Cond.instanceMethod ({ cls := "java/lang/AbstractStringBuilder", name := "appendNull", desc := "()Ljava/lang/AbstractStringBuilder;" } : Jvm.MethodName)) ∈ lw_all := lw_g (lw_at lw_m2 228 rfl) rfl
theorem q561 : (Jvm.Cond.code ({ cls := "java/lang/AbstractStringBuilder", name := "appendNull", desc := "()Ljava/lang/AbstractStringBuilder;" } : Jvm.MethodName) prog_10_method_26_code (3 : Nat) (Option.some (Jvm.ClassFile.FieldType.object "java/lang/AbstractStringBuilder"))) ∈ lw_all := lw_g (lw_at lw_m2 229 rfl) rfl
theorem q562 : (Jvm.Cond.methodLink "java/lang/AbstractStringBuilder" (100 : Nat) ({ cls := "java/lang/AbstractStringBuilder", name := "ensureCapacityInternal", desc := "(I)V" } : Jvm.MethodName)) ∈ lw_all := lw_g (lw_at lw_m2 230 rfl) rfl
theorem q563 : (Jvm.Cond.privateMethod ({ cls := "java/lang/AbstractStringBuilder", name := "ensureCapacityInternal", desc := "(I)V" } : Jvm.MethodName)) ∈ lw_tbl := lw_at lw_m2 231 rfl
theorem q564 : (Jvm.Cond.instanceMethod ({ cls := "java/lang/AbstractStringBuilder", name := "ensureCapacityInternal", desc := "(I)V" } : Jvm.MethodName)) ∈ lw_all := lw_g (lw_at lw_m2 232 rfl) rfl
theorem q565 : (Jvm.Cond.code ({ cls := "java/lang/AbstractStringBuilder", name := "ensureCapacityInternal", desc := "(I)V" } : Jvm.MethodName) prog_10_method_9_code (3 : Nat) (Option.none : Option Jvm.ClassFile.FieldType)) ∈ lw_all := lw_g (lw_at lw_m2 233 rfl) rfl
theorem q566 : (Jvm.Cond.methodLink "java/lang/AbstractStringBuilder" (104 : Nat) ({ cls := "java/lang/AbstractStringBuilder", name := "newCapacity", desc := "(I)I" } : Jvm.MethodName)) ∈ lw_all := lw_g (lw_at lw_m2 234 rfl) rfl
theorem q567 : (Jvm.Cond.privateMethod ({ cls := "java/lang/AbstractStringBuilder", name := "newCapacity", desc := "(I)I" } : Jvm.MethodName)) ∈ lw_tbl := lw_at lw_m2 235 rfl
theorem q568 : (Jvm.Cond.instanceMethod ({ cls := "java/lang/AbstractStringBuilder", name := "newCapacity", desc := "(I)I" } : Jvm.MethodName)) ∈ lw_all := lw_g (lw_at lw_m2 236 rfl) rfl
theorem q569 : (Jvm.Cond.code ({ cls := "java/lang/AbstractStringBuilder", name := "newCapacity", desc := "(I)I" } : Jvm.MethodName) prog_10_method_10_code (6 : Nat) (Option.some Jvm.ClassFile.FieldType.int)) ∈ lw_all := lw_g (lw_at lw_m2 237 rfl) rfl
theorem q570 : (Jvm.Cond.methodLink "java/lang/AbstractStringBuilder" (114 : Nat) ({ cls := "jdk/internal/util/ArraysSupport", name := "newLength", desc := "(III)I" } : Jvm.MethodName)) ∈ lw_all := lw_g (lw_at lw_m2 238 rfl) rfl
theorem q580 : (Jvm.Cond.constant "java/lang/AbstractStringBuilder" (39 : Nat) (2147483647 : Int32)) ∈ lw_all := lw_g (lw_at lw_m3 8 rfl) rfl
theorem q581 : (Jvm.Cond.methodLink "java/lang/AbstractStringBuilder" (108 : Nat) ({ cls := "java/util/Arrays", name := "copyOf", desc := "([BI)[B" } : Jvm.MethodName)) ∈ lw_all := lw_g (lw_at lw_m3 9 rfl) rfl
theorem q597 : (Jvm.Cond.methodLink "java/lang/AbstractStringBuilder" (83 : Nat) ({ cls := "java/lang/AbstractStringBuilder", name := "isLatin1", desc := "()Z" } : Jvm.MethodName)) ∈ lw_all := lw_g (lw_at lw_m3 25 rfl) rfl
theorem q598 : (Jvm.Cond.instanceMethod ({ cls := "java/lang/AbstractStringBuilder", name := "isLatin1", desc := "()Z" } : Jvm.MethodName)) ∈ lw_all := lw_g (lw_at lw_m3 26 rfl) rfl
theorem q599 : (Jvm.Cond.sameMethod "java/lang/AbstractStringBuilder" "java/lang/AbstractStringBuilder" "isLatin1" "()Z") ∈ lw_all := lw_g (lw_at lw_m3 27 rfl) rfl
theorem q601 : (Jvm.Cond.code ({ cls := "java/lang/AbstractStringBuilder", name := "isLatin1", desc := "()Z" } : Jvm.MethodName) prog_10_method_68_code (1 : Nat) (Option.some Jvm.ClassFile.FieldType.boolean)) ∈ lw_all := lw_g (lw_at lw_m3 29 rfl) rfl
theorem q602 : (Jvm.Cond.methodLink "java/lang/AbstractStringBuilder" (226 : Nat) ({ cls := "java/lang/StringUTF16", name := "putCharsAt", desc := "([BICCCC)I" } : Jvm.MethodName)) ∈ lw_all := lw_g (lw_at lw_m3 30 rfl) rfl
theorem q628 : (Jvm.Cond.methodLink "java/lang/AbstractStringBuilder" (32 : Nat) ({ cls := "java/lang/String", name := "length", desc := "()I" } : Jvm.MethodName)) ∈ lw_all := lw_g (lw_at lw_m3 56 rfl) rfl
theorem q637 : (Jvm.Cond.methodLink "java/lang/AbstractStringBuilder" (208 : Nat) ({ cls := "java/lang/AbstractStringBuilder", name := "putStringAt", desc := "(ILjava/lang/String;)V" } : Jvm.MethodName)) ∈ lw_all := lw_g (lw_at lw_m3 65 rfl) rfl
theorem q638 : (Jvm.Cond.privateMethod ({ cls := "java/lang/AbstractStringBuilder", name := "putStringAt", desc := "(ILjava/lang/String;)V" } : Jvm.MethodName)) ∈ lw_tbl := lw_at lw_m3 66 rfl
theorem q639 : (Jvm.Cond.instanceMethod ({ cls := "java/lang/AbstractStringBuilder", name := "putStringAt", desc := "(ILjava/lang/String;)V" } : Jvm.MethodName)) ∈ lw_all := lw_g (lw_at lw_m3 67 rfl) rfl
theorem q640 : (Jvm.Cond.code ({ cls := "java/lang/AbstractStringBuilder", name := "putStringAt", desc := "(ILjava/lang/String;)V" } : Jvm.MethodName) prog_10_method_73_code (3 : Nat) (Option.none : Option Jvm.ClassFile.FieldType)) ∈ lw_all := lw_g (lw_at lw_m3 68 rfl) rfl
theorem q641 : (Jvm.Cond.methodLink "java/lang/AbstractStringBuilder" (397 : Nat) ({ cls := "java/lang/AbstractStringBuilder", name := "inflateIfNeededFor", desc := "(Ljava/lang/String;)V" } : Jvm.MethodName)) ∈ lw_all := lw_g (lw_at lw_m3 69 rfl) rfl
theorem q642 : (Jvm.Cond.privateMethod ({ cls := "java/lang/AbstractStringBuilder", name := "inflateIfNeededFor", desc := "(Ljava/lang/String;)V" } : Jvm.MethodName)) ∈ lw_tbl := lw_at lw_m3 70 rfl
theorem q643 : (Jvm.Cond.instanceMethod ({ cls := "java/lang/AbstractStringBuilder", name := "inflateIfNeededFor", desc := "(Ljava/lang/String;)V" } : Jvm.MethodName)) ∈ lw_all := lw_g (lw_at lw_m3 71 rfl) rfl
theorem q644 : (Jvm.Cond.code ({ cls := "java/lang/AbstractStringBuilder", name := "inflateIfNeededFor", desc := "(Ljava/lang/String;)V" } : Jvm.MethodName) prog_10_method_71_code (2 : Nat) (Option.none : Option Jvm.ClassFile.FieldType)) ∈ lw_all := lw_g (lw_at lw_m3 72 rfl) rfl
theorem q645 : (Jvm.Cond.methodLink "java/lang/AbstractStringBuilder" (40 : Nat) ({ cls := "java/lang/String", name := "coder", desc := "()B" } : Jvm.MethodName)) ∈ lw_all := lw_g (lw_at lw_m3 73 rfl) rfl
theorem q646 : (Jvm.Cond.methodLink "java/lang/AbstractStringBuilder" (195 : Nat) ({ cls := "java/lang/AbstractStringBuilder", name := "inflate", desc := "()V" } : Jvm.MethodName)) ∈ lw_all := lw_g (lw_at lw_m3 74 rfl) rfl
theorem q647 : (Jvm.Cond.privateMethod ({ cls := "java/lang/AbstractStringBuilder", name := "inflate", desc := "()V" } : Jvm.MethodName)) ∈ lw_tbl := lw_at lw_m3 75 rfl
theorem q648 : (Jvm.Cond.instanceMethod ({ cls := "java/lang/AbstractStringBuilder", name := "inflate", desc := "()V" } : Jvm.MethodName)) ∈ lw_all := lw_g (lw_at lw_m3 76 rfl) rfl
theorem q649 : (Jvm.Cond.code ({ cls := "java/lang/AbstractStringBuilder", name := "inflate", desc := "()V" } : Jvm.MethodName) prog_10_method_11_code (2 : Nat) (Option.none : Option Jvm.ClassFile.FieldType)) ∈ lw_all := lw_g (lw_at lw_m3 77 rfl) rfl
theorem q650 : (Jvm.Cond.methodLink "java/lang/AbstractStringBuilder" (125 : Nat) ({ cls := "java/lang/StringLatin1", name := "inflate", desc := "([BI[BII)V" } : Jvm.MethodName)) ∈ lw_all := lw_g (lw_at lw_m3 78 rfl) rfl
theorem q665 : (Jvm.Cond.methodLink "java/lang/AbstractStringBuilder" (399 : Nat) ({ cls := "java/lang/String", name := "getBytes", desc := "([BIB)V" } : Jvm.MethodName)) ∈ lw_all := lw_g (lw_at lw_m3 93 rfl) rfl
theorem q676 : (Jvm.Cond.instanceMethod ({ cls := "java/lang/AbstractStringBuilder", name := "append", desc := "(I)Ljava/lang/AbstractStringBuilder;" } : Jvm.MethodName)) ∈ lw_all := lw_g (lw_at lw_m3 104 rfl) rfl
theorem q677 : (Jvm.Cond.code ({ cls := "java/lang/AbstractStringBuilder", name := "append", desc := "(I)Ljava/lang/AbstractStringBuilder;" } : Jvm.MethodName) prog_10_method_32_code (4 : Nat) (Option.some (Jvm.ClassFile.FieldType.object "java/lang/AbstractStringBuilder"))) ∈ lw_all := lw_g (lw_at lw_m3 105 rfl) rfl
theorem q678 : (Jvm.Cond.methodLink "java/lang/AbstractStringBuilder" (245 : Nat) ({ cls := "java/lang/Integer", name := "stringSize", desc := "(I)I" } : Jvm.MethodName)) ∈ lw_all := lw_g (lw_at lw_m3 106 rfl) rfl
theorem q681 : (Jvm.Cond.methodLink "java/lang/AbstractStringBuilder" (248 : Nat) ({ cls := "java/lang/Integer", name := "getChars", desc := "(II[B)I" } : Jvm.MethodName)) ∈ lw_all := lw_g (lw_at lw_m3 109 rfl) rfl
theorem q688 : (Jvm.Cond.methodLink "java/lang/AbstractStringBuilder" (251 : Nat) ({ cls := "java/lang/StringUTF16", name := "getChars", desc := "(III[B)I" } : Jvm.MethodName)) ∈ lw_all := lw_g (lw_at lw_m3 116 rfl) rfl
theorem q710 : (Jvm.Cond.instanceMethod ({ cls := "java/lang/AbstractStringBuilder", name := "getValue", desc := "()[B" } : Jvm.MethodName)) ∈ lw_all := lw_g (lw_at lw_m3 138 rfl) rfl
theorem q711 : (Jvm.Cond.sameMethod "java/lang/AbstractStringBuilder" "java/lang/AbstractStringBuilder" "getValue" "()[B") ∈ lw_all := lw_g (lw_at lw_m3 139 rfl) rfl
theorem q713 : (Jvm.Cond.code ({ cls := "java/lang/AbstractStringBuilder", name := "getValue", desc := "()[B" } : Jvm.MethodName) prog_10_method_64_code (1 : Nat) (Option.some (Jvm.ClassFile.FieldType.array Jvm.ClassFile.FieldType.byte))) ∈ lw_all := lw_g (lw_at lw_m3 141 rfl) rfl
theorem q779 : (Jvm.Cond.methodLink "java/lang/AbstractStringBuilder" (133 : Nat) ({ cls := "java/lang/StringLatin1", name := "fillNull", desc := "([BII)V" } : Jvm.MethodName)) ∈ lw_all := lw_g (lw_at lw_m3 207 rfl) rfl
theorem q814 : (Jvm.Cond.methodLink "java/lang/AbstractStringBuilder" (137 : Nat) ({ cls := "java/lang/StringUTF16", name := "fillNull", desc := "([BII)V" } : Jvm.MethodName)) ∈ lw_all := lw_g (lw_at lw_m4 2 rfl) rfl
theorem q866 : (Jvm.Cond.instanceMethod ({ cls := "java/lang/AbstractStringBuilder", name := "charAt", desc := "(I)C" } : Jvm.MethodName)) ∈ lw_all := lw_g (lw_at lw_m4 54 rfl) rfl
theorem q867 : (Jvm.Cond.code ({ cls := "java/lang/AbstractStringBuilder", name := "charAt", desc := "(I)C" } : Jvm.MethodName) prog_10_method_14_code (5 : Nat) (Option.some Jvm.ClassFile.FieldType.char)) ∈ lw_all := lw_g (lw_at lw_m4 55 rfl) rfl
theorem q868 : (Jvm.Cond.methodLink "java/lang/AbstractStringBuilder" (138 : Nat) ({ cls := "java/lang/Math", name := "min", desc := "(II)I" } : Jvm.MethodName)) ∈ lw_all := lw_g (lw_at lw_m4 56 rfl) rfl
theorem q869 : (Jvm.Cond.methodLink "java/lang/AbstractStringBuilder" (144 : Nat) ({ cls := "java/lang/String", name := "checkIndex", desc := "(II)V" } : Jvm.MethodName)) ∈ lw_all := lw_g (lw_at lw_m4 57 rfl) rfl
theorem q875 : (Jvm.Cond.methodLink "java/lang/AbstractStringBuilder" (148 : Nat) ({ cls := "java/lang/StringUTF16", name := "getChar", desc := "([BI)C" } : Jvm.MethodName)) ∈ lw_all := lw_g (lw_at lw_m4 63 rfl) rfl
theorem q1337 : (Jvm.Cond.instanceMethod ({ cls := "java/lang/AbstractStringBuilder", name := "compareTo", desc := "(Ljava/lang/AbstractStringBuilder;)I" } : Jvm.MethodName)) ∈ lw_all := lw_g (lw_at lw_m6 45 rfl) rfl
theorem q1338 : (Jvm.Cond.code ({ cls := "java/lang/AbstractStringBuilder", name := "compareTo", desc := "(Ljava/lang/AbstractStringBuilder;)I" } : Jvm.MethodName) prog_10_method_5_code (6 : Nat) (Option.some Jvm.ClassFile.FieldType.int)) ∈ lw_all := lw_g (lw_at lw_m6 46 rfl) rfl
theorem q1339 : (Jvm.Cond.methodLink "java/lang/AbstractStringBuilder" (87 : Nat) ({ cls := "java/lang/StringLatin1", name := "compareTo", desc := "([B[BII)I" } : Jvm.MethodName)) ∈ lw_all := lw_g (lw_at lw_m6 47 rfl) rfl
theorem q1340 : (Jvm.Cond.methodLink "java/lang/AbstractStringBuilder" (93 : Nat) ({ cls := "java/lang/StringUTF16", name := "compareTo", desc := "([B[BII)I" } : Jvm.MethodName)) ∈ lw_all := lw_g (lw_at lw_m6 48 rfl) rfl
theorem q1349 : (Jvm.Cond.methodLink "java/lang/AbstractStringBuilder" (94 : Nat) ({ cls := "java/lang/StringLatin1", name := "compareToUTF16", desc := "([B[BII)I" } : Jvm.MethodName)) ∈ lw_all := lw_g (lw_at lw_m6 57 rfl) rfl
theorem q1353 : (Jvm.Cond.methodLink "java/lang/AbstractStringBuilder" (97 : Nat) ({ cls := "java/lang/StringUTF16", name := "compareToLatin1", desc := "([B[BII)I" } : Jvm.MethodName)) ∈ lw_all := lw_g (lw_at lw_m6 61 rfl) rfl
theorem q2014 : (Jvm.Cond.instanceMethod ({ cls := "java/lang/AbstractStringBuilder", name := "append", desc := "(C)Ljava/lang/AbstractStringBuilder;" } : Jvm.MethodName)) ∈ lw_all := lw_g (lw_at lw_m9 2 rfl) rfl
theorem q2015 : (Jvm.Cond.code ({ cls := "java/lang/AbstractStringBuilder", name := "append", desc := "(C)Ljava/lang/AbstractStringBuilder;" } : Jvm.MethodName) prog_10_method_31_code (2 : Nat) (Option.some (Jvm.ClassFile.FieldType.object "java/lang/AbstractStringBuilder"))) ∈ lw_all := lw_g (lw_at lw_m9 3 rfl) rfl
theorem q2016 : (Jvm.Cond.methodLink "java/lang/AbstractStringBuilder" (191 : Nat) ({ cls := "java/lang/StringLatin1", name := "canEncode", desc := "(C)Z" } : Jvm.MethodName)) ∈ lw_all := lw_g (lw_at lw_m9 4 rfl) rfl
theorem q2019 : (Jvm.Cond.methodLink "java/lang/AbstractStringBuilder" (197 : Nat) ({ cls := "java/lang/StringUTF16", name := "putCharSB", desc := "([BII)V" } : Jvm.MethodName)) ∈ lw_all := lw_g (lw_at lw_m9 7 rfl) rfl
theorem q2512 : (Jvm.Cond.sameMethod "java/lang/AbstractStringBuilder" "java/lang/AbstractStringBuilder" "length" "()I") ∈ lw_all := lw_g (lw_at lw_m11 20 rfl) rfl
theorem q2513 : (Jvm.Cond.sameMethod "java/lang/AbstractStringBuilder" "java/lang/AbstractStringBuilder" "setLength" "(I)V") ∈ lw_all := lw_g (lw_at lw_m11 21 rfl) rfl
theorem q2514 : (Jvm.Cond.sameMethod "java/lang/AbstractStringBuilder" "java/lang/AbstractStringBuilder" "append" "(Ljava/lang/String;)Ljava/lang/AbstractStringBuilder;") ∈ lw_all := lw_g (lw_at lw_m11 22 rfl) rfl
theorem q2515 : (Jvm.Cond.sameMethod "java/lang/AbstractStringBuilder" "java/lang/AbstractStringBuilder" "appendNull" "()Ljava/lang/AbstractStringBuilder;") ∈ lw_all := lw_g (lw_at lw_m11 23 rfl) rfl
theorem q2516 : (Jvm.Cond.sameMethod "java/lang/AbstractStringBuilder" "java/lang/AbstractStringBuilder" "ensureCapacityInternal" "(I)V") ∈ lw_all := lw_g (lw_at lw_m11 24 rfl) rfl
theorem q2517 : (Jvm.Cond.sameMethod "java/lang/AbstractStringBuilder" "java/lang/AbstractStringBuilder" "newCapacity" "(I)I") ∈ lw_all := lw_g (lw_at lw_m11 25 rfl) rfl
theorem q2518 : (Jvm.Cond.sameMethod "java/lang/AbstractStringBuilder" "java/lang/AbstractStringBuilder" "putStringAt" "(ILjava/lang/String;)V") ∈ lw_all := lw_g (lw_at lw_m11 26 rfl) rfl
theorem q2519 : (Jvm.Cond.sameMethod "java/lang/AbstractStringBuilder" "java/lang/AbstractStringBuilder" "inflateIfNeededFor" "(Ljava/lang/String;)V") ∈ lw_all := lw_g (lw_at lw_m11 27 rfl) rfl
theorem q2520 : (Jvm.Cond.sameMethod "java/lang/AbstractStringBuilder" "java/lang/AbstractStringBuilder" "inflate" "()V") ∈ lw_all := lw_g (lw_at lw_m11 28 rfl) rfl
theorem q2521 : (Jvm.Cond.sameMethod "java/lang/AbstractStringBuilder" "java/lang/AbstractStringBuilder" "append" "(I)Ljava/lang/AbstractStringBuilder;") ∈ lw_all := lw_g (lw_at lw_m11 29 rfl) rfl
theorem q2523 : (Jvm.Cond.sameMethod "java/lang/AbstractStringBuilder" "java/lang/AbstractStringBuilder" "charAt" "(I)C") ∈ lw_all := lw_g (lw_at lw_m11 31 rfl) rfl
theorem q2524 : (Jvm.Cond.sameMethod "java/lang/AbstractStringBuilder" "java/lang/AbstractStringBuilder" "compareTo" "(Ljava/lang/AbstractStringBuilder;)I") ∈ lw_all := lw_g (lw_at lw_m11 32 rfl) rfl
theorem q2528 : (Jvm.Cond.sameMethod "java/lang/AbstractStringBuilder" "java/lang/AbstractStringBuilder" "append" "(C)Ljava/lang/AbstractStringBuilder;") ∈ lw_all := lw_g (lw_at lw_m11 36 rfl) rfl
/-! java/lang/StringBuilder -/
set_option maxRecDepth 100000
def RJ14 : String := "java/lang/StringBuilder"
def TJ14 : u_T := fun k => match k with
  | 0 => ("java/lang/AbstractStringBuilder", "value", "[B", false)
  | 1 => ("java/lang/AbstractStringBuilder", "coder", "B", false)
  | 2 => ("java/lang/AbstractStringBuilder", "maybeLatin1", "Z", false)
  | _ => ("java/lang/AbstractStringBuilder", "count", "I", false)
def tyJ14 : Nat → FieldType := fun k => match k with
  | 0 => .array .byte
  | 1 => .byte
  | 2 => .boolean
  | _ => .int
abbrev wsJ140 : List Cond := u_ws RJ14 TJ14 4
theorem nmJ14 : ∀ a, a < 4 → ∀ b, b < 4 → a ≠ b → (TJ14 a).2.1 ≠ (TJ14 b).2.1 := by decide +kernel
theorem tyJ14_ok : ∀ k, k < 4 → parseFieldDescriptor (TJ14 k).2.2.1 = some (tyJ14 k) := by decide +kernel
abbrev cJ14_init : ByteArray := prog_29_method_2_code
def yJ14_init : MethodName := ⟨RJ14, "<init>", "(I)V"⟩
def dkwJ14_init_0 : List UInt8 := [42, 27, 183, 0, 1, 177]
abbrev dktJ14_init_0 : List UInt8 := dkwJ14_init_0 ++ []
theorem dksJ14_init_0 : cJ14_init.data.toList.drop 0 = dktJ14_init_0 := by decide +kernel
theorem dJ14_init_0 : decode cJ14_init 0 = .ok (.aload_n 0, 1) := dk_42 (dk_at dksJ14_init_0 0 rfl rfl)
theorem dJ14_init_1 : decode cJ14_init 1 = .ok (.iload_n 1, 1) := dk_27 (dk_at dksJ14_init_0 1 rfl rfl)
theorem dJ14_init_2 : decode cJ14_init 2 = .ok (.invokespecial 1, 3) := dk_183 0 1 (dk_at dksJ14_init_0 2 rfl rfl)
theorem dJ14_init_5 : decode cJ14_init 5 = .ok (.return_, 1) := dk_177 (dk_at dksJ14_init_0 5 rfl rfl)
abbrev cJ14_length : ByteArray := prog_29_method_93_code
def yJ14_length : MethodName := ⟨RJ14, "length", "()I"⟩
theorem dJ14_length_0 : decode cJ14_length 0 = .ok (.aload_n 0, 1) := by decide +kernel
theorem dJ14_length_1 : decode cJ14_length 1 = .ok (.invokespecial 343, 3) := by decide +kernel
theorem dJ14_length_4 : decode cJ14_length 4 = .ok (.ireturn, 1) := by decide +kernel
abbrev cJ14_setLength : ByteArray := prog_29_method_89_code
def yJ14_setLength : MethodName := ⟨RJ14, "setLength", "(I)V"⟩
def dkwJ14_setLength_0 : List UInt8 := [42, 27, 183, 1, 77, 177]
abbrev dktJ14_setLength_0 : List UInt8 := dkwJ14_setLength_0 ++ []
theorem dksJ14_setLength_0 : cJ14_setLength.data.toList.drop 0 = dktJ14_setLength_0 := by decide +kernel
theorem dJ14_setLength_0 : decode cJ14_setLength 0 = .ok (.aload_n 0, 1) := dk_42 (dk_at dksJ14_setLength_0 0 rfl rfl)
theorem dJ14_setLength_1 : decode cJ14_setLength 1 = .ok (.iload_n 1, 1) := dk_27 (dk_at dksJ14_setLength_0 1 rfl rfl)
theorem dJ14_setLength_2 : decode cJ14_setLength 2 = .ok (.invokespecial 333, 3) := dk_183 1 77 (dk_at dksJ14_setLength_0 2 rfl rfl)
theorem dJ14_setLength_5 : decode cJ14_setLength 5 = .ok (.return_, 1) := dk_177 (dk_at dksJ14_setLength_0 5 rfl rfl)
abbrev cJ14_init_2 : ByteArray := prog_29_method_1_code
def yJ14_init_2 : MethodName := ⟨RJ14, "<init>", "()V"⟩
def dkwJ14_init_2_0 : List UInt8 := [42, 16, 16, 183, 0, 1, 177]
abbrev dktJ14_init_2_0 : List UInt8 := dkwJ14_init_2_0 ++ []
theorem dksJ14_init_2_0 : cJ14_init_2.data.toList.drop 0 = dktJ14_init_2_0 := by decide +kernel
theorem dJ14_init_2_0 : decode cJ14_init_2 0 = .ok (.aload_n 0, 1) := dk_42 (dk_at dksJ14_init_2_0 0 rfl rfl)
theorem dJ14_init_2_1 : decode cJ14_init_2 1 = .ok (.bipush 16, 2) := dk_16 16 (dk_at dksJ14_init_2_0 1 rfl rfl)
theorem dJ14_init_2_3 : decode cJ14_init_2 3 = .ok (.invokespecial 1, 3) := dk_183 0 1 (dk_at dksJ14_init_2_0 3 rfl rfl)
theorem dJ14_init_2_6 : decode cJ14_init_2 6 = .ok (.return_, 1) := dk_177 (dk_at dksJ14_init_2_0 6 rfl rfl)
abbrev cJ14_append : ByteArray := prog_29_method_7_code
def yJ14_append : MethodName := ⟨RJ14, "append", "(Ljava/lang/String;)Ljava/lang/StringBuilder;"⟩
def dkwJ14_append_0 : List UInt8 := [42, 43, 183, 0, 29, 87, 42, 176]
abbrev dktJ14_append_0 : List UInt8 := dkwJ14_append_0 ++ []
theorem dksJ14_append_0 : cJ14_append.data.toList.drop 0 = dktJ14_append_0 := by decide +kernel
theorem dJ14_append_0 : decode cJ14_append 0 = .ok (.aload_n 0, 1) := dk_42 (dk_at dksJ14_append_0 0 rfl rfl)
theorem dJ14_append_1 : decode cJ14_append 1 = .ok (.aload_n 1, 1) := dk_43 (dk_at dksJ14_append_0 1 rfl rfl)
theorem dJ14_append_2 : decode cJ14_append 2 = .ok (.invokespecial 29, 3) := dk_183 0 29 (dk_at dksJ14_append_0 2 rfl rfl)
theorem dJ14_append_5 : decode cJ14_append 5 = .ok (.pop, 1) := dk_87 (dk_at dksJ14_append_0 5 rfl rfl)
theorem dJ14_append_6 : decode cJ14_append 6 = .ok (.aload_n 0, 1) := dk_42 (dk_at dksJ14_append_0 6 rfl rfl)
theorem dJ14_append_7 : decode cJ14_append 7 = .ok (.areturn, 1) := dk_176 (dk_at dksJ14_append_0 7 rfl rfl)
abbrev cJ14_append_2 : ByteArray := prog_29_method_15_code
def yJ14_append_2 : MethodName := ⟨RJ14, "append", "(I)Ljava/lang/StringBuilder;"⟩
def dkwJ14_append_2_0 : List UInt8 := [42, 27, 183, 0, 53, 87, 42, 176]
abbrev dktJ14_append_2_0 : List UInt8 := dkwJ14_append_2_0 ++ []
theorem dksJ14_append_2_0 : cJ14_append_2.data.toList.drop 0 = dktJ14_append_2_0 := by decide +kernel
theorem dJ14_append_2_0 : decode cJ14_append_2 0 = .ok (.aload_n 0, 1) := dk_42 (dk_at dksJ14_append_2_0 0 rfl rfl)
theorem dJ14_append_2_1 : decode cJ14_append_2 1 = .ok (.iload_n 1, 1) := dk_27 (dk_at dksJ14_append_2_0 1 rfl rfl)
theorem dJ14_append_2_2 : decode cJ14_append_2 2 = .ok (.invokespecial 53, 3) := dk_183 0 53 (dk_at dksJ14_append_2_0 2 rfl rfl)
theorem dJ14_append_2_5 : decode cJ14_append_2 5 = .ok (.pop, 1) := dk_87 (dk_at dksJ14_append_2_0 5 rfl rfl)
theorem dJ14_append_2_6 : decode cJ14_append_2 6 = .ok (.aload_n 0, 1) := dk_42 (dk_at dksJ14_append_2_0 6 rfl rfl)
theorem dJ14_append_2_7 : decode cJ14_append_2 7 = .ok (.areturn, 1) := dk_176 (dk_at dksJ14_append_2_0 7 rfl rfl)
abbrev cJ14_toString : ByteArray := prog_29_method_42_code
def yJ14_toString : MethodName := ⟨RJ14, "toString", "()Ljava/lang/String;"⟩
def dkwJ14_toString_0 : List UInt8 := [187, 0, 18, 89, 42, 183, 0, 137, 176]
abbrev dktJ14_toString_0 : List UInt8 := dkwJ14_toString_0 ++ []
theorem dksJ14_toString_0 : cJ14_toString.data.toList.drop 0 = dktJ14_toString_0 := by decide +kernel
theorem dJ14_toString_0 : decode cJ14_toString 0 = .ok (.new 18, 3) := dk_187 0 18 (dk_at dksJ14_toString_0 0 rfl rfl)
theorem dJ14_toString_3 : decode cJ14_toString 3 = .ok (.dup, 1) := dk_89 (dk_at dksJ14_toString_0 3 rfl rfl)
theorem dJ14_toString_4 : decode cJ14_toString 4 = .ok (.aload_n 0, 1) := dk_42 (dk_at dksJ14_toString_0 4 rfl rfl)
theorem dJ14_toString_5 : decode cJ14_toString 5 = .ok (.invokespecial 137, 3) := dk_183 0 137 (dk_at dksJ14_toString_0 5 rfl rfl)
theorem dJ14_toString_8 : decode cJ14_toString 8 = .ok (.areturn, 1) := dk_176 (dk_at dksJ14_toString_0 8 rfl rfl)
abbrev cJ14_charAt : ByteArray := prog_29_method_88_code
def yJ14_charAt : MethodName := ⟨RJ14, "charAt", "(I)C"⟩
def dkwJ14_charAt_0 : List UInt8 := [42, 27, 183, 1, 73, 172]
abbrev dktJ14_charAt_0 : List UInt8 := dkwJ14_charAt_0 ++ []
theorem dksJ14_charAt_0 : cJ14_charAt.data.toList.drop 0 = dktJ14_charAt_0 := by decide +kernel
theorem dJ14_charAt_0 : decode cJ14_charAt 0 = .ok (.aload_n 0, 1) := dk_42 (dk_at dksJ14_charAt_0 0 rfl rfl)
theorem dJ14_charAt_1 : decode cJ14_charAt 1 = .ok (.iload_n 1, 1) := dk_27 (dk_at dksJ14_charAt_0 1 rfl rfl)
theorem dJ14_charAt_2 : decode cJ14_charAt 2 = .ok (.invokespecial 329, 3) := dk_183 1 73 (dk_at dksJ14_charAt_0 2 rfl rfl)
theorem dJ14_charAt_5 : decode cJ14_charAt 5 = .ok (.ireturn, 1) := dk_172 (dk_at dksJ14_charAt_0 5 rfl rfl)
abbrev cJ14_compareTo : ByteArray := prog_29_method_97_code
def yJ14_compareTo : MethodName := ⟨RJ14, "compareTo", "(Ljava/lang/Object;)I"⟩
def dkwJ14_compareTo_0 : List UInt8 := [42, 43, 192, 0, 24, 182, 1, 90, 172]
abbrev dktJ14_compareTo_0 : List UInt8 := dkwJ14_compareTo_0 ++ []
theorem dksJ14_compareTo_0 : cJ14_compareTo.data.toList.drop 0 = dktJ14_compareTo_0 := by decide +kernel
theorem dJ14_compareTo_0 : decode cJ14_compareTo 0 = .ok (.aload_n 0, 1) := dk_42 (dk_at dksJ14_compareTo_0 0 rfl rfl)
theorem dJ14_compareTo_1 : decode cJ14_compareTo 1 = .ok (.aload_n 1, 1) := dk_43 (dk_at dksJ14_compareTo_0 1 rfl rfl)
theorem dJ14_compareTo_2 : decode cJ14_compareTo 2 = .ok (.checkcast 24, 3) := dk_192 0 24 (dk_at dksJ14_compareTo_0 2 rfl rfl)
theorem dJ14_compareTo_5 : decode cJ14_compareTo 5 = .ok (.invokevirtual 346, 3) := dk_182 1 90 (dk_at dksJ14_compareTo_0 5 rfl rfl)
theorem dJ14_compareTo_8 : decode cJ14_compareTo 8 = .ok (.ireturn, 1) := dk_172 (dk_at dksJ14_compareTo_0 8 rfl rfl)
abbrev cJ14_compareTo_2 : ByteArray := prog_29_method_5_code
def yJ14_compareTo_2 : MethodName := ⟨RJ14, "compareTo", "(Ljava/lang/StringBuilder;)I"⟩
def dkwJ14_compareTo_2_0 : List UInt8 := [42, 43, 183, 0, 13, 172]
abbrev dktJ14_compareTo_2_0 : List UInt8 := dkwJ14_compareTo_2_0 ++ []
theorem dksJ14_compareTo_2_0 : cJ14_compareTo_2.data.toList.drop 0 = dktJ14_compareTo_2_0 := by decide +kernel
theorem dJ14_compareTo_2_0 : decode cJ14_compareTo_2 0 = .ok (.aload_n 0, 1) := dk_42 (dk_at dksJ14_compareTo_2_0 0 rfl rfl)
theorem dJ14_compareTo_2_1 : decode cJ14_compareTo_2 1 = .ok (.aload_n 1, 1) := dk_43 (dk_at dksJ14_compareTo_2_0 1 rfl rfl)
theorem dJ14_compareTo_2_2 : decode cJ14_compareTo_2 2 = .ok (.invokespecial 13, 3) := dk_183 0 13 (dk_at dksJ14_compareTo_2_0 2 rfl rfl)
theorem dJ14_compareTo_2_5 : decode cJ14_compareTo_2 5 = .ok (.ireturn, 1) := dk_172 (dk_at dksJ14_compareTo_2_0 5 rfl rfl)
abbrev cJ14_append_3 : ByteArray := prog_29_method_14_code
def yJ14_append_3 : MethodName := ⟨RJ14, "append", "(C)Ljava/lang/StringBuilder;"⟩
def dkwJ14_append_3_0 : List UInt8 := [42, 27, 183, 0, 50, 87, 42, 176]
abbrev dktJ14_append_3_0 : List UInt8 := dkwJ14_append_3_0 ++ []
theorem dksJ14_append_3_0 : cJ14_append_3.data.toList.drop 0 = dktJ14_append_3_0 := by decide +kernel
theorem dJ14_append_3_0 : decode cJ14_append_3 0 = .ok (.aload_n 0, 1) := dk_42 (dk_at dksJ14_append_3_0 0 rfl rfl)
theorem dJ14_append_3_1 : decode cJ14_append_3 1 = .ok (.iload_n 1, 1) := dk_27 (dk_at dksJ14_append_3_0 1 rfl rfl)
theorem dJ14_append_3_2 : decode cJ14_append_3 2 = .ok (.invokespecial 50, 3) := dk_183 0 50 (dk_at dksJ14_append_3_0 2 rfl rfl)
theorem dJ14_append_3_5 : decode cJ14_append_3 5 = .ok (.pop, 1) := dk_87 (dk_at dksJ14_append_3_0 5 rfl rfl)
theorem dJ14_append_3_6 : decode cJ14_append_3 6 = .ok (.aload_n 0, 1) := dk_42 (dk_at dksJ14_append_3_0 6 rfl rfl)
theorem dJ14_append_3_7 : decode cJ14_append_3 7 = .ok (.areturn, 1) := dk_176 (dk_at dksJ14_append_3_0 7 rfl rfl)
theorem q111 : (Jvm.Cond.initialized "java/lang/StringBuilder") ∈ lw_all := lw_g (lw_at lw_m1 19 rfl) rfl
theorem q474 : (Jvm.Cond.instantiable "java/lang/StringBuilder" (4 : Nat)) ∈ lw_all := lw_g (lw_at lw_m2 142 rfl) rfl
theorem q476 : (Jvm.Cond.instanceMethod ({ cls := "java/lang/StringBuilder", name := "<init>", desc := "(I)V" } : Jvm.MethodName)) ∈ lw_all := lw_g (lw_at lw_m2 144 rfl) rfl
theorem q477 : (Jvm.Cond.code ({ cls := "java/lang/StringBuilder", name := "<init>", desc := "(I)V" } : Jvm.MethodName) prog_29_method_2_code (2 : Nat) (Option.none : Option Jvm.ClassFile.FieldType)) ∈ lw_all := lw_g (lw_at lw_m2 145 rfl) rfl
theorem q478 : (Jvm.Cond.methodLink "java/lang/StringBuilder" (1 : Nat) ({ cls := "java/lang/AbstractStringBuilder", name := "<init>", desc := "(I)V" } : Jvm.MethodName)) ∈ lw_all := lw_g (lw_at lw_m2 146 rfl) rfl
theorem q496 : (Jvm.Cond.lays "java/lang/StringBuilder" "java/lang/AbstractStringBuilder" "value" "[B") ∈ lw_all := lw_g (lw_at lw_m2 164 rfl) rfl
theorem q498 : (Jvm.Cond.lays "java/lang/StringBuilder" "java/lang/AbstractStringBuilder" "coder" "B") ∈ lw_all := lw_g (lw_at lw_m2 166 rfl) rfl
theorem q500 : (Jvm.Cond.lays "java/lang/StringBuilder" "java/lang/AbstractStringBuilder" "maybeLatin1" "Z") ∈ lw_all := lw_g (lw_at lw_m2 168 rfl) rfl
theorem q502 : (Jvm.Cond.lays "java/lang/StringBuilder" "java/lang/AbstractStringBuilder" "count" "I") ∈ lw_all := lw_g (lw_at lw_m2 170 rfl) rfl
theorem q504 : (Jvm.Cond.superclass "java/lang/StringBuilder" "java/lang/AbstractStringBuilder") ∈ lw_all := lw_g (lw_at lw_m2 172 rfl) rfl
theorem q528 : (Jvm.Cond.instanceMethod ({ cls := "java/lang/StringBuilder", name := "length", desc := "()I" } : Jvm.MethodName)) ∈ lw_all := lw_g (lw_at lw_m2 196 rfl) rfl
theorem q529 : (Jvm.Cond.selects "java/lang/StringBuilder" ({ cls := "java/lang/StringBuilder", name := "length", desc := "()I" } : Jvm.MethodName) ({ cls := "java/lang/StringBuilder", name := "length", desc := "()I" } : Jvm.MethodName)) ∈ lw_all := lw_g (lw_at lw_m2 197 rfl) rfl
theorem q530 : (Jvm.Cond.code ({ cls := "java/lang/StringBuilder", name := "length", desc := "()I" } : Jvm.MethodName) prog_29_method_93_code (1 : Nat) (Option.some Jvm.ClassFile.FieldType.int)) ∈ lw_all := lw_g (lw_at lw_m2 198 rfl) rfl
theorem q531 : (Jvm.Cond.methodLink "java/lang/StringBuilder" (343 : Nat) ({ cls := "java/lang/AbstractStringBuilder", name := "length", desc := "()I" } : Jvm.MethodName)) ∈ lw_all := lw_g (lw_at lw_m2 199 rfl) rfl
theorem q535 : (Jvm.Cond.instanceMethod ({ cls := "java/lang/StringBuilder", name := "setLength", desc := "(I)V" } : Jvm.MethodName)) ∈ lw_all := lw_g (lw_at lw_m2 203 rfl) rfl
theorem q536 : (Jvm.Cond.selects "java/lang/StringBuilder" ({ cls := "java/lang/StringBuilder", name := "setLength", desc := "(I)V" } : Jvm.MethodName) ({ cls := "java/lang/StringBuilder", name := "setLength", desc := "(I)V" } : Jvm.MethodName)) ∈ lw_all := lw_g (lw_at lw_m2 204 rfl) rfl
theorem q537 : (Jvm.Cond.code ({ cls := "java/lang/StringBuilder", name := "setLength", desc := "(I)V" } : Jvm.MethodName) prog_29_method_89_code (2 : Nat) (Option.none : Option Jvm.ClassFile.FieldType)) ∈ lw_all := lw_g (lw_at lw_m2 205 rfl) rfl
theorem q538 : (Jvm.Cond.methodLink "java/lang/StringBuilder" (333 : Nat) ({ cls := "java/lang/AbstractStringBuilder", name := "setLength", desc := "(I)V" } : Jvm.MethodName)) ∈ lw_all := lw_g (lw_at lw_m2 206 rfl) rfl
theorem q548 : (Jvm.Cond.instanceMethod ({ cls := "java/lang/StringBuilder", name := "<init>", desc := "()V" } : Jvm.MethodName)) ∈ lw_all := lw_g (lw_at lw_m2 216 rfl) rfl
theorem q549 : (Jvm.Cond.code ({ cls := "java/lang/StringBuilder", name := "<init>", desc := "()V" } : Jvm.MethodName) prog_29_method_1_code (1 : Nat) (Option.none : Option Jvm.ClassFile.FieldType)) ∈ lw_all := lw_g (lw_at lw_m2 217 rfl) rfl
theorem q552 : (Jvm.Cond.instanceMethod ({ cls := "java/lang/StringBuilder", name := "append", desc := "(Ljava/lang/String;)Ljava/lang/StringBuilder;" } : Jvm.MethodName)) ∈ lw_all := lw_g (lw_at lw_m2 220 rfl) rfl
theorem q553 : (Jvm.Cond.selects "java/lang/StringBuilder" ({ cls := "java/lang/StringBuilder", name := "append", desc := "(Ljava/lang/String;)Ljava/lang/StringBuilder;" } : Jvm.MethodName) ({ cls := "java/lang/StringBuilder", name := "append", desc := "(Ljava/lang/String;)Ljava/lang/StringBuilder;" } : Jvm.MethodName)) ∈ lw_all := lw_g (lw_at lw_m2 221 rfl) rfl
theorem q554 : (Jvm.Cond.code ({ cls := "java/lang/StringBuilder", name := "append", desc := "(Ljava/lang/String;)Ljava/lang/StringBuilder;" } : Jvm.MethodName) prog_29_method_7_code (2 : Nat) (Option.some (Jvm.ClassFile.FieldType.object "java/lang/StringBuilder"))) ∈ lw_all := lw_g (lw_at lw_m2 222 rfl) rfl
theorem q555 : (Jvm.Cond.methodLink "java/lang/StringBuilder" (29 : Nat) ({ cls := "java/lang/AbstractStringBuilder", name := "append", desc := "(Ljava/lang/String;)Ljava/lang/AbstractStringBuilder;" } : Jvm.MethodName)) ∈ lw_all := lw_g (lw_at lw_m2 223 rfl) rfl
theorem q600 : (Jvm.Cond.selects "java/lang/StringBuilder" ({ cls := "java/lang/AbstractStringBuilder", name := "isLatin1", desc := "()Z" } : Jvm.MethodName) ({ cls := "java/lang/AbstractStringBuilder", name := "isLatin1", desc := "()Z" } : Jvm.MethodName)) ∈ lw_all := lw_g (lw_at lw_m3 28 rfl) rfl
theorem q672 : (Jvm.Cond.instanceMethod ({ cls := "java/lang/StringBuilder", name := "append", desc := "(I)Ljava/lang/StringBuilder;" } : Jvm.MethodName)) ∈ lw_all := lw_g (lw_at lw_m3 100 rfl) rfl
theorem q673 : (Jvm.Cond.selects "java/lang/StringBuilder" ({ cls := "java/lang/StringBuilder", name := "append", desc := "(I)Ljava/lang/StringBuilder;" } : Jvm.MethodName) ({ cls := "java/lang/StringBuilder", name := "append", desc := "(I)Ljava/lang/StringBuilder;" } : Jvm.MethodName)) ∈ lw_all := lw_g (lw_at lw_m3 101 rfl) rfl
theorem q674 : (Jvm.Cond.code ({ cls := "java/lang/StringBuilder", name := "append", desc := "(I)Ljava/lang/StringBuilder;" } : Jvm.MethodName) prog_29_method_15_code (2 : Nat) (Option.some (Jvm.ClassFile.FieldType.object "java/lang/StringBuilder"))) ∈ lw_all := lw_g (lw_at lw_m3 102 rfl) rfl
theorem q675 : (Jvm.Cond.methodLink "java/lang/StringBuilder" (53 : Nat) ({ cls := "java/lang/AbstractStringBuilder", name := "append", desc := "(I)Ljava/lang/AbstractStringBuilder;" } : Jvm.MethodName)) ∈ lw_all := lw_g (lw_at lw_m3 103 rfl) rfl
theorem q697 : (Jvm.Cond.instanceMethod ({ cls := "java/lang/StringBuilder", name := "toString", desc := "()Ljava/lang/String;" } : Jvm.MethodName)) ∈ lw_all := lw_g (lw_at lw_m3 125 rfl) rfl
theorem q698 : (Jvm.Cond.selects "java/lang/StringBuilder" ({ cls := "java/lang/StringBuilder", name := "toString", desc := "()Ljava/lang/String;" } : Jvm.MethodName) ({ cls := "java/lang/StringBuilder", name := "toString", desc := "()Ljava/lang/String;" } : Jvm.MethodName)) ∈ lw_all := lw_g (lw_at lw_m3 126 rfl) rfl
theorem q699 : (Jvm.Cond.code ({ cls := "java/lang/StringBuilder", name := "toString", desc := "()Ljava/lang/String;" } : Jvm.MethodName) prog_29_method_42_code (1 : Nat) (Option.some (Jvm.ClassFile.FieldType.object "java/lang/String"))) ∈ lw_all := lw_g (lw_at lw_m3 127 rfl) rfl
theorem q700 : (Jvm.Cond.classLink "java/lang/StringBuilder" (18 : Nat) "java/lang/String") ∈ lw_all := lw_g (lw_at lw_m3 128 rfl) rfl
theorem q702 : (Jvm.Cond.methodLink "java/lang/StringBuilder" (137 : Nat) ({ cls := "java/lang/String", name := "<init>", desc := "(Ljava/lang/StringBuilder;)V" } : Jvm.MethodName)) ∈ lw_all := lw_g (lw_at lw_m3 130 rfl) rfl
theorem q712 : (Jvm.Cond.selects "java/lang/StringBuilder" ({ cls := "java/lang/AbstractStringBuilder", name := "getValue", desc := "()[B" } : Jvm.MethodName) ({ cls := "java/lang/AbstractStringBuilder", name := "getValue", desc := "()[B" } : Jvm.MethodName)) ∈ lw_all := lw_g (lw_at lw_m3 140 rfl) rfl
theorem q862 : (Jvm.Cond.instanceMethod ({ cls := "java/lang/StringBuilder", name := "charAt", desc := "(I)C" } : Jvm.MethodName)) ∈ lw_all := lw_g (lw_at lw_m4 50 rfl) rfl
theorem q863 : (Jvm.Cond.selects "java/lang/StringBuilder" ({ cls := "java/lang/StringBuilder", name := "charAt", desc := "(I)C" } : Jvm.MethodName) ({ cls := "java/lang/StringBuilder", name := "charAt", desc := "(I)C" } : Jvm.MethodName)) ∈ lw_all := lw_g (lw_at lw_m4 51 rfl) rfl
theorem q864 : (Jvm.Cond.code ({ cls := "java/lang/StringBuilder", name := "charAt", desc := "(I)C" } : Jvm.MethodName) prog_29_method_88_code (2 : Nat) (Option.some Jvm.ClassFile.FieldType.char)) ∈ lw_all := lw_g (lw_at lw_m4 52 rfl) rfl
theorem q865 : (Jvm.Cond.methodLink "java/lang/StringBuilder" (329 : Nat) ({ cls := "java/lang/AbstractStringBuilder", name := "charAt", desc := "(I)C" } : Jvm.MethodName)) ∈ lw_all := lw_g (lw_at lw_m4 53 rfl) rfl
theorem q1325 : (Jvm.Cond.castable "java/lang/StringBuilder" "java/lang/Comparable") ∈ lw_tbl := lw_at lw_m6 33 rfl
theorem q1326 : (Jvm.Cond.selects "java/lang/StringBuilder" ({ cls := "java/lang/Comparable", name := "compareTo", desc := "(Ljava/lang/Object;)I" } : Jvm.MethodName) ({ cls := "java/lang/StringBuilder", name := "compareTo", desc := "(Ljava/lang/Object;)I" } : Jvm.MethodName)) ∈ lw_all := lw_g (lw_at lw_m6 34 rfl) rfl
theorem q1327 : (Jvm.Cond.unhidden "java/lang/StringBuilder" "compareTo" "(Ljava/lang/Object;)I") ∈ lw_tbl := lw_at lw_m6 35 rfl
theorem q1328 : (Jvm.Cond.instanceMethod ({ cls := "java/lang/StringBuilder", name := "compareTo", desc := "(Ljava/lang/Object;)I" } : Jvm.MethodName)) ∈ lw_all := lw_g (lw_at lw_m6 36 rfl) rfl
theorem q1329 : (Jvm.Cond.publicMethod ({ cls := "java/lang/StringBuilder", name := "compareTo", desc := "(Ljava/lang/Object;)I" } : Jvm.MethodName)) ∈ lw_tbl := lw_at lw_m6 37 rfl
theorem q1330 : (Jvm.Cond.code ({ cls := "java/lang/StringBuilder", name := "compareTo", desc := "(Ljava/lang/Object;)I" } : Jvm.MethodName) prog_29_method_97_code (2 : Nat) (Option.some Jvm.ClassFile.FieldType.int)) ∈ lw_all := lw_g (lw_at lw_m6 38 rfl) rfl
theorem q1331 : (Jvm.Cond.classLink "java/lang/StringBuilder" (24 : Nat) "java/lang/StringBuilder") ∈ lw_all := lw_g (lw_at lw_m6 39 rfl) rfl
theorem q1332 : (Jvm.Cond.methodLink "java/lang/StringBuilder" (346 : Nat) ({ cls := "java/lang/StringBuilder", name := "compareTo", desc := "(Ljava/lang/StringBuilder;)I" } : Jvm.MethodName)) ∈ lw_all := lw_g (lw_at lw_m6 40 rfl) rfl
theorem q1333 : (Jvm.Cond.instanceMethod ({ cls := "java/lang/StringBuilder", name := "compareTo", desc := "(Ljava/lang/StringBuilder;)I" } : Jvm.MethodName)) ∈ lw_all := lw_g (lw_at lw_m6 41 rfl) rfl
theorem q1334 : (Jvm.Cond.selects "java/lang/StringBuilder" ({ cls := "java/lang/StringBuilder", name := "compareTo", desc := "(Ljava/lang/StringBuilder;)I" } : Jvm.MethodName) ({ cls := "java/lang/StringBuilder", name := "compareTo", desc := "(Ljava/lang/StringBuilder;)I" } : Jvm.MethodName)) ∈ lw_all := lw_g (lw_at lw_m6 42 rfl) rfl
theorem q1335 : (Jvm.Cond.code ({ cls := "java/lang/StringBuilder", name := "compareTo", desc := "(Ljava/lang/StringBuilder;)I" } : Jvm.MethodName) prog_29_method_5_code (2 : Nat) (Option.some Jvm.ClassFile.FieldType.int)) ∈ lw_all := lw_g (lw_at lw_m6 43 rfl) rfl
theorem q1336 : (Jvm.Cond.methodLink "java/lang/StringBuilder" (13 : Nat) ({ cls := "java/lang/AbstractStringBuilder", name := "compareTo", desc := "(Ljava/lang/AbstractStringBuilder;)I" } : Jvm.MethodName)) ∈ lw_all := lw_g (lw_at lw_m6 44 rfl) rfl
theorem q1562 : (Jvm.Cond.selects "java/lang/StringBuilder" ({ cls := "java/lang/Object", name := "getClass", desc := "()Ljava/lang/Class;" } : Jvm.MethodName) ({ cls := "java/lang/Object", name := "getClass", desc := "()Ljava/lang/Class;" } : Jvm.MethodName)) ∈ lw_all := lw_g (lw_at lw_m7 30 rfl) rfl
theorem q2010 : (Jvm.Cond.instanceMethod ({ cls := "java/lang/StringBuilder", name := "append", desc := "(C)Ljava/lang/StringBuilder;" } : Jvm.MethodName)) ∈ lw_all := lw_g (lw_at lw_m8 238 rfl) rfl
theorem q2011 : (Jvm.Cond.selects "java/lang/StringBuilder" ({ cls := "java/lang/StringBuilder", name := "append", desc := "(C)Ljava/lang/StringBuilder;" } : Jvm.MethodName) ({ cls := "java/lang/StringBuilder", name := "append", desc := "(C)Ljava/lang/StringBuilder;" } : Jvm.MethodName)) ∈ lw_all := lw_g (lw_at lw_m8 239 rfl) rfl
theorem q2012 : (Jvm.Cond.code ({ cls := "java/lang/StringBuilder", name := "append", desc := "(C)Ljava/lang/StringBuilder;" } : Jvm.MethodName) prog_29_method_14_code (2 : Nat) (Option.some (Jvm.ClassFile.FieldType.object "java/lang/StringBuilder"))) ∈ lw_all := lw_g (lw_at lw_m9 0 rfl) rfl
theorem q2013 : (Jvm.Cond.methodLink "java/lang/StringBuilder" (50 : Nat) ({ cls := "java/lang/AbstractStringBuilder", name := "append", desc := "(C)Ljava/lang/AbstractStringBuilder;" } : Jvm.MethodName)) ∈ lw_all := lw_g (lw_at lw_m9 1 rfl) rfl
theorem q2522 : (Jvm.Cond.selects "java/lang/StringBuilder" ({ cls := "java/lang/AbstractStringBuilder", name := "length", desc := "()I" } : Jvm.MethodName) ({ cls := "java/lang/StringBuilder", name := "length", desc := "()I" } : Jvm.MethodName)) ∈ lw_all := lw_g (lw_at lw_m11 30 rfl) rfl
theorem q2541 : (Jvm.Cond.castable "java/lang/StringBuilder" "java/lang/Object") ∈ lw_tbl := lw_at lw_m11 49 rfl
theorem in_J14 : ∀ w ∈ wsJ140, w ∈ lw_all := lw_in wsJ140 [496, 498, 500, 502] (by decide +kernel) (by decide +kernel)
/-! java/lang/String -/
set_option maxRecDepth 100000
def RJ15 : String := "java/lang/String"
def TJ15 : u_T := fun k => match k with
  | 0 => ("java/lang/String", "value", "[B", true)
  | 1 => ("java/lang/String", "coder", "B", true)
  | 2 => ("java/lang/String", "hash", "I", false)
  | _ => ("java/lang/String", "hashIsZero", "Z", false)
def tyJ15 : Nat → FieldType := fun k => match k with
  | 0 => .array .byte
  | 1 => .byte
  | 2 => .int
  | _ => .boolean
abbrev wsJ150 : List Cond := u_ws RJ15 TJ15 4
theorem nmJ15 : ∀ a, a < 4 → ∀ b, b < 4 → a ≠ b → (TJ15 a).2.1 ≠ (TJ15 b).2.1 := by decide +kernel
theorem tyJ15_ok : ∀ k, k < 4 → parseFieldDescriptor (TJ15 k).2.2.1 = some (tyJ15 k) := by decide +kernel
abbrev cJ15_checkIndex : ByteArray := prog_28_method_155_code
def yJ15_checkIndex : MethodName := ⟨RJ15, "checkIndex", "(II)V"⟩
def dkwJ15_checkIndex_0 : List UInt8 := [26, 27, 178, 4, 29, 184, 4, 35, 87, 177]
abbrev dktJ15_checkIndex_0 : List UInt8 := dkwJ15_checkIndex_0 ++ []
theorem dksJ15_checkIndex_0 : cJ15_checkIndex.data.toList.drop 0 = dktJ15_checkIndex_0 := by decide +kernel
theorem dJ15_checkIndex_0 : decode cJ15_checkIndex 0 = .ok (.iload_n 0, 1) := dk_26 (dk_at dksJ15_checkIndex_0 0 rfl rfl)
theorem dJ15_checkIndex_1 : decode cJ15_checkIndex 1 = .ok (.iload_n 1, 1) := dk_27 (dk_at dksJ15_checkIndex_0 1 rfl rfl)
theorem dJ15_checkIndex_2 : decode cJ15_checkIndex 2 = .ok (.getstatic 1053, 3) := dk_178 4 29 (dk_at dksJ15_checkIndex_0 2 rfl rfl)
theorem dJ15_checkIndex_5 : decode cJ15_checkIndex 5 = .ok (.invokestatic 1059, 3) := dk_184 4 35 (dk_at dksJ15_checkIndex_0 5 rfl rfl)
theorem dJ15_checkIndex_8 : decode cJ15_checkIndex 8 = .ok (.pop, 1) := dk_87 (dk_at dksJ15_checkIndex_0 8 rfl rfl)
theorem dJ15_checkIndex_9 : decode cJ15_checkIndex 9 = .ok (.return_, 1) := dk_177 (dk_at dksJ15_checkIndex_0 9 rfl rfl)
theorem q112 : (Jvm.Cond.initialized "java/lang/String") ∈ lw_all := lw_g (lw_at lw_m1 20 rfl) rfl
theorem q483 : (Jvm.Cond.laysStatic "java/lang/String" "COMPACT_STRINGS" "Z") ∈ lw_tbl := lw_at lw_m2 151 rfl
theorem q494 : (Jvm.Cond.fieldLink "java/lang/String" (1048 : Nat) "java/lang/AbstractStringBuilder" "maybeLatin1" "Z") ∈ lw_all := lw_g (lw_at lw_m2 162 rfl) rfl
theorem q612 : (Jvm.Cond.static ({ cls := "java/lang/String", name := "checkBoundsBeginEnd", desc := "(III)V" } : Jvm.MethodName)) ∈ lw_all := lw_g (lw_at lw_m3 40 rfl) rfl
theorem q613 : (Jvm.Cond.code ({ cls := "java/lang/String", name := "checkBoundsBeginEnd", desc := "(III)V" } : Jvm.MethodName) prog_28_method_158_code (3 : Nat) (Option.none : Option Jvm.ClassFile.FieldType)) ∈ lw_all := lw_g (lw_at lw_m3 41 rfl) rfl
theorem q614 : (Jvm.Cond.fieldLink "java/lang/String" (1053 : Nat) "jdk/internal/util/Preconditions" "SIOOBE_FORMATTER" "Ljava/util/function/BiFunction;") ∈ lw_all := lw_g (lw_at lw_m3 42 rfl) rfl
theorem q616 : (Jvm.Cond.methodLink "java/lang/String" (1062 : Nat) ({ cls := "jdk/internal/util/Preconditions", name := "checkFromToIndex", desc := "(IIILjava/util/function/BiFunction;)I" } : Jvm.MethodName)) ∈ lw_all := lw_g (lw_at lw_m3 44 rfl) rfl
theorem q629 : (Jvm.Cond.instanceMethod ({ cls := "java/lang/String", name := "length", desc := "()I" } : Jvm.MethodName)) ∈ lw_all := lw_g (lw_at lw_m3 57 rfl) rfl
theorem q630 : (Jvm.Cond.selects "java/lang/String" ({ cls := "java/lang/String", name := "length", desc := "()I" } : Jvm.MethodName) ({ cls := "java/lang/String", name := "length", desc := "()I" } : Jvm.MethodName)) ∈ lw_all := lw_g (lw_at lw_m3 58 rfl) rfl
theorem q631 : (Jvm.Cond.code ({ cls := "java/lang/String", name := "length", desc := "()I" } : Jvm.MethodName) prog_28_method_54_code (1 : Nat) (Option.some Jvm.ClassFile.FieldType.int)) ∈ lw_all := lw_g (lw_at lw_m3 59 rfl) rfl
theorem q632 : (Jvm.Cond.methodLink "java/lang/String" (335 : Nat) ({ cls := "java/lang/String", name := "coder", desc := "()B" } : Jvm.MethodName)) ∈ lw_all := lw_g (lw_at lw_m3 60 rfl) rfl
theorem q633 : (Jvm.Cond.instanceMethod ({ cls := "java/lang/String", name := "coder", desc := "()B" } : Jvm.MethodName)) ∈ lw_all := lw_g (lw_at lw_m3 61 rfl) rfl
theorem q634 : (Jvm.Cond.selects "java/lang/String" ({ cls := "java/lang/String", name := "coder", desc := "()B" } : Jvm.MethodName) ({ cls := "java/lang/String", name := "coder", desc := "()B" } : Jvm.MethodName)) ∈ lw_all := lw_g (lw_at lw_m3 62 rfl) rfl
theorem q635 : (Jvm.Cond.code ({ cls := "java/lang/String", name := "coder", desc := "()B" } : Jvm.MethodName) prog_28_method_152_code (1 : Nat) (Option.some Jvm.ClassFile.FieldType.byte)) ∈ lw_all := lw_g (lw_at lw_m3 63 rfl) rfl
theorem q636 : (Jvm.Cond.fieldLink "java/lang/String" (38 : Nat) "java/lang/String" "COMPACT_STRINGS" "Z") ∈ lw_all := lw_g (lw_at lw_m3 64 rfl) rfl
theorem q660 : (Jvm.Cond.static ({ cls := "java/lang/String", name := "checkBoundsOffCount", desc := "(III)I" } : Jvm.MethodName)) ∈ lw_all := lw_g (lw_at lw_m3 88 rfl) rfl
theorem q661 : (Jvm.Cond.code ({ cls := "java/lang/String", name := "checkBoundsOffCount", desc := "(III)I" } : Jvm.MethodName) prog_28_method_157_code (3 : Nat) (Option.some Jvm.ClassFile.FieldType.int)) ∈ lw_all := lw_g (lw_at lw_m3 89 rfl) rfl
theorem q662 : (Jvm.Cond.methodLink "java/lang/String" (1065 : Nat) ({ cls := "jdk/internal/util/Preconditions", name := "checkFromIndexSize", desc := "(IIILjava/util/function/BiFunction;)I" } : Jvm.MethodName)) ∈ lw_all := lw_g (lw_at lw_m3 90 rfl) rfl
theorem q666 : (Jvm.Cond.instanceMethod ({ cls := "java/lang/String", name := "getBytes", desc := "([BIB)V" } : Jvm.MethodName)) ∈ lw_all := lw_g (lw_at lw_m3 94 rfl) rfl
theorem q667 : (Jvm.Cond.selects "java/lang/String" ({ cls := "java/lang/String", name := "getBytes", desc := "([BIB)V" } : Jvm.MethodName) ({ cls := "java/lang/String", name := "getBytes", desc := "([BIB)V" } : Jvm.MethodName)) ∈ lw_all := lw_g (lw_at lw_m3 95 rfl) rfl
theorem q668 : (Jvm.Cond.code ({ cls := "java/lang/String", name := "getBytes", desc := "([BIB)V" } : Jvm.MethodName) prog_28_method_147_code (4 : Nat) (Option.none : Option Jvm.ClassFile.FieldType)) ∈ lw_all := lw_g (lw_at lw_m3 96 rfl) rfl
theorem q669 : (Jvm.Cond.methodLink "java/lang/String" (212 : Nat) ({ cls := "java/lang/System", name := "arraycopy", desc := "(Ljava/lang/Object;ILjava/lang/Object;II)V" } : Jvm.MethodName)) ∈ lw_all := lw_g (lw_at lw_m3 97 rfl) rfl
theorem q670 : (Jvm.Cond.methodLink "java/lang/String" (106 : Nat) ({ cls := "java/lang/StringLatin1", name := "inflate", desc := "([BI[BII)V" } : Jvm.MethodName)) ∈ lw_all := lw_g (lw_at lw_m3 98 rfl) rfl
theorem q701 : (Jvm.Cond.instantiable "java/lang/String" (4 : Nat)) ∈ lw_all := lw_g (lw_at lw_m3 129 rfl) rfl
theorem q703 : (Jvm.Cond.instanceMethod ({ cls := "java/lang/String", name := "<init>", desc := "(Ljava/lang/StringBuilder;)V" } : Jvm.MethodName)) ∈ lw_all := lw_g (lw_at lw_m3 131 rfl) rfl
theorem q704 : (Jvm.Cond.code ({ cls := "java/lang/String", name := "<init>", desc := "(Ljava/lang/StringBuilder;)V" } : Jvm.MethodName) prog_28_method_53_code (2 : Nat) (Option.none : Option Jvm.ClassFile.FieldType)) ∈ lw_all := lw_g (lw_at lw_m3 132 rfl) rfl
theorem q705 : (Jvm.Cond.methodLink "java/lang/String" (489 : Nat) ({ cls := "java/lang/String", name := "<init>", desc := "(Ljava/lang/AbstractStringBuilder;Ljava/lang/Void;)V" } : Jvm.MethodName)) ∈ lw_all := lw_g (lw_at lw_m3 133 rfl) rfl
theorem q706 : (Jvm.Cond.instanceMethod ({ cls := "java/lang/String", name := "<init>", desc := "(Ljava/lang/AbstractStringBuilder;Ljava/lang/Void;)V" } : Jvm.MethodName)) ∈ lw_all := lw_g (lw_at lw_m3 134 rfl) rfl
theorem q707 : (Jvm.Cond.code ({ cls := "java/lang/String", name := "<init>", desc := "(Ljava/lang/AbstractStringBuilder;Ljava/lang/Void;)V" } : Jvm.MethodName) prog_28_method_150_code (5 : Nat) (Option.none : Option Jvm.ClassFile.FieldType)) ∈ lw_all := lw_g (lw_at lw_m3 135 rfl) rfl
theorem q708 : (Jvm.Cond.methodLink "java/lang/String" (1 : Nat) ({ cls := "java/lang/Object", name := "<init>", desc := "()V" } : Jvm.MethodName)) ∈ lw_all := lw_g (lw_at lw_m3 136 rfl) rfl
theorem q709 : (Jvm.Cond.methodLink "java/lang/String" (552 : Nat) ({ cls := "java/lang/AbstractStringBuilder", name := "getValue", desc := "()[B" } : Jvm.MethodName)) ∈ lw_all := lw_g (lw_at lw_m3 137 rfl) rfl
theorem q714 : (Jvm.Cond.methodLink "java/lang/String" (549 : Nat) ({ cls := "java/lang/AbstractStringBuilder", name := "length", desc := "()I" } : Jvm.MethodName)) ∈ lw_all := lw_g (lw_at lw_m3 142 rfl) rfl
theorem q715 : (Jvm.Cond.methodLink "java/lang/String" (1047 : Nat) ({ cls := "java/lang/AbstractStringBuilder", name := "isLatin1", desc := "()Z" } : Jvm.MethodName)) ∈ lw_all := lw_g (lw_at lw_m3 143 rfl) rfl
theorem q716 : (Jvm.Cond.methodLink "java/lang/String" (54 : Nat) ({ cls := "java/util/Arrays", name := "copyOfRange", desc := "([BII)[B" } : Jvm.MethodName)) ∈ lw_all := lw_g (lw_at lw_m3 144 rfl) rfl
theorem q744 : (Jvm.Cond.methodLink "java/lang/String" (1051 : Nat) ({ cls := "java/lang/StringUTF16", name := "compress", desc := "([BII)[B" } : Jvm.MethodName)) ∈ lw_all := lw_g (lw_at lw_m3 172 rfl) rfl
theorem q754 : (Jvm.Cond.methodLink "java/lang/String" (47 : Nat) ({ cls := "java/lang/StringUTF16", name := "coderFromArrayLen", desc := "([BI)B" } : Jvm.MethodName)) ∈ lw_all := lw_g (lw_at lw_m3 182 rfl) rfl
theorem q757 : (Jvm.Cond.fieldLink "java/lang/String" (9 : Nat) "java/lang/String" "value" "[B") ∈ lw_all := lw_g (lw_at lw_m3 185 rfl) rfl
theorem q758 : (Jvm.Cond.fieldLink "java/lang/String" (15 : Nat) "java/lang/String" "coder" "B") ∈ lw_all := lw_g (lw_at lw_m3 186 rfl) rfl
theorem q759 : (Jvm.Cond.laysFinal "java/lang/String" "java/lang/String" "value" "[B") ∈ lw_all := lw_g (lw_at lw_m3 187 rfl) rfl
theorem q760 : (Jvm.Cond.soleField "java/lang/String" "value") ∈ lw_all := lw_g (lw_at lw_m3 188 rfl) rfl
theorem q761 : (Jvm.Cond.laysFinal "java/lang/String" "java/lang/String" "coder" "B") ∈ lw_all := lw_g (lw_at lw_m3 189 rfl) rfl
theorem q762 : (Jvm.Cond.soleField "java/lang/String" "coder") ∈ lw_all := lw_g (lw_at lw_m3 190 rfl) rfl
theorem q763 : (Jvm.Cond.lays "java/lang/String" "java/lang/String" "hash" "I") ∈ lw_all := lw_g (lw_at lw_m3 191 rfl) rfl
theorem q764 : (Jvm.Cond.soleField "java/lang/String" "hash") ∈ lw_all := lw_g (lw_at lw_m3 192 rfl) rfl
theorem q765 : (Jvm.Cond.lays "java/lang/String" "java/lang/String" "hashIsZero" "Z") ∈ lw_all := lw_g (lw_at lw_m3 193 rfl) rfl
theorem q766 : (Jvm.Cond.soleField "java/lang/String" "hashIsZero") ∈ lw_all := lw_g (lw_at lw_m3 194 rfl) rfl
theorem q767 : (Jvm.Cond.superclass "java/lang/String" "java/lang/Object") ∈ lw_all := lw_g (lw_at lw_m3 195 rfl) rfl
theorem q870 : (Jvm.Cond.static ({ cls := "java/lang/String", name := "checkIndex", desc := "(II)V" } : Jvm.MethodName)) ∈ lw_all := lw_g (lw_at lw_m4 58 rfl) rfl
theorem q871 : (Jvm.Cond.code ({ cls := "java/lang/String", name := "checkIndex", desc := "(II)V" } : Jvm.MethodName) prog_28_method_155_code (2 : Nat) (Option.none : Option Jvm.ClassFile.FieldType)) ∈ lw_all := lw_g (lw_at lw_m4 59 rfl) rfl
theorem q872 : (Jvm.Cond.methodLink "java/lang/String" (1059 : Nat) ({ cls := "jdk/internal/util/Preconditions", name := "checkIndex", desc := "(IILjava/util/function/BiFunction;)I" } : Jvm.MethodName)) ∈ lw_all := lw_g (lw_at lw_m4 60 rfl) rfl
theorem q1178 : (Jvm.Cond.castable "java/lang/String" "java/lang/Comparable") ∈ lw_tbl := lw_at lw_m5 126 rfl
theorem q1179 : (Jvm.Cond.selects "java/lang/String" ({ cls := "java/lang/Comparable", name := "compareTo", desc := "(Ljava/lang/Object;)I" } : Jvm.MethodName) ({ cls := "java/lang/String", name := "compareTo", desc := "(Ljava/lang/Object;)I" } : Jvm.MethodName)) ∈ lw_all := lw_g (lw_at lw_m5 127 rfl) rfl
theorem q1180 : (Jvm.Cond.unhidden "java/lang/String" "compareTo" "(Ljava/lang/Object;)I") ∈ lw_tbl := lw_at lw_m5 128 rfl
theorem q1181 : (Jvm.Cond.instanceMethod ({ cls := "java/lang/String", name := "compareTo", desc := "(Ljava/lang/Object;)I" } : Jvm.MethodName)) ∈ lw_all := lw_g (lw_at lw_m5 129 rfl) rfl
theorem q1182 : (Jvm.Cond.publicMethod ({ cls := "java/lang/String", name := "compareTo", desc := "(Ljava/lang/Object;)I" } : Jvm.MethodName)) ∈ lw_tbl := lw_at lw_m5 130 rfl
theorem q1183 : (Jvm.Cond.code ({ cls := "java/lang/String", name := "compareTo", desc := "(Ljava/lang/Object;)I" } : Jvm.MethodName) prog_28_method_162_code (2 : Nat) (Option.some Jvm.ClassFile.FieldType.int)) ∈ lw_all := lw_g (lw_at lw_m5 131 rfl) rfl
theorem q1184 : (Jvm.Cond.classLink "java/lang/String" (10 : Nat) "java/lang/String") ∈ lw_all := lw_g (lw_at lw_m5 132 rfl) rfl
theorem q1185 : (Jvm.Cond.methodLink "java/lang/String" (1084 : Nat) ({ cls := "java/lang/String", name := "compareTo", desc := "(Ljava/lang/String;)I" } : Jvm.MethodName)) ∈ lw_all := lw_g (lw_at lw_m5 133 rfl) rfl
theorem q1186 : (Jvm.Cond.instanceMethod ({ cls := "java/lang/String", name := "compareTo", desc := "(Ljava/lang/String;)I" } : Jvm.MethodName)) ∈ lw_all := lw_g (lw_at lw_m5 134 rfl) rfl
theorem q1187 : (Jvm.Cond.selects "java/lang/String" ({ cls := "java/lang/String", name := "compareTo", desc := "(Ljava/lang/String;)I" } : Jvm.MethodName) ({ cls := "java/lang/String", name := "compareTo", desc := "(Ljava/lang/String;)I" } : Jvm.MethodName)) ∈ lw_all := lw_g (lw_at lw_m5 135 rfl) rfl
theorem q1188 : (Jvm.Cond.code ({ cls := "java/lang/String", name := "compareTo", desc := "(Ljava/lang/String;)I" } : Jvm.MethodName) prog_28_method_71_code (5 : Nat) (Option.some Jvm.ClassFile.FieldType.int)) ∈ lw_all := lw_g (lw_at lw_m5 136 rfl) rfl
theorem q1189 : (Jvm.Cond.methodLink "java/lang/String" (586 : Nat) ({ cls := "java/lang/StringLatin1", name := "compareTo", desc := "([B[B)I" } : Jvm.MethodName)) ∈ lw_all := lw_g (lw_at lw_m5 137 rfl) rfl
theorem q1303 : (Jvm.Cond.methodLink "java/lang/String" (590 : Nat) ({ cls := "java/lang/StringUTF16", name := "compareTo", desc := "([B[B)I" } : Jvm.MethodName)) ∈ lw_all := lw_g (lw_at lw_m6 11 rfl) rfl
theorem q1310 : (Jvm.Cond.methodLink "java/lang/String" (591 : Nat) ({ cls := "java/lang/StringLatin1", name := "compareToUTF16", desc := "([B[B)I" } : Jvm.MethodName)) ∈ lw_all := lw_g (lw_at lw_m6 18 rfl) rfl
theorem q1321 : (Jvm.Cond.methodLink "java/lang/String" (594 : Nat) ({ cls := "java/lang/StringUTF16", name := "compareToLatin1", desc := "([B[B)I" } : Jvm.MethodName)) ∈ lw_all := lw_g (lw_at lw_m6 29 rfl) rfl
theorem q1347 : (Jvm.Cond.static ({ cls := "java/lang/String", name := "checkOffset", desc := "(II)V" } : Jvm.MethodName)) ∈ lw_all := lw_g (lw_at lw_m6 55 rfl) rfl
theorem q1348 : (Jvm.Cond.code ({ cls := "java/lang/String", name := "checkOffset", desc := "(II)V" } : Jvm.MethodName) prog_28_method_156_code (2 : Nat) (Option.none : Option Jvm.ClassFile.FieldType)) ∈ lw_all := lw_g (lw_at lw_m6 56 rfl) rfl
theorem q1561 : (Jvm.Cond.selects "java/lang/String" ({ cls := "java/lang/Object", name := "getClass", desc := "()Ljava/lang/Class;" } : Jvm.MethodName) ({ cls := "java/lang/Object", name := "getClass", desc := "()Ljava/lang/Class;" } : Jvm.MethodName)) ∈ lw_all := lw_g (lw_at lw_m7 29 rfl) rfl
theorem q2554 : (Jvm.Cond.castable "java/lang/String" "java/lang/Object") ∈ lw_tbl := lw_at lw_m11 62 rfl
theorem in_J15 : ∀ w ∈ wsJ150, w ∈ lw_all := lw_in wsJ150 [759, 761, 763, 765] (by decide +kernel) (by decide +kernel)
/-! java/lang/StringUTF16 -/
set_option maxRecDepth 100000
def RJ16 : String := "java/lang/StringUTF16"
theorem q113 : (Jvm.Cond.initialized "java/lang/StringUTF16") ∈ lw_all := lw_g (lw_at lw_m1 21 rfl) rfl
theorem q485 : (Jvm.Cond.static ({ cls := "java/lang/StringUTF16", name := "newBytesFor", desc := "(I)[B" } : Jvm.MethodName)) ∈ lw_all := lw_g (lw_at lw_m2 153 rfl) rfl
theorem q486 : (Jvm.Cond.code ({ cls := "java/lang/StringUTF16", name := "newBytesFor", desc := "(I)[B" } : Jvm.MethodName) prog_32_method_2_code (1 : Nat) (Option.some (Jvm.ClassFile.FieldType.array Jvm.ClassFile.FieldType.byte))) ∈ lw_all := lw_g (lw_at lw_m2 154 rfl) rfl
theorem q487 : (Jvm.Cond.methodLink "java/lang/StringUTF16" (11 : Nat) ({ cls := "java/lang/StringUTF16", name := "newBytesLength", desc := "(I)I" } : Jvm.MethodName)) ∈ lw_all := lw_g (lw_at lw_m2 155 rfl) rfl
theorem q488 : (Jvm.Cond.static ({ cls := "java/lang/StringUTF16", name := "newBytesLength", desc := "(I)I" } : Jvm.MethodName)) ∈ lw_all := lw_g (lw_at lw_m2 156 rfl) rfl
theorem q489 : (Jvm.Cond.code ({ cls := "java/lang/StringUTF16", name := "newBytesLength", desc := "(I)I" } : Jvm.MethodName) prog_32_method_3_code (1 : Nat) (Option.some Jvm.ClassFile.FieldType.int)) ∈ lw_all := lw_g (lw_at lw_m2 157 rfl) rfl
theorem q490 : (Jvm.Cond.constant "java/lang/StringUTF16" (20 : Nat) (1073741823 : Int32)) ∈ lw_all := lw_g (lw_at lw_m2 158 rfl) rfl
theorem q603 : (Jvm.Cond.static ({ cls := "java/lang/StringUTF16", name := "putCharsAt", desc := "([BICCCC)I" } : Jvm.MethodName)) ∈ lw_all := lw_g (lw_at lw_m3 31 rfl) rfl
theorem q604 : (Jvm.Cond.code ({ cls := "java/lang/StringUTF16", name := "putCharsAt", desc := "([BICCCC)I" } : Jvm.MethodName) prog_32_method_81_code (7 : Nat) (Option.some Jvm.ClassFile.FieldType.int)) ∈ lw_all := lw_g (lw_at lw_m3 32 rfl) rfl
theorem q605 : (Jvm.Cond.methodLink "java/lang/StringUTF16" (96 : Nat) ({ cls := "java/lang/StringUTF16", name := "checkBoundsBeginEnd", desc := "(II[B)V" } : Jvm.MethodName)) ∈ lw_all := lw_g (lw_at lw_m3 33 rfl) rfl
theorem q606 : (Jvm.Cond.static ({ cls := "java/lang/StringUTF16", name := "checkBoundsBeginEnd", desc := "(II[B)V" } : Jvm.MethodName)) ∈ lw_all := lw_g (lw_at lw_m3 34 rfl) rfl
theorem q607 : (Jvm.Cond.code ({ cls := "java/lang/StringUTF16", name := "checkBoundsBeginEnd", desc := "(II[B)V" } : Jvm.MethodName) prog_32_method_93_code (3 : Nat) (Option.none : Option Jvm.ClassFile.FieldType)) ∈ lw_all := lw_g (lw_at lw_m3 35 rfl) rfl
theorem q608 : (Jvm.Cond.methodLink "java/lang/StringUTF16" (48 : Nat) ({ cls := "java/lang/StringUTF16", name := "length", desc := "([B)I" } : Jvm.MethodName)) ∈ lw_all := lw_g (lw_at lw_m3 36 rfl) rfl
theorem q609 : (Jvm.Cond.static ({ cls := "java/lang/StringUTF16", name := "length", desc := "([B)I" } : Jvm.MethodName)) ∈ lw_all := lw_g (lw_at lw_m3 37 rfl) rfl
theorem q610 : (Jvm.Cond.code ({ cls := "java/lang/StringUTF16", name := "length", desc := "([B)I" } : Jvm.MethodName) prog_32_method_6_code (1 : Nat) (Option.some Jvm.ClassFile.FieldType.int)) ∈ lw_all := lw_g (lw_at lw_m3 38 rfl) rfl
theorem q611 : (Jvm.Cond.methodLink "java/lang/StringUTF16" (241 : Nat) ({ cls := "java/lang/String", name := "checkBoundsBeginEnd", desc := "(III)V" } : Jvm.MethodName)) ∈ lw_all := lw_g (lw_at lw_m3 39 rfl) rfl
theorem q619 : (Jvm.Cond.methodLink "java/lang/StringUTF16" (111 : Nat) ({ cls := "java/lang/StringUTF16", name := "putChar", desc := "([BII)V" } : Jvm.MethodName)) ∈ lw_all := lw_g (lw_at lw_m3 47 rfl) rfl
theorem q620 : (Jvm.Cond.static ({ cls := "java/lang/StringUTF16", name := "putChar", desc := "([BII)V" } : Jvm.MethodName)) ∈ lw_all := lw_g (lw_at lw_m3 48 rfl) rfl
theorem q621 : (Jvm.Cond.code ({ cls := "java/lang/StringUTF16", name := "putChar", desc := "([BII)V" } : Jvm.MethodName) prog_32_method_4_code (3 : Nat) (Option.none : Option Jvm.ClassFile.FieldType)) ∈ lw_all := lw_g (lw_at lw_m3 49 rfl) rfl
theorem q622 : (Jvm.Cond.fieldLink "java/lang/StringUTF16" (44 : Nat) "java/lang/StringUTF16" "$assertionsDisabled" "Z") ∈ lw_all := lw_g (lw_at lw_m3 50 rfl) rfl
theorem q623 : (Jvm.Cond.laysStatic "java/lang/StringUTF16" "$assertionsDisabled" "Z") ∈ lw_tbl := lw_at lw_m3 51 rfl
theorem q624 : (Jvm.Cond.fieldLink "java/lang/StringUTF16" (59 : Nat) "java/lang/StringUTF16" "HI_BYTE_SHIFT" "I") ∈ lw_all := lw_g (lw_at lw_m3 52 rfl) rfl
theorem q625 : (Jvm.Cond.laysStatic "java/lang/StringUTF16" "HI_BYTE_SHIFT" "I") ∈ lw_tbl := lw_at lw_m3 53 rfl
theorem q626 : (Jvm.Cond.fieldLink "java/lang/StringUTF16" (63 : Nat) "java/lang/StringUTF16" "LO_BYTE_SHIFT" "I") ∈ lw_all := lw_g (lw_at lw_m3 54 rfl) rfl
theorem q627 : (Jvm.Cond.laysStatic "java/lang/StringUTF16" "LO_BYTE_SHIFT" "I") ∈ lw_tbl := lw_at lw_m3 55 rfl
theorem q654 : (Jvm.Cond.static ({ cls := "java/lang/StringUTF16", name := "inflate", desc := "([BI[BII)V" } : Jvm.MethodName)) ∈ lw_all := lw_g (lw_at lw_m3 82 rfl) rfl
theorem q655 : (Jvm.Cond.code ({ cls := "java/lang/StringUTF16", name := "inflate", desc := "([BI[BII)V" } : Jvm.MethodName) prog_32_method_86_code (6 : Nat) (Option.none : Option Jvm.ClassFile.FieldType)) ∈ lw_all := lw_g (lw_at lw_m3 83 rfl) rfl
theorem q656 : (Jvm.Cond.methodLink "java/lang/StringUTF16" (173 : Nat) ({ cls := "java/lang/StringUTF16", name := "checkBoundsOffCount", desc := "(II[B)V" } : Jvm.MethodName)) ∈ lw_all := lw_g (lw_at lw_m3 84 rfl) rfl
theorem q657 : (Jvm.Cond.static ({ cls := "java/lang/StringUTF16", name := "checkBoundsOffCount", desc := "(II[B)V" } : Jvm.MethodName)) ∈ lw_all := lw_g (lw_at lw_m3 85 rfl) rfl
theorem q658 : (Jvm.Cond.code ({ cls := "java/lang/StringUTF16", name := "checkBoundsOffCount", desc := "(II[B)V" } : Jvm.MethodName) prog_32_method_94_code (3 : Nat) (Option.none : Option Jvm.ClassFile.FieldType)) ∈ lw_all := lw_g (lw_at lw_m3 86 rfl) rfl
theorem q659 : (Jvm.Cond.methodLink "java/lang/StringUTF16" (419 : Nat) ({ cls := "java/lang/String", name := "checkBoundsOffCount", desc := "(III)I" } : Jvm.MethodName)) ∈ lw_all := lw_g (lw_at lw_m3 87 rfl) rfl
theorem q689 : (Jvm.Cond.static ({ cls := "java/lang/StringUTF16", name := "getChars", desc := "(III[B)I" } : Jvm.MethodName)) ∈ lw_all := lw_g (lw_at lw_m3 117 rfl) rfl
theorem q690 : (Jvm.Cond.code ({ cls := "java/lang/StringUTF16", name := "getChars", desc := "(III[B)I" } : Jvm.MethodName) prog_32_method_77_code (5 : Nat) (Option.some Jvm.ClassFile.FieldType.int)) ∈ lw_all := lw_g (lw_at lw_m3 118 rfl) rfl
theorem q691 : (Jvm.Cond.methodLink "java/lang/StringUTF16" (393 : Nat) ({ cls := "java/lang/StringUTF16", name := "getChars", desc := "(II[B)I" } : Jvm.MethodName)) ∈ lw_all := lw_g (lw_at lw_m3 119 rfl) rfl
theorem q692 : (Jvm.Cond.static ({ cls := "java/lang/StringUTF16", name := "getChars", desc := "(II[B)I" } : Jvm.MethodName)) ∈ lw_all := lw_g (lw_at lw_m3 120 rfl) rfl
theorem q693 : (Jvm.Cond.code ({ cls := "java/lang/StringUTF16", name := "getChars", desc := "(II[B)I" } : Jvm.MethodName) prog_32_method_89_code (7 : Nat) (Option.some Jvm.ClassFile.FieldType.int)) ∈ lw_all := lw_g (lw_at lw_m3 121 rfl) rfl
theorem q694 : (Jvm.Cond.fieldLink "java/lang/StringUTF16" (403 : Nat) "java/lang/Integer" "DigitOnes" "[B") ∈ lw_all := lw_g (lw_at lw_m3 122 rfl) rfl
theorem q695 : (Jvm.Cond.fieldLink "java/lang/StringUTF16" (407 : Nat) "java/lang/Integer" "DigitTens" "[B") ∈ lw_all := lw_g (lw_at lw_m3 123 rfl) rfl
theorem q745 : (Jvm.Cond.static ({ cls := "java/lang/StringUTF16", name := "compress", desc := "([BII)[B" } : Jvm.MethodName)) ∈ lw_all := lw_g (lw_at lw_m3 173 rfl) rfl
theorem q746 : (Jvm.Cond.code ({ cls := "java/lang/StringUTF16", name := "compress", desc := "([BII)[B" } : Jvm.MethodName) prog_32_method_17_code (6 : Nat) (Option.some (Jvm.ClassFile.FieldType.array Jvm.ClassFile.FieldType.byte))) ∈ lw_all := lw_g (lw_at lw_m3 174 rfl) rfl
theorem q747 : (Jvm.Cond.methodLink "java/lang/StringUTF16" (123 : Nat) ({ cls := "java/lang/StringUTF16", name := "compress", desc := "([BI[BII)I" } : Jvm.MethodName)) ∈ lw_all := lw_g (lw_at lw_m3 175 rfl) rfl
theorem q748 : (Jvm.Cond.static ({ cls := "java/lang/StringUTF16", name := "compress", desc := "([BI[BII)I" } : Jvm.MethodName)) ∈ lw_all := lw_g (lw_at lw_m3 176 rfl) rfl
theorem q749 : (Jvm.Cond.code ({ cls := "java/lang/StringUTF16", name := "compress", desc := "([BI[BII)I" } : Jvm.MethodName) prog_32_method_22_code (7 : Nat) (Option.some Jvm.ClassFile.FieldType.int)) ∈ lw_all := lw_g (lw_at lw_m3 177 rfl) rfl
theorem q750 : (Jvm.Cond.methodLink "java/lang/StringUTF16" (71 : Nat) ({ cls := "java/lang/StringUTF16", name := "getChar", desc := "([BI)C" } : Jvm.MethodName)) ∈ lw_all := lw_g (lw_at lw_m3 178 rfl) rfl
theorem q751 : (Jvm.Cond.static ({ cls := "java/lang/StringUTF16", name := "getChar", desc := "([BI)C" } : Jvm.MethodName)) ∈ lw_all := lw_g (lw_at lw_m3 179 rfl) rfl
theorem q752 : (Jvm.Cond.code ({ cls := "java/lang/StringUTF16", name := "getChar", desc := "([BI)C" } : Jvm.MethodName) prog_32_method_5_code (2 : Nat) (Option.some Jvm.ClassFile.FieldType.char)) ∈ lw_all := lw_g (lw_at lw_m3 180 rfl) rfl
theorem q753 : (Jvm.Cond.methodLink "java/lang/StringUTF16" (126 : Nat) ({ cls := "java/util/Arrays", name := "copyOfRange", desc := "([BII)[B" } : Jvm.MethodName)) ∈ lw_all := lw_g (lw_at lw_m3 181 rfl) rfl
theorem q755 : (Jvm.Cond.static ({ cls := "java/lang/StringUTF16", name := "coderFromArrayLen", desc := "([BI)B" } : Jvm.MethodName)) ∈ lw_all := lw_g (lw_at lw_m3 183 rfl) rfl
theorem q756 : (Jvm.Cond.code ({ cls := "java/lang/StringUTF16", name := "coderFromArrayLen", desc := "([BI)B" } : Jvm.MethodName) prog_32_method_15_code (2 : Nat) (Option.some Jvm.ClassFile.FieldType.byte)) ∈ lw_all := lw_g (lw_at lw_m3 184 rfl) rfl
theorem q815 : (Jvm.Cond.static ({ cls := "java/lang/StringUTF16", name := "fillNull", desc := "([BII)V" } : Jvm.MethodName)) ∈ lw_all := lw_g (lw_at lw_m4 3 rfl) rfl
theorem q816 : (Jvm.Cond.code ({ cls := "java/lang/StringUTF16", name := "fillNull", desc := "([BII)V" } : Jvm.MethodName) prog_32_method_70_code (3 : Nat) (Option.none : Option Jvm.ClassFile.FieldType)) ∈ lw_all := lw_g (lw_at lw_m4 4 rfl) rfl
theorem q817 : (Jvm.Cond.methodLink "java/lang/StringUTF16" (380 : Nat) ({ cls := "java/util/Arrays", name := "fill", desc := "([BIIB)V" } : Jvm.MethodName)) ∈ lw_all := lw_g (lw_at lw_m4 5 rfl) rfl
theorem q1304 : (Jvm.Cond.static ({ cls := "java/lang/StringUTF16", name := "compareTo", desc := "([B[B)I" } : Jvm.MethodName)) ∈ lw_all := lw_g (lw_at lw_m6 12 rfl) rfl
theorem q1305 : (Jvm.Cond.code ({ cls := "java/lang/StringUTF16", name := "compareTo", desc := "([B[B)I" } : Jvm.MethodName) prog_32_method_29_code (4 : Nat) (Option.some Jvm.ClassFile.FieldType.int)) ∈ lw_all := lw_g (lw_at lw_m6 13 rfl) rfl
theorem q1306 : (Jvm.Cond.methodLink "java/lang/StringUTF16" (176 : Nat) ({ cls := "java/lang/StringUTF16", name := "compareValues", desc := "([B[BII)I" } : Jvm.MethodName)) ∈ lw_all := lw_g (lw_at lw_m6 14 rfl) rfl
theorem q1307 : (Jvm.Cond.static ({ cls := "java/lang/StringUTF16", name := "compareValues", desc := "([B[BII)I" } : Jvm.MethodName)) ∈ lw_all := lw_g (lw_at lw_m6 15 rfl) rfl
theorem q1308 : (Jvm.Cond.code ({ cls := "java/lang/StringUTF16", name := "compareValues", desc := "([B[BII)I" } : Jvm.MethodName) prog_32_method_31_code (8 : Nat) (Option.some Jvm.ClassFile.FieldType.int)) ∈ lw_all := lw_g (lw_at lw_m6 16 rfl) rfl
theorem q1309 : (Jvm.Cond.methodLink "java/lang/StringUTF16" (183 : Nat) ({ cls := "java/lang/Math", name := "min", desc := "(II)I" } : Jvm.MethodName)) ∈ lw_all := lw_g (lw_at lw_m6 17 rfl) rfl
theorem q1322 : (Jvm.Cond.static ({ cls := "java/lang/StringUTF16", name := "compareToLatin1", desc := "([B[B)I" } : Jvm.MethodName)) ∈ lw_all := lw_g (lw_at lw_m6 30 rfl) rfl
theorem q1323 : (Jvm.Cond.code ({ cls := "java/lang/StringUTF16", name := "compareToLatin1", desc := "([B[B)I" } : Jvm.MethodName) prog_32_method_32_code (2 : Nat) (Option.some Jvm.ClassFile.FieldType.int)) ∈ lw_all := lw_g (lw_at lw_m6 31 rfl) rfl
theorem q1324 : (Jvm.Cond.methodLink "java/lang/StringUTF16" (189 : Nat) ({ cls := "java/lang/StringLatin1", name := "compareToUTF16", desc := "([B[B)I" } : Jvm.MethodName)) ∈ lw_all := lw_g (lw_at lw_m6 32 rfl) rfl
theorem q1341 : (Jvm.Cond.static ({ cls := "java/lang/StringUTF16", name := "compareTo", desc := "([B[BII)I" } : Jvm.MethodName)) ∈ lw_all := lw_g (lw_at lw_m6 49 rfl) rfl
theorem q1342 : (Jvm.Cond.code ({ cls := "java/lang/StringUTF16", name := "compareTo", desc := "([B[BII)I" } : Jvm.MethodName) prog_32_method_30_code (4 : Nat) (Option.some Jvm.ClassFile.FieldType.int)) ∈ lw_all := lw_g (lw_at lw_m6 50 rfl) rfl
theorem q1343 : (Jvm.Cond.methodLink "java/lang/StringUTF16" (180 : Nat) ({ cls := "java/lang/StringUTF16", name := "checkOffset", desc := "(I[B)V" } : Jvm.MethodName)) ∈ lw_all := lw_g (lw_at lw_m6 51 rfl) rfl
theorem q1344 : (Jvm.Cond.static ({ cls := "java/lang/StringUTF16", name := "checkOffset", desc := "(I[B)V" } : Jvm.MethodName)) ∈ lw_all := lw_g (lw_at lw_m6 52 rfl) rfl
theorem q1345 : (Jvm.Cond.code ({ cls := "java/lang/StringUTF16", name := "checkOffset", desc := "(I[B)V" } : Jvm.MethodName) prog_32_method_92_code (2 : Nat) (Option.none : Option Jvm.ClassFile.FieldType)) ∈ lw_all := lw_g (lw_at lw_m6 53 rfl) rfl
theorem q1346 : (Jvm.Cond.methodLink "java/lang/StringUTF16" (417 : Nat) ({ cls := "java/lang/String", name := "checkOffset", desc := "(II)V" } : Jvm.MethodName)) ∈ lw_all := lw_g (lw_at lw_m6 54 rfl) rfl
theorem q1354 : (Jvm.Cond.static ({ cls := "java/lang/StringUTF16", name := "compareToLatin1", desc := "([B[BII)I" } : Jvm.MethodName)) ∈ lw_all := lw_g (lw_at lw_m6 62 rfl) rfl
theorem q1355 : (Jvm.Cond.code ({ cls := "java/lang/StringUTF16", name := "compareToLatin1", desc := "([B[BII)I" } : Jvm.MethodName) prog_32_method_33_code (4 : Nat) (Option.some Jvm.ClassFile.FieldType.int)) ∈ lw_all := lw_g (lw_at lw_m6 63 rfl) rfl
theorem q1356 : (Jvm.Cond.methodLink "java/lang/StringUTF16" (193 : Nat) ({ cls := "java/lang/StringLatin1", name := "compareToUTF16", desc := "([B[BII)I" } : Jvm.MethodName)) ∈ lw_all := lw_g (lw_at lw_m6 64 rfl) rfl
theorem q2020 : (Jvm.Cond.static ({ cls := "java/lang/StringUTF16", name := "putCharSB", desc := "([BII)V" } : Jvm.MethodName)) ∈ lw_all := lw_g (lw_at lw_m9 8 rfl) rfl
theorem q2021 : (Jvm.Cond.code ({ cls := "java/lang/StringUTF16", name := "putCharSB", desc := "([BII)V" } : Jvm.MethodName) prog_32_method_71_code (3 : Nat) (Option.none : Option Jvm.ClassFile.FieldType)) ∈ lw_all := lw_g (lw_at lw_m9 9 rfl) rfl
theorem q2022 : (Jvm.Cond.methodLink "java/lang/StringUTF16" (67 : Nat) ({ cls := "java/lang/StringUTF16", name := "checkIndex", desc := "(I[B)V" } : Jvm.MethodName)) ∈ lw_all := lw_g (lw_at lw_m9 10 rfl) rfl
theorem q2023 : (Jvm.Cond.static ({ cls := "java/lang/StringUTF16", name := "checkIndex", desc := "(I[B)V" } : Jvm.MethodName)) ∈ lw_all := lw_g (lw_at lw_m9 11 rfl) rfl
theorem q2024 : (Jvm.Cond.code ({ cls := "java/lang/StringUTF16", name := "checkIndex", desc := "(I[B)V" } : Jvm.MethodName) prog_32_method_91_code (2 : Nat) (Option.none : Option Jvm.ClassFile.FieldType)) ∈ lw_all := lw_g (lw_at lw_m9 12 rfl) rfl
theorem q2025 : (Jvm.Cond.methodLink "java/lang/StringUTF16" (414 : Nat) ({ cls := "java/lang/String", name := "checkIndex", desc := "(II)V" } : Jvm.MethodName)) ∈ lw_all := lw_g (lw_at lw_m9 13 rfl) rfl
/-! java/lang/IndexOutOfBoundsException -/
set_option maxRecDepth 100000
def RJ17 : String := "java/lang/IndexOutOfBoundsException"
def TJ17 : u_T := fun k => match k with
  | 0 => ("java/lang/Throwable", "cause", "Ljava/lang/Throwable;", false)
  | 1 => ("java/lang/Throwable", "stackTrace", "[Ljava/lang/StackTraceElement;", false)
  | 2 => ("java/lang/Throwable", "suppressedExceptions", "Ljava/util/List;", false)
  | 3 => ("java/lang/Throwable", "detailMessage", "Ljava/lang/String;", false)
  | 4 => ("java/lang/Throwable", "backtrace", "Ljava/lang/Object;", false)
  | _ => ("java/lang/Throwable", "depth", "I", false)
def tyJ17 : Nat → FieldType := fun k => match k with
  | 0 => .object "java/lang/Throwable"
  | 1 => .array (.object "java/lang/StackTraceElement")
  | 2 => .object "java/util/List"
  | 3 => .object "java/lang/String"
  | 4 => .object "java/lang/Object"
  | _ => .int
abbrev wsJ170 : List Cond := u_ws RJ17 TJ17 6
theorem nmJ17 : ∀ a, a < 6 → ∀ b, b < 6 → a ≠ b → (TJ17 a).2.1 ≠ (TJ17 b).2.1 := by decide +kernel
theorem tyJ17_ok : ∀ k, k < 6 → parseFieldDescriptor (TJ17 k).2.2.1 = some (tyJ17 k) := by decide +kernel
abbrev cJ17_init : ByteArray := prog_20_method_2_code
def yJ17_init : MethodName := ⟨RJ17, "<init>", "(Ljava/lang/String;)V"⟩
def dkwJ17_init_0 : List UInt8 := [42, 43, 183, 0, 7, 177]
abbrev dktJ17_init_0 : List UInt8 := dkwJ17_init_0 ++ []
theorem dksJ17_init_0 : cJ17_init.data.toList.drop 0 = dktJ17_init_0 := by decide +kernel
theorem dJ17_init_0 : decode cJ17_init 0 = .ok (.aload_n 0, 1) := dk_42 (dk_at dksJ17_init_0 0 rfl rfl)
theorem dJ17_init_1 : decode cJ17_init 1 = .ok (.aload_n 1, 1) := dk_43 (dk_at dksJ17_init_0 1 rfl rfl)
theorem dJ17_init_2 : decode cJ17_init 2 = .ok (.invokespecial 7, 3) := dk_183 0 7 (dk_at dksJ17_init_0 2 rfl rfl)
theorem dJ17_init_5 : decode cJ17_init 5 = .ok (.return_, 1) := dk_177 (dk_at dksJ17_init_0 5 rfl rfl)
theorem q115 : (Jvm.Cond.initialized "java/lang/IndexOutOfBoundsException") ∈ lw_all := lw_g (lw_at lw_m1 23 rfl) rfl
theorem q209 : (Jvm.Cond.selects "java/lang/IndexOutOfBoundsException" ({ cls := "java/lang/Throwable", name := "fillInStackTrace", desc := "()Ljava/lang/Throwable;" } : Jvm.MethodName) ({ cls := "java/lang/Throwable", name := "fillInStackTrace", desc := "()Ljava/lang/Throwable;" } : Jvm.MethodName)) ∈ lw_all := lw_g (lw_at lw_m1 117 rfl) rfl
theorem q769 : (Jvm.Cond.instanceMethod ({ cls := "java/lang/IndexOutOfBoundsException", name := "<init>", desc := "(Ljava/lang/String;)V" } : Jvm.MethodName)) ∈ lw_all := lw_g (lw_at lw_m3 197 rfl) rfl
theorem q770 : (Jvm.Cond.code ({ cls := "java/lang/IndexOutOfBoundsException", name := "<init>", desc := "(Ljava/lang/String;)V" } : Jvm.MethodName) prog_20_method_2_code (2 : Nat) (Option.none : Option Jvm.ClassFile.FieldType)) ∈ lw_all := lw_g (lw_at lw_m3 198 rfl) rfl
theorem q771 : (Jvm.Cond.methodLink "java/lang/IndexOutOfBoundsException" (7 : Nat) ({ cls := "java/lang/RuntimeException", name := "<init>", desc := "(Ljava/lang/String;)V" } : Jvm.MethodName)) ∈ lw_all := lw_g (lw_at lw_m3 199 rfl) rfl
theorem q794 : (Jvm.Cond.declares ({ cls := "java/lang/IndexOutOfBoundsException", name := "<init>", desc := "()V" } : Jvm.MethodName)) ∈ lw_tbl := lw_at lw_m3 222 rfl
theorem q795 : (Jvm.Cond.declares ({ cls := "java/lang/IndexOutOfBoundsException", name := "<init>", desc := "(Ljava/lang/String;)V" } : Jvm.MethodName)) ∈ lw_tbl := lw_at lw_m3 223 rfl
theorem q1559 : (Jvm.Cond.selects "java/lang/IndexOutOfBoundsException" ({ cls := "java/lang/Object", name := "getClass", desc := "()Ljava/lang/Class;" } : Jvm.MethodName) ({ cls := "java/lang/Object", name := "getClass", desc := "()Ljava/lang/Class;" } : Jvm.MethodName)) ∈ lw_all := lw_g (lw_at lw_m7 27 rfl) rfl
theorem q1819 : (Jvm.Cond.instantiable "java/lang/IndexOutOfBoundsException" (6 : Nat)) ∈ lw_all := lw_g (lw_at lw_m8 47 rfl) rfl
theorem q1820 : (Jvm.Cond.castable "java/lang/IndexOutOfBoundsException" "java/lang/IndexOutOfBoundsException") ∈ lw_tbl := lw_at lw_m8 48 rfl
theorem q1821 : (Jvm.Cond.selects "java/lang/IndexOutOfBoundsException" ({ cls := "java/lang/Throwable", name := "fillInStackTrace", desc := "(I)Ljava/lang/Throwable;" } : Jvm.MethodName) ({ cls := "java/lang/Throwable", name := "fillInStackTrace", desc := "(I)Ljava/lang/Throwable;" } : Jvm.MethodName)) ∈ lw_all := lw_g (lw_at lw_m8 49 rfl) rfl
theorem q1822 : (Jvm.Cond.lays "java/lang/IndexOutOfBoundsException" "java/lang/Throwable" "cause" "Ljava/lang/Throwable;") ∈ lw_all := lw_g (lw_at lw_m8 50 rfl) rfl
theorem q1823 : (Jvm.Cond.lays "java/lang/IndexOutOfBoundsException" "java/lang/Throwable" "stackTrace" "[Ljava/lang/StackTraceElement;") ∈ lw_all := lw_g (lw_at lw_m8 51 rfl) rfl
theorem q1824 : (Jvm.Cond.lays "java/lang/IndexOutOfBoundsException" "java/lang/Throwable" "suppressedExceptions" "Ljava/util/List;") ∈ lw_all := lw_g (lw_at lw_m8 52 rfl) rfl
theorem q1825 : (Jvm.Cond.lays "java/lang/IndexOutOfBoundsException" "java/lang/Throwable" "detailMessage" "Ljava/lang/String;") ∈ lw_all := lw_g (lw_at lw_m8 53 rfl) rfl
theorem q1826 : (Jvm.Cond.lays "java/lang/IndexOutOfBoundsException" "java/lang/Throwable" "backtrace" "Ljava/lang/Object;") ∈ lw_all := lw_g (lw_at lw_m8 54 rfl) rfl
theorem q1828 : (Jvm.Cond.instanceMethod ({ cls := "java/lang/IndexOutOfBoundsException", name := "<init>", desc := "()V" } : Jvm.MethodName)) ∈ lw_all := lw_g (lw_at lw_m8 56 rfl) rfl
theorem q1829 : (Jvm.Cond.code ({ cls := "java/lang/IndexOutOfBoundsException", name := "<init>", desc := "()V" } : Jvm.MethodName) prog_20_method_1_code (1 : Nat) (Option.none : Option Jvm.ClassFile.FieldType)) ∈ lw_all := lw_g (lw_at lw_m8 57 rfl) rfl
theorem q1830 : (Jvm.Cond.methodLink "java/lang/IndexOutOfBoundsException" (1 : Nat) ({ cls := "java/lang/RuntimeException", name := "<init>", desc := "()V" } : Jvm.MethodName)) ∈ lw_all := lw_g (lw_at lw_m8 58 rfl) rfl
theorem q1831 : (Jvm.Cond.lays "java/lang/IndexOutOfBoundsException" "java/lang/Throwable" "depth" "I") ∈ lw_all := lw_g (lw_at lw_m8 59 rfl) rfl
theorem q1832 : (Jvm.Cond.superclass "java/lang/IndexOutOfBoundsException" "java/lang/RuntimeException") ∈ lw_all := lw_g (lw_at lw_m8 60 rfl) rfl
theorem q2544 : (Jvm.Cond.castable "java/lang/IndexOutOfBoundsException" "java/lang/Object") ∈ lw_tbl := lw_at lw_m11 52 rfl
theorem in_J17 : ∀ w ∈ wsJ170, w ∈ lw_all := lw_in wsJ170 [1822, 1823, 1824, 1825, 1826, 1831] (by decide +kernel) (by decide +kernel)
/-! java/lang/ArrayIndexOutOfBoundsException -/
set_option maxRecDepth 100000
def RJ18 : String := "java/lang/ArrayIndexOutOfBoundsException"
def TJ18 : u_T := fun k => match k with
  | 0 => ("java/lang/Throwable", "cause", "Ljava/lang/Throwable;", false)
  | 1 => ("java/lang/Throwable", "stackTrace", "[Ljava/lang/StackTraceElement;", false)
  | 2 => ("java/lang/Throwable", "suppressedExceptions", "Ljava/util/List;", false)
  | 3 => ("java/lang/Throwable", "detailMessage", "Ljava/lang/String;", false)
  | 4 => ("java/lang/Throwable", "backtrace", "Ljava/lang/Object;", false)
  | _ => ("java/lang/Throwable", "depth", "I", false)
def tyJ18 : Nat → FieldType := fun k => match k with
  | 0 => .object "java/lang/Throwable"
  | 1 => .array (.object "java/lang/StackTraceElement")
  | 2 => .object "java/util/List"
  | 3 => .object "java/lang/String"
  | 4 => .object "java/lang/Object"
  | _ => .int
abbrev wsJ180 : List Cond := u_ws RJ18 TJ18 6
theorem nmJ18 : ∀ a, a < 6 → ∀ b, b < 6 → a ≠ b → (TJ18 a).2.1 ≠ (TJ18 b).2.1 := by decide +kernel
theorem tyJ18_ok : ∀ k, k < 6 → parseFieldDescriptor (TJ18 k).2.2.1 = some (tyJ18 k) := by decide +kernel
theorem q116 : (Jvm.Cond.initialized "java/lang/ArrayIndexOutOfBoundsException") ∈ lw_all := lw_g (lw_at lw_m1 24 rfl) rfl
theorem q207 : (Jvm.Cond.selects "java/lang/ArrayIndexOutOfBoundsException" ({ cls := "java/lang/Throwable", name := "fillInStackTrace", desc := "()Ljava/lang/Throwable;" } : Jvm.MethodName) ({ cls := "java/lang/Throwable", name := "fillInStackTrace", desc := "()Ljava/lang/Throwable;" } : Jvm.MethodName)) ∈ lw_all := lw_g (lw_at lw_m1 115 rfl) rfl
theorem q792 : (Jvm.Cond.instantiable "java/lang/ArrayIndexOutOfBoundsException" (6 : Nat)) ∈ lw_all := lw_g (lw_at lw_m3 220 rfl) rfl
theorem q793 : (Jvm.Cond.castable "java/lang/ArrayIndexOutOfBoundsException" "java/lang/ArrayIndexOutOfBoundsException") ∈ lw_tbl := lw_at lw_m3 221 rfl
theorem q796 : (Jvm.Cond.selects "java/lang/ArrayIndexOutOfBoundsException" ({ cls := "java/lang/Throwable", name := "fillInStackTrace", desc := "(I)Ljava/lang/Throwable;" } : Jvm.MethodName) ({ cls := "java/lang/Throwable", name := "fillInStackTrace", desc := "(I)Ljava/lang/Throwable;" } : Jvm.MethodName)) ∈ lw_all := lw_g (lw_at lw_m3 224 rfl) rfl
theorem q797 : (Jvm.Cond.lays "java/lang/ArrayIndexOutOfBoundsException" "java/lang/Throwable" "cause" "Ljava/lang/Throwable;") ∈ lw_all := lw_g (lw_at lw_m3 225 rfl) rfl
theorem q798 : (Jvm.Cond.lays "java/lang/ArrayIndexOutOfBoundsException" "java/lang/Throwable" "stackTrace" "[Ljava/lang/StackTraceElement;") ∈ lw_all := lw_g (lw_at lw_m3 226 rfl) rfl
theorem q799 : (Jvm.Cond.lays "java/lang/ArrayIndexOutOfBoundsException" "java/lang/Throwable" "suppressedExceptions" "Ljava/util/List;") ∈ lw_all := lw_g (lw_at lw_m3 227 rfl) rfl
theorem q800 : (Jvm.Cond.lays "java/lang/ArrayIndexOutOfBoundsException" "java/lang/Throwable" "detailMessage" "Ljava/lang/String;") ∈ lw_all := lw_g (lw_at lw_m3 228 rfl) rfl
theorem q801 : (Jvm.Cond.lays "java/lang/ArrayIndexOutOfBoundsException" "java/lang/Throwable" "backtrace" "Ljava/lang/Object;") ∈ lw_all := lw_g (lw_at lw_m3 229 rfl) rfl
theorem q803 : (Jvm.Cond.instanceMethod ({ cls := "java/lang/ArrayIndexOutOfBoundsException", name := "<init>", desc := "(I)V" } : Jvm.MethodName)) ∈ lw_all := lw_g (lw_at lw_m3 231 rfl) rfl
theorem q804 : (Jvm.Cond.code ({ cls := "java/lang/ArrayIndexOutOfBoundsException", name := "<init>", desc := "(I)V" } : Jvm.MethodName) prog_12_method_3_code (2 : Nat) (Option.none : Option Jvm.ClassFile.FieldType)) ∈ lw_all := lw_g (lw_at lw_m3 232 rfl) rfl
theorem q805 : (Jvm.Cond.classLink "java/lang/ArrayIndexOutOfBoundsException" (10 : Nat) "java/lang/StringBuilder") ∈ lw_all := lw_g (lw_at lw_m3 233 rfl) rfl
theorem q806 : (Jvm.Cond.methodLink "java/lang/ArrayIndexOutOfBoundsException" (12 : Nat) ({ cls := "java/lang/StringBuilder", name := "<init>", desc := "()V" } : Jvm.MethodName)) ∈ lw_all := lw_g (lw_at lw_m3 234 rfl) rfl
theorem q807 : (Jvm.Cond.stringRef "java/lang/ArrayIndexOutOfBoundsException" (13 : Nat) "Array index out of range: ") ∈ lw_tbl := lw_at lw_m3 235 rfl
theorem q808 : (Jvm.Cond.methodLink "java/lang/ArrayIndexOutOfBoundsException" (15 : Nat) ({ cls := "java/lang/StringBuilder", name := "append", desc := "(Ljava/lang/String;)Ljava/lang/StringBuilder;" } : Jvm.MethodName)) ∈ lw_all := lw_g (lw_at lw_m3 236 rfl) rfl
theorem q809 : (Jvm.Cond.methodLink "java/lang/ArrayIndexOutOfBoundsException" (19 : Nat) ({ cls := "java/lang/StringBuilder", name := "append", desc := "(I)Ljava/lang/StringBuilder;" } : Jvm.MethodName)) ∈ lw_all := lw_g (lw_at lw_m3 237 rfl) rfl
theorem q810 : (Jvm.Cond.methodLink "java/lang/ArrayIndexOutOfBoundsException" (22 : Nat) ({ cls := "java/lang/StringBuilder", name := "toString", desc := "()Ljava/lang/String;" } : Jvm.MethodName)) ∈ lw_all := lw_g (lw_at lw_m3 238 rfl) rfl
theorem q811 : (Jvm.Cond.methodLink "java/lang/ArrayIndexOutOfBoundsException" (7 : Nat) ({ cls := "java/lang/IndexOutOfBoundsException", name := "<init>", desc := "(Ljava/lang/String;)V" } : Jvm.MethodName)) ∈ lw_all := lw_g (lw_at lw_m3 239 rfl) rfl
theorem q812 : (Jvm.Cond.lays "java/lang/ArrayIndexOutOfBoundsException" "java/lang/Throwable" "depth" "I") ∈ lw_all := lw_g (lw_at lw_m4 0 rfl) rfl
theorem q813 : (Jvm.Cond.superclass "java/lang/ArrayIndexOutOfBoundsException" "java/lang/IndexOutOfBoundsException") ∈ lw_all := lw_g (lw_at lw_m4 1 rfl) rfl
theorem q1556 : (Jvm.Cond.selects "java/lang/ArrayIndexOutOfBoundsException" ({ cls := "java/lang/Object", name := "getClass", desc := "()Ljava/lang/Class;" } : Jvm.MethodName) ({ cls := "java/lang/Object", name := "getClass", desc := "()Ljava/lang/Class;" } : Jvm.MethodName)) ∈ lw_all := lw_g (lw_at lw_m7 24 rfl) rfl
theorem q1806 : (Jvm.Cond.instanceMethod ({ cls := "java/lang/ArrayIndexOutOfBoundsException", name := "<init>", desc := "(Ljava/lang/String;)V" } : Jvm.MethodName)) ∈ lw_all := lw_g (lw_at lw_m8 34 rfl) rfl
theorem q1807 : (Jvm.Cond.code ({ cls := "java/lang/ArrayIndexOutOfBoundsException", name := "<init>", desc := "(Ljava/lang/String;)V" } : Jvm.MethodName) prog_12_method_2_code (2 : Nat) (Option.none : Option Jvm.ClassFile.FieldType)) ∈ lw_all := lw_g (lw_at lw_m8 35 rfl) rfl
theorem q2530 : (Jvm.Cond.castable "java/lang/ArrayIndexOutOfBoundsException" "java/lang/IndexOutOfBoundsException") ∈ lw_tbl := lw_at lw_m11 38 rfl
theorem q2543 : (Jvm.Cond.castable "java/lang/ArrayIndexOutOfBoundsException" "java/lang/Object") ∈ lw_tbl := lw_at lw_m11 51 rfl
theorem in_J18 : ∀ w ∈ wsJ180, w ∈ lw_all := lw_in wsJ180 [797, 798, 799, 800, 801, 812] (by decide +kernel) (by decide +kernel)
/-! java/lang/IllegalStateException -/
set_option maxRecDepth 100000
def RJ19 : String := "java/lang/IllegalStateException"
def TJ19 : u_T := fun k => match k with
  | 0 => ("java/lang/Throwable", "cause", "Ljava/lang/Throwable;", false)
  | 1 => ("java/lang/Throwable", "stackTrace", "[Ljava/lang/StackTraceElement;", false)
  | 2 => ("java/lang/Throwable", "suppressedExceptions", "Ljava/util/List;", false)
  | 3 => ("java/lang/Throwable", "detailMessage", "Ljava/lang/String;", false)
  | 4 => ("java/lang/Throwable", "backtrace", "Ljava/lang/Object;", false)
  | _ => ("java/lang/Throwable", "depth", "I", false)
def tyJ19 : Nat → FieldType := fun k => match k with
  | 0 => .object "java/lang/Throwable"
  | 1 => .array (.object "java/lang/StackTraceElement")
  | 2 => .object "java/util/List"
  | 3 => .object "java/lang/String"
  | 4 => .object "java/lang/Object"
  | _ => .int
abbrev wsJ190 : List Cond := u_ws RJ19 TJ19 6
theorem nmJ19 : ∀ a, a < 6 → ∀ b, b < 6 → a ≠ b → (TJ19 a).2.1 ≠ (TJ19 b).2.1 := by decide +kernel
theorem tyJ19_ok : ∀ k, k < 6 → parseFieldDescriptor (TJ19 k).2.2.1 = some (tyJ19 k) := by decide +kernel
abbrev cJ19_init : ByteArray := prog_19_method_1_code
def yJ19_init : MethodName := ⟨RJ19, "<init>", "()V"⟩
theorem dJ19_init_0 : decode cJ19_init 0 = .ok (.aload_n 0, 1) := by decide +kernel
theorem dJ19_init_1 : decode cJ19_init 1 = .ok (.invokespecial 1, 3) := by decide +kernel
theorem dJ19_init_4 : decode cJ19_init 4 = .ok (.return_, 1) := by decide +kernel
theorem q117 : (Jvm.Cond.initialized "java/lang/IllegalStateException") ∈ lw_all := lw_g (lw_at lw_m1 25 rfl) rfl
theorem q208 : (Jvm.Cond.selects "java/lang/IllegalStateException" ({ cls := "java/lang/Throwable", name := "fillInStackTrace", desc := "()Ljava/lang/Throwable;" } : Jvm.MethodName) ({ cls := "java/lang/Throwable", name := "fillInStackTrace", desc := "()Ljava/lang/Throwable;" } : Jvm.MethodName)) ∈ lw_all := lw_g (lw_at lw_m1 116 rfl) rfl
theorem q1558 : (Jvm.Cond.selects "java/lang/IllegalStateException" ({ cls := "java/lang/Object", name := "getClass", desc := "()Ljava/lang/Class;" } : Jvm.MethodName) ({ cls := "java/lang/Object", name := "getClass", desc := "()Ljava/lang/Class;" } : Jvm.MethodName)) ∈ lw_all := lw_g (lw_at lw_m7 26 rfl) rfl
theorem q1842 : (Jvm.Cond.instantiable "java/lang/IllegalStateException" (6 : Nat)) ∈ lw_all := lw_g (lw_at lw_m8 70 rfl) rfl
theorem q1843 : (Jvm.Cond.castable "java/lang/IllegalStateException" "java/lang/IllegalStateException") ∈ lw_tbl := lw_at lw_m8 71 rfl
theorem q1844 : (Jvm.Cond.selects "java/lang/IllegalStateException" ({ cls := "java/lang/Throwable", name := "fillInStackTrace", desc := "(I)Ljava/lang/Throwable;" } : Jvm.MethodName) ({ cls := "java/lang/Throwable", name := "fillInStackTrace", desc := "(I)Ljava/lang/Throwable;" } : Jvm.MethodName)) ∈ lw_all := lw_g (lw_at lw_m8 72 rfl) rfl
theorem q1845 : (Jvm.Cond.lays "java/lang/IllegalStateException" "java/lang/Throwable" "cause" "Ljava/lang/Throwable;") ∈ lw_all := lw_g (lw_at lw_m8 73 rfl) rfl
theorem q1846 : (Jvm.Cond.lays "java/lang/IllegalStateException" "java/lang/Throwable" "stackTrace" "[Ljava/lang/StackTraceElement;") ∈ lw_all := lw_g (lw_at lw_m8 74 rfl) rfl
theorem q1847 : (Jvm.Cond.lays "java/lang/IllegalStateException" "java/lang/Throwable" "suppressedExceptions" "Ljava/util/List;") ∈ lw_all := lw_g (lw_at lw_m8 75 rfl) rfl
theorem q1848 : (Jvm.Cond.lays "java/lang/IllegalStateException" "java/lang/Throwable" "detailMessage" "Ljava/lang/String;") ∈ lw_all := lw_g (lw_at lw_m8 76 rfl) rfl
theorem q1849 : (Jvm.Cond.lays "java/lang/IllegalStateException" "java/lang/Throwable" "backtrace" "Ljava/lang/Object;") ∈ lw_all := lw_g (lw_at lw_m8 77 rfl) rfl
theorem q1851 : (Jvm.Cond.instanceMethod ({ cls := "java/lang/IllegalStateException", name := "<init>", desc := "()V" } : Jvm.MethodName)) ∈ lw_all := lw_g (lw_at lw_m8 79 rfl) rfl
theorem q1852 : (Jvm.Cond.code ({ cls := "java/lang/IllegalStateException", name := "<init>", desc := "()V" } : Jvm.MethodName) prog_19_method_1_code (1 : Nat) (Option.none : Option Jvm.ClassFile.FieldType)) ∈ lw_all := lw_g (lw_at lw_m8 80 rfl) rfl
theorem q1853 : (Jvm.Cond.methodLink "java/lang/IllegalStateException" (1 : Nat) ({ cls := "java/lang/RuntimeException", name := "<init>", desc := "()V" } : Jvm.MethodName)) ∈ lw_all := lw_g (lw_at lw_m8 81 rfl) rfl
theorem q1854 : (Jvm.Cond.lays "java/lang/IllegalStateException" "java/lang/Throwable" "depth" "I") ∈ lw_all := lw_g (lw_at lw_m8 82 rfl) rfl
theorem q1855 : (Jvm.Cond.superclass "java/lang/IllegalStateException" "java/lang/RuntimeException") ∈ lw_all := lw_g (lw_at lw_m8 83 rfl) rfl
theorem q2545 : (Jvm.Cond.castable "java/lang/IllegalStateException" "java/lang/Object") ∈ lw_tbl := lw_at lw_m11 53 rfl
theorem in_J19 : ∀ w ∈ wsJ190, w ∈ lw_all := lw_in wsJ190 [1845, 1846, 1847, 1848, 1849, 1854] (by decide +kernel) (by decide +kernel)
/-! java/util/Objects -/
set_option maxRecDepth 100000
def RJ20 : String := "java/util/Objects"
abbrev cJ20_requireNonNull : ByteArray := prog_52_method_10_code
def yJ20_requireNonNull : MethodName := ⟨RJ20, "requireNonNull", "(Ljava/lang/Object;)Ljava/lang/Object;"⟩
def dkwJ20_requireNonNull_0 : List UInt8 := [42, 199, 0, 11, 187, 0, 84, 89, 183, 0, 86, 191, 42, 176]
abbrev dktJ20_requireNonNull_0 : List UInt8 := dkwJ20_requireNonNull_0 ++ []
theorem dksJ20_requireNonNull_0 : cJ20_requireNonNull.data.toList.drop 0 = dktJ20_requireNonNull_0 := by decide +kernel
theorem dJ20_requireNonNull_0 : decode cJ20_requireNonNull 0 = .ok (.aload_n 0, 1) := dk_42 (dk_at dksJ20_requireNonNull_0 0 rfl rfl)
theorem dJ20_requireNonNull_1 : decode cJ20_requireNonNull 1 = .ok (.ifnonnull 11, 3) := dk_199 0 11 (dk_at dksJ20_requireNonNull_0 1 rfl rfl)
theorem dJ20_requireNonNull_4 : decode cJ20_requireNonNull 4 = .ok (.new 84, 3) := dk_187 0 84 (dk_at dksJ20_requireNonNull_0 4 rfl rfl)
theorem dJ20_requireNonNull_7 : decode cJ20_requireNonNull 7 = .ok (.dup, 1) := dk_89 (dk_at dksJ20_requireNonNull_0 7 rfl rfl)
theorem dJ20_requireNonNull_8 : decode cJ20_requireNonNull 8 = .ok (.invokespecial 86, 3) := dk_183 0 86 (dk_at dksJ20_requireNonNull_0 8 rfl rfl)
theorem dJ20_requireNonNull_11 : decode cJ20_requireNonNull 11 = .ok (.athrow, 1) := dk_191 (dk_at dksJ20_requireNonNull_0 11 rfl rfl)
theorem dJ20_requireNonNull_12 : decode cJ20_requireNonNull 12 = .ok (.aload_n 0, 1) := dk_42 (dk_at dksJ20_requireNonNull_0 12 rfl rfl)
theorem dJ20_requireNonNull_13 : decode cJ20_requireNonNull 13 = .ok (.areturn, 1) := dk_176 (dk_at dksJ20_requireNonNull_0 13 rfl rfl)
abbrev cJ20_checkIndex : ByteArray := prog_52_method_17_code
def yJ20_checkIndex : MethodName := ⟨RJ20, "checkIndex", "(II)I"⟩
def dkwJ20_checkIndex_0 : List UInt8 := [26, 27, 1, 184, 0, 105, 172]
abbrev dktJ20_checkIndex_0 : List UInt8 := dkwJ20_checkIndex_0 ++ []
theorem dksJ20_checkIndex_0 : cJ20_checkIndex.data.toList.drop 0 = dktJ20_checkIndex_0 := by decide +kernel
theorem dJ20_checkIndex_0 : decode cJ20_checkIndex 0 = .ok (.iload_n 0, 1) := dk_26 (dk_at dksJ20_checkIndex_0 0 rfl rfl)
theorem dJ20_checkIndex_1 : decode cJ20_checkIndex 1 = .ok (.iload_n 1, 1) := dk_27 (dk_at dksJ20_checkIndex_0 1 rfl rfl)
theorem dJ20_checkIndex_2 : decode cJ20_checkIndex 2 = .ok (.aconst_null, 1) := dk_1 (dk_at dksJ20_checkIndex_0 2 rfl rfl)
theorem dJ20_checkIndex_3 : decode cJ20_checkIndex 3 = .ok (.invokestatic 105, 3) := dk_184 0 105 (dk_at dksJ20_checkIndex_0 3 rfl rfl)
theorem dJ20_checkIndex_6 : decode cJ20_checkIndex 6 = .ok (.ireturn, 1) := dk_172 (dk_at dksJ20_checkIndex_0 6 rfl rfl)
theorem q118 : (Jvm.Cond.initialized "java/util/Objects") ∈ lw_all := lw_g (lw_at lw_m1 26 rfl) rfl
theorem q1135 : (Jvm.Cond.static ({ cls := "java/util/Objects", name := "requireNonNull", desc := "(Ljava/lang/Object;)Ljava/lang/Object;" } : Jvm.MethodName)) ∈ lw_all := lw_g (lw_at lw_m5 83 rfl) rfl
theorem q1136 : (Jvm.Cond.code ({ cls := "java/util/Objects", name := "requireNonNull", desc := "(Ljava/lang/Object;)Ljava/lang/Object;" } : Jvm.MethodName) prog_52_method_10_code (1 : Nat) (Option.some (Jvm.ClassFile.FieldType.object "java/lang/Object"))) ∈ lw_all := lw_g (lw_at lw_m5 84 rfl) rfl
theorem q1865 : (Jvm.Cond.static ({ cls := "java/util/Objects", name := "checkIndex", desc := "(II)I" } : Jvm.MethodName)) ∈ lw_all := lw_g (lw_at lw_m8 93 rfl) rfl
theorem q1866 : (Jvm.Cond.code ({ cls := "java/util/Objects", name := "checkIndex", desc := "(II)I" } : Jvm.MethodName) prog_52_method_17_code (2 : Nat) (Option.some Jvm.ClassFile.FieldType.int)) ∈ lw_all := lw_g (lw_at lw_m8 94 rfl) rfl
theorem q1867 : (Jvm.Cond.methodLink "java/util/Objects" (105 : Nat) ({ cls := "jdk/internal/util/Preconditions", name := "checkIndex", desc := "(IILjava/util/function/BiFunction;)I" } : Jvm.MethodName)) ∈ lw_all := lw_g (lw_at lw_m8 95 rfl) rfl
/-! jdk/internal/util/Preconditions -/
set_option maxRecDepth 100000
def RJ21 : String := "jdk/internal/util/Preconditions"
abbrev cJ21_checkIndex : ByteArray := prog_74_method_11_code
def yJ21_checkIndex : MethodName := ⟨RJ21, "checkIndex", "(IILjava/util/function/BiFunction;)I"⟩
def dkwJ21_checkIndex_0 : List UInt8 := [26, 155, 0, 8, 26, 27, 161, 0, 10, 44, 26, 27, 184, 0, 95, 191, 26, 172]
abbrev dktJ21_checkIndex_0 : List UInt8 := dkwJ21_checkIndex_0 ++ []
theorem dksJ21_checkIndex_0 : cJ21_checkIndex.data.toList.drop 0 = dktJ21_checkIndex_0 := by decide +kernel
theorem dJ21_checkIndex_0 : decode cJ21_checkIndex 0 = .ok (.iload_n 0, 1) := dk_26 (dk_at dksJ21_checkIndex_0 0 rfl rfl)
theorem dJ21_checkIndex_1 : decode cJ21_checkIndex 1 = .ok (.ifCond .lt 8, 3) := dk_155 0 8 (dk_at dksJ21_checkIndex_0 1 rfl rfl)
theorem dJ21_checkIndex_4 : decode cJ21_checkIndex 4 = .ok (.iload_n 0, 1) := dk_26 (dk_at dksJ21_checkIndex_0 4 rfl rfl)
theorem dJ21_checkIndex_5 : decode cJ21_checkIndex 5 = .ok (.iload_n 1, 1) := dk_27 (dk_at dksJ21_checkIndex_0 5 rfl rfl)
theorem dJ21_checkIndex_6 : decode cJ21_checkIndex 6 = .ok (.if_icmp .lt 10, 3) := dk_161 0 10 (dk_at dksJ21_checkIndex_0 6 rfl rfl)
theorem dJ21_checkIndex_9 : decode cJ21_checkIndex 9 = .ok (.aload_n 2, 1) := dk_44 (dk_at dksJ21_checkIndex_0 9 rfl rfl)
theorem dJ21_checkIndex_10 : decode cJ21_checkIndex 10 = .ok (.iload_n 0, 1) := dk_26 (dk_at dksJ21_checkIndex_0 10 rfl rfl)
theorem dJ21_checkIndex_11 : decode cJ21_checkIndex 11 = .ok (.iload_n 1, 1) := dk_27 (dk_at dksJ21_checkIndex_0 11 rfl rfl)
theorem dJ21_checkIndex_12 : decode cJ21_checkIndex 12 = .ok (.invokestatic 95, 3) := dk_184 0 95 (dk_at dksJ21_checkIndex_0 12 rfl rfl)
theorem dJ21_checkIndex_15 : decode cJ21_checkIndex 15 = .ok (.athrow, 1) := dk_191 (dk_at dksJ21_checkIndex_0 15 rfl rfl)
theorem dJ21_checkIndex_16 : decode cJ21_checkIndex 16 = .ok (.iload_n 0, 1) := dk_26 (dk_at dksJ21_checkIndex_0 16 rfl rfl)
theorem dJ21_checkIndex_17 : decode cJ21_checkIndex 17 = .ok (.ireturn, 1) := dk_172 (dk_at dksJ21_checkIndex_0 17 rfl rfl)
theorem q119 : (Jvm.Cond.initialized "jdk/internal/util/Preconditions") ∈ lw_all := lw_g (lw_at lw_m1 27 rfl) rfl
theorem q615 : (Jvm.Cond.laysStatic "jdk/internal/util/Preconditions" "SIOOBE_FORMATTER" "Ljava/util/function/BiFunction;") ∈ lw_tbl := lw_at lw_m3 43 rfl
theorem q617 : (Jvm.Cond.static ({ cls := "jdk/internal/util/Preconditions", name := "checkFromToIndex", desc := "(IIILjava/util/function/BiFunction;)I" } : Jvm.MethodName)) ∈ lw_all := lw_g (lw_at lw_m3 45 rfl) rfl
theorem q618 : (Jvm.Cond.code ({ cls := "jdk/internal/util/Preconditions", name := "checkFromToIndex", desc := "(IIILjava/util/function/BiFunction;)I" } : Jvm.MethodName) prog_74_method_12_code (4 : Nat) (Option.some Jvm.ClassFile.FieldType.int)) ∈ lw_all := lw_g (lw_at lw_m3 46 rfl) rfl
theorem q663 : (Jvm.Cond.static ({ cls := "jdk/internal/util/Preconditions", name := "checkFromIndexSize", desc := "(IIILjava/util/function/BiFunction;)I" } : Jvm.MethodName)) ∈ lw_all := lw_g (lw_at lw_m3 91 rfl) rfl
theorem q664 : (Jvm.Cond.code ({ cls := "jdk/internal/util/Preconditions", name := "checkFromIndexSize", desc := "(IIILjava/util/function/BiFunction;)I" } : Jvm.MethodName) prog_74_method_13_code (4 : Nat) (Option.some Jvm.ClassFile.FieldType.int)) ∈ lw_all := lw_g (lw_at lw_m3 92 rfl) rfl
theorem q873 : (Jvm.Cond.static ({ cls := "jdk/internal/util/Preconditions", name := "checkIndex", desc := "(IILjava/util/function/BiFunction;)I" } : Jvm.MethodName)) ∈ lw_all := lw_g (lw_at lw_m4 61 rfl) rfl
theorem q874 : (Jvm.Cond.code ({ cls := "jdk/internal/util/Preconditions", name := "checkIndex", desc := "(IILjava/util/function/BiFunction;)I" } : Jvm.MethodName) prog_74_method_11_code (3 : Nat) (Option.some Jvm.ClassFile.FieldType.int)) ∈ lw_all := lw_g (lw_at lw_m4 62 rfl) rfl
/-! java/util/TreeMap$KeySet -/
set_option maxRecDepth 100000
def RJ22 : String := "java/util/TreeMap$KeySet"
def TJ22 : u_T := fun k => match k with
  | _ => ("java/util/TreeMap$KeySet", "m", "Ljava/util/NavigableMap;", true)
def tyJ22 : Nat → FieldType := fun k => match k with
  | _ => .object "java/util/NavigableMap"
abbrev wsJ220 : List Cond := u_ws RJ22 TJ22 1
theorem nmJ22 : ∀ a, a < 1 → ∀ b, b < 1 → a ≠ b → (TJ22 a).2.1 ≠ (TJ22 b).2.1 := by decide +kernel
theorem tyJ22_ok : ∀ k, k < 1 → parseFieldDescriptor (TJ22 k).2.2.1 = some (tyJ22 k) := by decide +kernel
abbrev cJ22_init : ByteArray := prog_67_method_1_code
def yJ22_init : MethodName := ⟨RJ22, "<init>", "(Ljava/util/NavigableMap;)V"⟩
def dkwJ22_init_0 : List UInt8 := [42, 183, 0, 1, 42, 43, 181, 0, 7, 177]
abbrev dktJ22_init_0 : List UInt8 := dkwJ22_init_0 ++ []
theorem dksJ22_init_0 : cJ22_init.data.toList.drop 0 = dktJ22_init_0 := by decide +kernel
theorem dJ22_init_0 : decode cJ22_init 0 = .ok (.aload_n 0, 1) := dk_42 (dk_at dksJ22_init_0 0 rfl rfl)
theorem dJ22_init_1 : decode cJ22_init 1 = .ok (.invokespecial 1, 3) := dk_183 0 1 (dk_at dksJ22_init_0 1 rfl rfl)
theorem dJ22_init_4 : decode cJ22_init 4 = .ok (.aload_n 0, 1) := dk_42 (dk_at dksJ22_init_0 4 rfl rfl)
theorem dJ22_init_5 : decode cJ22_init 5 = .ok (.aload_n 1, 1) := dk_43 (dk_at dksJ22_init_0 5 rfl rfl)
theorem dJ22_init_6 : decode cJ22_init 6 = .ok (.putfield 7, 3) := dk_181 0 7 (dk_at dksJ22_init_0 6 rfl rfl)
theorem dJ22_init_9 : decode cJ22_init 9 = .ok (.return_, 1) := dk_177 (dk_at dksJ22_init_0 9 rfl rfl)
abbrev cJ22_iterator : ByteArray := prog_67_method_2_code
def yJ22_iterator : MethodName := ⟨RJ22, "iterator", "()Ljava/util/Iterator;"⟩
def dkwJ22_iterator_1 : List UInt8 := [180, 0, 7, 192, 0, 19, 182, 0, 21, 176]
abbrev dktJ22_iterator_1 : List UInt8 := dkwJ22_iterator_1 ++ []
def dkwJ22_iterator_0 : List UInt8 := [42, 180, 0, 7, 193, 0, 13, 153, 0, 14, 42, 180, 0, 7, 192, 0, 13, 182, 0, 15, 176, 42]
abbrev dktJ22_iterator_0 : List UInt8 := dkwJ22_iterator_0 ++ dktJ22_iterator_1
theorem dksJ22_iterator_0 : cJ22_iterator.data.toList.drop 0 = dktJ22_iterator_0 := by decide +kernel
theorem dksJ22_iterator_1 : cJ22_iterator.data.toList.drop 22 = dktJ22_iterator_1 := dk_seg dksJ22_iterator_0 22 rfl rfl
theorem dJ22_iterator_0 : decode cJ22_iterator 0 = .ok (.aload_n 0, 1) := dk_42 (dk_at dksJ22_iterator_0 0 rfl rfl)
theorem dJ22_iterator_1 : decode cJ22_iterator 1 = .ok (.getfield 7, 3) := dk_180 0 7 (dk_at dksJ22_iterator_0 1 rfl rfl)
theorem dJ22_iterator_4 : decode cJ22_iterator 4 = .ok (.instanceof 13, 3) := dk_193 0 13 (dk_at dksJ22_iterator_0 4 rfl rfl)
theorem dJ22_iterator_7 : decode cJ22_iterator 7 = .ok (.ifCond .eq 14, 3) := dk_153 0 14 (dk_at dksJ22_iterator_0 7 rfl rfl)
theorem dJ22_iterator_10 : decode cJ22_iterator 10 = .ok (.aload_n 0, 1) := dk_42 (dk_at dksJ22_iterator_0 10 rfl rfl)
theorem dJ22_iterator_11 : decode cJ22_iterator 11 = .ok (.getfield 7, 3) := dk_180 0 7 (dk_at dksJ22_iterator_0 11 rfl rfl)
theorem dJ22_iterator_14 : decode cJ22_iterator 14 = .ok (.checkcast 13, 3) := dk_192 0 13 (dk_at dksJ22_iterator_0 14 rfl rfl)
theorem dJ22_iterator_17 : decode cJ22_iterator 17 = .ok (.invokevirtual 15, 3) := dk_182 0 15 (dk_at dksJ22_iterator_0 17 rfl rfl)
theorem dJ22_iterator_20 : decode cJ22_iterator 20 = .ok (.areturn, 1) := dk_176 (dk_at dksJ22_iterator_0 20 rfl rfl)
theorem dJ22_iterator_21 : decode cJ22_iterator 21 = .ok (.aload_n 0, 1) := dk_42 (dk_at dksJ22_iterator_0 21 rfl rfl)
theorem dJ22_iterator_22 : decode cJ22_iterator 22 = .ok (.getfield 7, 3) := dk_180 0 7 (dk_at dksJ22_iterator_1 0 rfl rfl)
theorem dJ22_iterator_25 : decode cJ22_iterator 25 = .ok (.checkcast 19, 3) := dk_192 0 19 (dk_at dksJ22_iterator_1 3 rfl rfl)
theorem dJ22_iterator_28 : decode cJ22_iterator 28 = .ok (.invokevirtual 21, 3) := dk_182 0 21 (dk_at dksJ22_iterator_1 6 rfl rfl)
theorem dJ22_iterator_31 : decode cJ22_iterator 31 = .ok (.areturn, 1) := dk_176 (dk_at dksJ22_iterator_1 9 rfl rfl)
abbrev cJ22_size : ByteArray := prog_67_method_4_code
def yJ22_size : MethodName := ⟨RJ22, "size", "()I"⟩
def dkwJ22_size_0 : List UInt8 := [42, 180, 0, 7, 185, 0, 26, 1, 0, 172]
abbrev dktJ22_size_0 : List UInt8 := dkwJ22_size_0 ++ []
theorem dksJ22_size_0 : cJ22_size.data.toList.drop 0 = dktJ22_size_0 := by decide +kernel
theorem dJ22_size_0 : decode cJ22_size 0 = .ok (.aload_n 0, 1) := dk_42 (dk_at dksJ22_size_0 0 rfl rfl)
theorem dJ22_size_1 : decode cJ22_size 1 = .ok (.getfield 7, 3) := dk_180 0 7 (dk_at dksJ22_size_0 1 rfl rfl)
theorem dJ22_size_4 : decode cJ22_size 4 = .ok (.invokeinterface 26 1, 5) := by decide +kernel
theorem dJ22_size_9 : decode cJ22_size 9 = .ok (.ireturn, 1) := dk_172 (dk_at dksJ22_size_0 9 rfl rfl)
theorem q121 : (Jvm.Cond.initialized "java/util/TreeMap$KeySet") ∈ lw_all := lw_g (lw_at lw_m1 29 rfl) rfl
theorem q981 : (Jvm.Cond.instantiable "java/util/TreeMap$KeySet" (1 : Nat)) ∈ lw_all := lw_g (lw_at lw_m4 169 rfl) rfl
theorem q983 : (Jvm.Cond.instanceMethod ({ cls := "java/util/TreeMap$KeySet", name := "<init>", desc := "(Ljava/util/NavigableMap;)V" } : Jvm.MethodName)) ∈ lw_all := lw_g (lw_at lw_m4 171 rfl) rfl
theorem q984 : (Jvm.Cond.code ({ cls := "java/util/TreeMap$KeySet", name := "<init>", desc := "(Ljava/util/NavigableMap;)V" } : Jvm.MethodName) prog_67_method_1_code (2 : Nat) (Option.none : Option Jvm.ClassFile.FieldType)) ∈ lw_all := lw_g (lw_at lw_m4 172 rfl) rfl
theorem q985 : (Jvm.Cond.methodLink "java/util/TreeMap$KeySet" (1 : Nat) ({ cls := "java/util/AbstractSet", name := "<init>", desc := "()V" } : Jvm.MethodName)) ∈ lw_all := lw_g (lw_at lw_m4 173 rfl) rfl
theorem q986 : (Jvm.Cond.fieldLink "java/util/TreeMap$KeySet" (7 : Nat) "java/util/TreeMap$KeySet" "m" "Ljava/util/NavigableMap;") ∈ lw_all := lw_g (lw_at lw_m4 174 rfl) rfl
theorem q987 : (Jvm.Cond.laysFinal "java/util/TreeMap$KeySet" "java/util/TreeMap$KeySet" "m" "Ljava/util/NavigableMap;") ∈ lw_all := lw_g (lw_at lw_m4 175 rfl) rfl
theorem q988 : (Jvm.Cond.soleField "java/util/TreeMap$KeySet" "m") ∈ lw_all := lw_g (lw_at lw_m4 176 rfl) rfl
theorem q989 : (Jvm.Cond.superclass "java/util/TreeMap$KeySet" "java/util/AbstractSet") ∈ lw_all := lw_g (lw_at lw_m4 177 rfl) rfl
theorem q1026 : (Jvm.Cond.castable "java/util/TreeMap$KeySet" "java/util/Set") ∈ lw_tbl := lw_at lw_m4 214 rfl
theorem q1027 : (Jvm.Cond.selects "java/util/TreeMap$KeySet" ({ cls := "java/util/Set", name := "iterator", desc := "()Ljava/util/Iterator;" } : Jvm.MethodName) ({ cls := "java/util/TreeMap$KeySet", name := "iterator", desc := "()Ljava/util/Iterator;" } : Jvm.MethodName)) ∈ lw_all := lw_g (lw_at lw_m4 215 rfl) rfl
theorem q1028 : (Jvm.Cond.unhidden "java/util/TreeMap$KeySet" "iterator" "()Ljava/util/Iterator;") ∈ lw_tbl := lw_at lw_m4 216 rfl
theorem q1029 : (Jvm.Cond.instanceMethod ({ cls := "java/util/TreeMap$KeySet", name := "iterator", desc := "()Ljava/util/Iterator;" } : Jvm.MethodName)) ∈ lw_all := lw_g (lw_at lw_m4 217 rfl) rfl
theorem q1030 : (Jvm.Cond.publicMethod ({ cls := "java/util/TreeMap$KeySet", name := "iterator", desc := "()Ljava/util/Iterator;" } : Jvm.MethodName)) ∈ lw_tbl := lw_at lw_m4 218 rfl
theorem q1031 : (Jvm.Cond.code ({ cls := "java/util/TreeMap$KeySet", name := "iterator", desc := "()Ljava/util/Iterator;" } : Jvm.MethodName) prog_67_method_2_code (1 : Nat) (Option.some (Jvm.ClassFile.FieldType.object "java/util/Iterator"))) ∈ lw_all := lw_g (lw_at lw_m4 219 rfl) rfl
theorem q1032 : (Jvm.Cond.classLink "java/util/TreeMap$KeySet" (13 : Nat) "java/util/TreeMap") ∈ lw_all := lw_g (lw_at lw_m4 220 rfl) rfl
theorem q1033 : (Jvm.Cond.methodLink "java/util/TreeMap$KeySet" (15 : Nat) ({ cls := "java/util/TreeMap", name := "keyIterator", desc := "()Ljava/util/Iterator;" } : Jvm.MethodName)) ∈ lw_all := lw_g (lw_at lw_m4 221 rfl) rfl
theorem q1049 : (Jvm.Cond.classLink "java/util/TreeMap$KeySet" (19 : Nat) "java/util/TreeMap$NavigableSubMap") ∈ lw_all := lw_g (lw_at lw_m4 237 rfl) rfl
theorem q1050 : (Jvm.Cond.methodLink "java/util/TreeMap$KeySet" (21 : Nat) ({ cls := "java/util/TreeMap$NavigableSubMap", name := "keyIterator", desc := "()Ljava/util/Iterator;" } : Jvm.MethodName)) ∈ lw_all := lw_g (lw_at lw_m4 238 rfl) rfl
theorem q1070 : (Jvm.Cond.castable "java/util/TreeMap$KeySet" "java/util/NavigableSet") ∈ lw_tbl := lw_at lw_m5 18 rfl
theorem q1071 : (Jvm.Cond.selects "java/util/TreeMap$KeySet" ({ cls := "java/util/NavigableSet", name := "iterator", desc := "()Ljava/util/Iterator;" } : Jvm.MethodName) ({ cls := "java/util/TreeMap$KeySet", name := "iterator", desc := "()Ljava/util/Iterator;" } : Jvm.MethodName)) ∈ lw_all := lw_g (lw_at lw_m5 19 rfl) rfl
theorem q1571 : (Jvm.Cond.selects "java/util/TreeMap$KeySet" ({ cls := "java/lang/Object", name := "getClass", desc := "()Ljava/lang/Class;" } : Jvm.MethodName) ({ cls := "java/lang/Object", name := "getClass", desc := "()Ljava/lang/Class;" } : Jvm.MethodName)) ∈ lw_all := lw_g (lw_at lw_m7 39 rfl) rfl
theorem q1612 : (Jvm.Cond.selects "java/util/TreeMap$KeySet" ({ cls := "java/util/AbstractCollection", name := "size", desc := "()I" } : Jvm.MethodName) ({ cls := "java/util/TreeMap$KeySet", name := "size", desc := "()I" } : Jvm.MethodName)) ∈ lw_all := lw_g (lw_at lw_m7 80 rfl) rfl
theorem q1613 : (Jvm.Cond.instanceMethod ({ cls := "java/util/TreeMap$KeySet", name := "size", desc := "()I" } : Jvm.MethodName)) ∈ lw_all := lw_g (lw_at lw_m7 81 rfl) rfl
theorem q1614 : (Jvm.Cond.code ({ cls := "java/util/TreeMap$KeySet", name := "size", desc := "()I" } : Jvm.MethodName) prog_67_method_4_code (1 : Nat) (Option.some Jvm.ClassFile.FieldType.int)) ∈ lw_all := lw_g (lw_at lw_m7 82 rfl) rfl
theorem q1615 : (Jvm.Cond.interfaceEntry "java/util/TreeMap$KeySet" (26 : Nat)) ∈ lw_tbl := lw_at lw_m7 83 rfl
theorem q2546 : (Jvm.Cond.castable "java/util/TreeMap$KeySet" "java/lang/Object") ∈ lw_tbl := lw_at lw_m11 54 rfl
theorem in_J22 : ∀ w ∈ wsJ220, w ∈ lw_all := lw_in wsJ220 [987] (by decide +kernel) (by decide +kernel)
/-! java/util/TreeMap$PrivateEntryIterator -/
set_option maxRecDepth 100000
def RJ23 : String := "java/util/TreeMap$PrivateEntryIterator"
abbrev cJ23_init : ByteArray := prog_69_method_1_code
def yJ23_init : MethodName := ⟨RJ23, "<init>", "(Ljava/util/TreeMap;Ljava/util/TreeMap$Entry;)V"⟩
def dkwJ23_init_1 : List UInt8 := [181, 0, 26, 177]
abbrev dktJ23_init_1 : List UInt8 := dkwJ23_init_1 ++ []
def dkwJ23_init_0 : List UInt8 := [42, 43, 181, 0, 1, 42, 183, 0, 7, 42, 43, 180, 0, 13, 181, 0, 19, 42, 1, 181, 0, 22, 42, 44]
abbrev dktJ23_init_0 : List UInt8 := dkwJ23_init_0 ++ dktJ23_init_1
theorem dksJ23_init_0 : cJ23_init.data.toList.drop 0 = dktJ23_init_0 := by decide +kernel
theorem dksJ23_init_1 : cJ23_init.data.toList.drop 24 = dktJ23_init_1 := dk_seg dksJ23_init_0 24 rfl rfl
theorem dJ23_init_0 : decode cJ23_init 0 = .ok (.aload_n 0, 1) := dk_42 (dk_at dksJ23_init_0 0 rfl rfl)
theorem dJ23_init_1 : decode cJ23_init 1 = .ok (.aload_n 1, 1) := dk_43 (dk_at dksJ23_init_0 1 rfl rfl)
theorem dJ23_init_2 : decode cJ23_init 2 = .ok (.putfield 1, 3) := dk_181 0 1 (dk_at dksJ23_init_0 2 rfl rfl)
theorem dJ23_init_5 : decode cJ23_init 5 = .ok (.aload_n 0, 1) := dk_42 (dk_at dksJ23_init_0 5 rfl rfl)
theorem dJ23_init_6 : decode cJ23_init 6 = .ok (.invokespecial 7, 3) := dk_183 0 7 (dk_at dksJ23_init_0 6 rfl rfl)
theorem dJ23_init_9 : decode cJ23_init 9 = .ok (.aload_n 0, 1) := dk_42 (dk_at dksJ23_init_0 9 rfl rfl)
theorem dJ23_init_10 : decode cJ23_init 10 = .ok (.aload_n 1, 1) := dk_43 (dk_at dksJ23_init_0 10 rfl rfl)
theorem dJ23_init_11 : decode cJ23_init 11 = .ok (.getfield 13, 3) := dk_180 0 13 (dk_at dksJ23_init_0 11 rfl rfl)
theorem dJ23_init_14 : decode cJ23_init 14 = .ok (.putfield 19, 3) := dk_181 0 19 (dk_at dksJ23_init_0 14 rfl rfl)
theorem dJ23_init_17 : decode cJ23_init 17 = .ok (.aload_n 0, 1) := dk_42 (dk_at dksJ23_init_0 17 rfl rfl)
theorem dJ23_init_18 : decode cJ23_init 18 = .ok (.aconst_null, 1) := dk_1 (dk_at dksJ23_init_0 18 rfl rfl)
theorem dJ23_init_19 : decode cJ23_init 19 = .ok (.putfield 22, 3) := dk_181 0 22 (dk_at dksJ23_init_0 19 rfl rfl)
theorem dJ23_init_22 : decode cJ23_init 22 = .ok (.aload_n 0, 1) := dk_42 (dk_at dksJ23_init_0 22 rfl rfl)
theorem dJ23_init_23 : decode cJ23_init 23 = .ok (.aload_n 2, 1) := dk_44 (dk_at dksJ23_init_0 23 rfl rfl)
theorem dJ23_init_24 : decode cJ23_init 24 = .ok (.putfield 26, 3) := dk_181 0 26 (dk_at dksJ23_init_1 0 rfl rfl)
theorem dJ23_init_27 : decode cJ23_init 27 = .ok (.return_, 1) := dk_177 (dk_at dksJ23_init_1 3 rfl rfl)
abbrev cJ23_hasNext : ByteArray := prog_69_method_2_code
def yJ23_hasNext : MethodName := ⟨RJ23, "hasNext", "()Z"⟩
def dkwJ23_hasNext_0 : List UInt8 := [42, 180, 0, 26, 198, 0, 7, 4, 167, 0, 4, 3, 172]
abbrev dktJ23_hasNext_0 : List UInt8 := dkwJ23_hasNext_0 ++ []
theorem dksJ23_hasNext_0 : cJ23_hasNext.data.toList.drop 0 = dktJ23_hasNext_0 := by decide +kernel
theorem dJ23_hasNext_0 : decode cJ23_hasNext 0 = .ok (.aload_n 0, 1) := dk_42 (dk_at dksJ23_hasNext_0 0 rfl rfl)
theorem dJ23_hasNext_1 : decode cJ23_hasNext 1 = .ok (.getfield 26, 3) := dk_180 0 26 (dk_at dksJ23_hasNext_0 1 rfl rfl)
theorem dJ23_hasNext_4 : decode cJ23_hasNext 4 = .ok (.ifnull 7, 3) := dk_198 0 7 (dk_at dksJ23_hasNext_0 4 rfl rfl)
theorem dJ23_hasNext_7 : decode cJ23_hasNext 7 = .ok (.iconst 1, 1) := dk_4 (dk_at dksJ23_hasNext_0 7 rfl rfl)
theorem dJ23_hasNext_8 : decode cJ23_hasNext 8 = .ok (.goto 4, 3) := dk_167 0 4 (dk_at dksJ23_hasNext_0 8 rfl rfl)
theorem dJ23_hasNext_11 : decode cJ23_hasNext 11 = .ok (.iconst 0, 1) := dk_3 (dk_at dksJ23_hasNext_0 11 rfl rfl)
theorem dJ23_hasNext_12 : decode cJ23_hasNext 12 = .ok (.ireturn, 1) := dk_172 (dk_at dksJ23_hasNext_0 12 rfl rfl)
abbrev cJ23_nextEntry : ByteArray := prog_69_method_3_code
def yJ23_nextEntry : MethodName := ⟨RJ23, "nextEntry", "()Ljava/util/TreeMap$Entry;"⟩
def dkwJ23_nextEntry_2 : List UInt8 := [43, 181, 0, 22, 43, 176]
abbrev dktJ23_nextEntry_2 : List UInt8 := dkwJ23_nextEntry_2 ++ []
def dkwJ23_nextEntry_1 : List UInt8 := [42, 180, 0, 19, 159, 0, 11, 187, 0, 32, 89, 183, 0, 34, 191, 42, 43, 184, 0, 35, 181, 0, 26, 42]
abbrev dktJ23_nextEntry_1 : List UInt8 := dkwJ23_nextEntry_1 ++ dktJ23_nextEntry_2
def dkwJ23_nextEntry_0 : List UInt8 := [42, 180, 0, 26, 76, 43, 199, 0, 11, 187, 0, 29, 89, 183, 0, 31, 191, 42, 180, 0, 1, 180, 0, 13]
abbrev dktJ23_nextEntry_0 : List UInt8 := dkwJ23_nextEntry_0 ++ dktJ23_nextEntry_1
theorem dksJ23_nextEntry_0 : cJ23_nextEntry.data.toList.drop 0 = dktJ23_nextEntry_0 := by decide +kernel
theorem dksJ23_nextEntry_1 : cJ23_nextEntry.data.toList.drop 24 = dktJ23_nextEntry_1 := dk_seg dksJ23_nextEntry_0 24 rfl rfl
theorem dksJ23_nextEntry_2 : cJ23_nextEntry.data.toList.drop 48 = dktJ23_nextEntry_2 := dk_seg dksJ23_nextEntry_1 24 rfl rfl
theorem dJ23_nextEntry_0 : decode cJ23_nextEntry 0 = .ok (.aload_n 0, 1) := dk_42 (dk_at dksJ23_nextEntry_0 0 rfl rfl)
theorem dJ23_nextEntry_1 : decode cJ23_nextEntry 1 = .ok (.getfield 26, 3) := dk_180 0 26 (dk_at dksJ23_nextEntry_0 1 rfl rfl)
theorem dJ23_nextEntry_4 : decode cJ23_nextEntry 4 = .ok (.astore_n 1, 1) := dk_76 (dk_at dksJ23_nextEntry_0 4 rfl rfl)
theorem dJ23_nextEntry_5 : decode cJ23_nextEntry 5 = .ok (.aload_n 1, 1) := dk_43 (dk_at dksJ23_nextEntry_0 5 rfl rfl)
theorem dJ23_nextEntry_6 : decode cJ23_nextEntry 6 = .ok (.ifnonnull 11, 3) := dk_199 0 11 (dk_at dksJ23_nextEntry_0 6 rfl rfl)
theorem dJ23_nextEntry_9 : decode cJ23_nextEntry 9 = .ok (.new 29, 3) := dk_187 0 29 (dk_at dksJ23_nextEntry_0 9 rfl rfl)
theorem dJ23_nextEntry_12 : decode cJ23_nextEntry 12 = .ok (.dup, 1) := dk_89 (dk_at dksJ23_nextEntry_0 12 rfl rfl)
theorem dJ23_nextEntry_13 : decode cJ23_nextEntry 13 = .ok (.invokespecial 31, 3) := dk_183 0 31 (dk_at dksJ23_nextEntry_0 13 rfl rfl)
theorem dJ23_nextEntry_16 : decode cJ23_nextEntry 16 = .ok (.athrow, 1) := dk_191 (dk_at dksJ23_nextEntry_0 16 rfl rfl)
theorem dJ23_nextEntry_17 : decode cJ23_nextEntry 17 = .ok (.aload_n 0, 1) := dk_42 (dk_at dksJ23_nextEntry_0 17 rfl rfl)
theorem dJ23_nextEntry_18 : decode cJ23_nextEntry 18 = .ok (.getfield 1, 3) := dk_180 0 1 (dk_at dksJ23_nextEntry_0 18 rfl rfl)
theorem dJ23_nextEntry_21 : decode cJ23_nextEntry 21 = .ok (.getfield 13, 3) := dk_180 0 13 (dk_at dksJ23_nextEntry_0 21 rfl rfl)
theorem dJ23_nextEntry_24 : decode cJ23_nextEntry 24 = .ok (.aload_n 0, 1) := dk_42 (dk_at dksJ23_nextEntry_1 0 rfl rfl)
theorem dJ23_nextEntry_25 : decode cJ23_nextEntry 25 = .ok (.getfield 19, 3) := dk_180 0 19 (dk_at dksJ23_nextEntry_1 1 rfl rfl)
theorem dJ23_nextEntry_28 : decode cJ23_nextEntry 28 = .ok (.if_icmp .eq 11, 3) := dk_159 0 11 (dk_at dksJ23_nextEntry_1 4 rfl rfl)
theorem dJ23_nextEntry_31 : decode cJ23_nextEntry 31 = .ok (.new 32, 3) := dk_187 0 32 (dk_at dksJ23_nextEntry_1 7 rfl rfl)
theorem dJ23_nextEntry_34 : decode cJ23_nextEntry 34 = .ok (.dup, 1) := dk_89 (dk_at dksJ23_nextEntry_1 10 rfl rfl)
theorem dJ23_nextEntry_35 : decode cJ23_nextEntry 35 = .ok (.invokespecial 34, 3) := dk_183 0 34 (dk_at dksJ23_nextEntry_1 11 rfl rfl)
theorem dJ23_nextEntry_38 : decode cJ23_nextEntry 38 = .ok (.athrow, 1) := dk_191 (dk_at dksJ23_nextEntry_1 14 rfl rfl)
theorem dJ23_nextEntry_39 : decode cJ23_nextEntry 39 = .ok (.aload_n 0, 1) := dk_42 (dk_at dksJ23_nextEntry_1 15 rfl rfl)
theorem dJ23_nextEntry_40 : decode cJ23_nextEntry 40 = .ok (.aload_n 1, 1) := dk_43 (dk_at dksJ23_nextEntry_1 16 rfl rfl)
theorem dJ23_nextEntry_41 : decode cJ23_nextEntry 41 = .ok (.invokestatic 35, 3) := dk_184 0 35 (dk_at dksJ23_nextEntry_1 17 rfl rfl)
theorem dJ23_nextEntry_44 : decode cJ23_nextEntry 44 = .ok (.putfield 26, 3) := dk_181 0 26 (dk_at dksJ23_nextEntry_1 20 rfl rfl)
theorem dJ23_nextEntry_47 : decode cJ23_nextEntry 47 = .ok (.aload_n 0, 1) := dk_42 (dk_at dksJ23_nextEntry_1 23 rfl rfl)
theorem dJ23_nextEntry_48 : decode cJ23_nextEntry 48 = .ok (.aload_n 1, 1) := dk_43 (dk_at dksJ23_nextEntry_2 0 rfl rfl)
theorem dJ23_nextEntry_49 : decode cJ23_nextEntry 49 = .ok (.putfield 22, 3) := dk_181 0 22 (dk_at dksJ23_nextEntry_2 1 rfl rfl)
theorem dJ23_nextEntry_52 : decode cJ23_nextEntry 52 = .ok (.aload_n 1, 1) := dk_43 (dk_at dksJ23_nextEntry_2 4 rfl rfl)
theorem dJ23_nextEntry_53 : decode cJ23_nextEntry 53 = .ok (.areturn, 1) := dk_176 (dk_at dksJ23_nextEntry_2 5 rfl rfl)
theorem q122 : (Jvm.Cond.initialized "java/util/TreeMap$PrivateEntryIterator") ∈ lw_all := lw_g (lw_at lw_m1 30 rfl) rfl
theorem q268 : (Jvm.Cond.fieldLinkNest "java/util/TreeMap$PrivateEntryIterator" (13 : Nat) "java/util/TreeMap" "modCount" "I" "java/util/TreeMap") ∈ lw_tbl := lw_at lw_m1 176 rfl
theorem q1010 : (Jvm.Cond.instanceMethod ({ cls := "java/util/TreeMap$PrivateEntryIterator", name := "<init>", desc := "(Ljava/util/TreeMap;Ljava/util/TreeMap$Entry;)V" } : Jvm.MethodName)) ∈ lw_all := lw_g (lw_at lw_m4 198 rfl) rfl
theorem q1011 : (Jvm.Cond.code ({ cls := "java/util/TreeMap$PrivateEntryIterator", name := "<init>", desc := "(Ljava/util/TreeMap;Ljava/util/TreeMap$Entry;)V" } : Jvm.MethodName) prog_69_method_1_code (3 : Nat) (Option.none : Option Jvm.ClassFile.FieldType)) ∈ lw_all := lw_g (lw_at lw_m4 199 rfl) rfl
theorem q1012 : (Jvm.Cond.methodLink "java/util/TreeMap$PrivateEntryIterator" (7 : Nat) ({ cls := "java/lang/Object", name := "<init>", desc := "()V" } : Jvm.MethodName)) ∈ lw_all := lw_g (lw_at lw_m4 200 rfl) rfl
theorem q1013 : (Jvm.Cond.fieldLink "java/util/TreeMap$PrivateEntryIterator" (26 : Nat) "java/util/TreeMap$PrivateEntryIterator" "next" "Ljava/util/TreeMap$Entry;") ∈ lw_all := lw_g (lw_at lw_m4 201 rfl) rfl
theorem q1014 : (Jvm.Cond.fieldLink "java/util/TreeMap$PrivateEntryIterator" (22 : Nat) "java/util/TreeMap$PrivateEntryIterator" "lastReturned" "Ljava/util/TreeMap$Entry;") ∈ lw_all := lw_g (lw_at lw_m4 202 rfl) rfl
theorem q1015 : (Jvm.Cond.fieldLink "java/util/TreeMap$PrivateEntryIterator" (19 : Nat) "java/util/TreeMap$PrivateEntryIterator" "expectedModCount" "I") ∈ lw_all := lw_g (lw_at lw_m4 203 rfl) rfl
theorem q1016 : (Jvm.Cond.fieldLink "java/util/TreeMap$PrivateEntryIterator" (1 : Nat) "java/util/TreeMap$PrivateEntryIterator" "this$0" "Ljava/util/TreeMap;") ∈ lw_all := lw_g (lw_at lw_m4 204 rfl) rfl
theorem q1018 : (Jvm.Cond.soleField "java/util/TreeMap$PrivateEntryIterator" "next") ∈ lw_all := lw_g (lw_at lw_m4 206 rfl) rfl
theorem q1020 : (Jvm.Cond.soleField "java/util/TreeMap$PrivateEntryIterator" "lastReturned") ∈ lw_all := lw_g (lw_at lw_m4 208 rfl) rfl
theorem q1022 : (Jvm.Cond.soleField "java/util/TreeMap$PrivateEntryIterator" "expectedModCount") ∈ lw_all := lw_g (lw_at lw_m4 210 rfl) rfl
theorem q1024 : (Jvm.Cond.soleField "java/util/TreeMap$PrivateEntryIterator" "this$0") ∈ lw_all := lw_g (lw_at lw_m4 212 rfl) rfl
theorem q1081 : (Jvm.Cond.instanceMethod ({ cls := "java/util/TreeMap$PrivateEntryIterator", name := "hasNext", desc := "()Z" } : Jvm.MethodName)) ∈ lw_all := lw_g (lw_at lw_m5 29 rfl) rfl
theorem q1082 : (Jvm.Cond.publicMethod ({ cls := "java/util/TreeMap$PrivateEntryIterator", name := "hasNext", desc := "()Z" } : Jvm.MethodName)) ∈ lw_tbl := lw_at lw_m5 30 rfl
theorem q1083 : (Jvm.Cond.code ({ cls := "java/util/TreeMap$PrivateEntryIterator", name := "hasNext", desc := "()Z" } : Jvm.MethodName) prog_69_method_2_code (1 : Nat) (Option.some Jvm.ClassFile.FieldType.boolean)) ∈ lw_all := lw_g (lw_at lw_m5 31 rfl) rfl
theorem q1102 : (Jvm.Cond.declares ({ cls := "java/util/TreeMap$PrivateEntryIterator", name := "nextEntry", desc := "()Ljava/util/TreeMap$Entry;" } : Jvm.MethodName)) ∈ lw_tbl := lw_at lw_m5 50 rfl
theorem q1104 : (Jvm.Cond.instanceMethod ({ cls := "java/util/TreeMap$PrivateEntryIterator", name := "nextEntry", desc := "()Ljava/util/TreeMap$Entry;" } : Jvm.MethodName)) ∈ lw_all := lw_g (lw_at lw_m5 52 rfl) rfl
theorem q1105 : (Jvm.Cond.code ({ cls := "java/util/TreeMap$PrivateEntryIterator", name := "nextEntry", desc := "()Ljava/util/TreeMap$Entry;" } : Jvm.MethodName) prog_69_method_3_code (2 : Nat) (Option.some (Jvm.ClassFile.FieldType.object "java/util/TreeMap$Entry"))) ∈ lw_all := lw_g (lw_at lw_m5 53 rfl) rfl
theorem q1106 : (Jvm.Cond.methodLink "java/util/TreeMap$PrivateEntryIterator" (35 : Nat) ({ cls := "java/util/TreeMap", name := "successor", desc := "(Ljava/util/TreeMap$Entry;)Ljava/util/TreeMap$Entry;" } : Jvm.MethodName)) ∈ lw_all := lw_g (lw_at lw_m5 54 rfl) rfl
/-! java/util/TreeMap$EntryIterator -/
set_option maxRecDepth 100000
def RJ24 : String := "java/util/TreeMap$EntryIterator"
def TJ24 : u_T := fun k => match k with
  | 0 => ("java/util/TreeMap$PrivateEntryIterator", "next", "Ljava/util/TreeMap$Entry;", false)
  | 1 => ("java/util/TreeMap$PrivateEntryIterator", "lastReturned", "Ljava/util/TreeMap$Entry;", false)
  | 2 => ("java/util/TreeMap$PrivateEntryIterator", "expectedModCount", "I", false)
  | _ => ("java/util/TreeMap$PrivateEntryIterator", "this$0", "Ljava/util/TreeMap;", true)
def tyJ24 : Nat → FieldType := fun k => match k with
  | 0 => .object "java/util/TreeMap$Entry"
  | 1 => .object "java/util/TreeMap$Entry"
  | 2 => .int
  | _ => .object "java/util/TreeMap"
abbrev wsJ240 : List Cond := u_ws RJ24 TJ24 4
theorem nmJ24 : ∀ a, a < 4 → ∀ b, b < 4 → a ≠ b → (TJ24 a).2.1 ≠ (TJ24 b).2.1 := by decide +kernel
theorem tyJ24_ok : ∀ k, k < 4 → parseFieldDescriptor (TJ24 k).2.2.1 = some (tyJ24 k) := by decide +kernel
theorem q123 : (Jvm.Cond.initialized "java/util/TreeMap$EntryIterator") ∈ lw_all := lw_g (lw_at lw_m1 31 rfl) rfl
theorem q1001 : (Jvm.Cond.instantiable "java/util/TreeMap$EntryIterator" (4 : Nat)) ∈ lw_all := lw_g (lw_at lw_m4 189 rfl) rfl
theorem q1007 : (Jvm.Cond.instanceMethod ({ cls := "java/util/TreeMap$EntryIterator", name := "<init>", desc := "(Ljava/util/TreeMap;Ljava/util/TreeMap$Entry;)V" } : Jvm.MethodName)) ∈ lw_all := lw_g (lw_at lw_m4 195 rfl) rfl
theorem q1008 : (Jvm.Cond.code ({ cls := "java/util/TreeMap$EntryIterator", name := "<init>", desc := "(Ljava/util/TreeMap;Ljava/util/TreeMap$Entry;)V" } : Jvm.MethodName) prog_64_method_1_code (3 : Nat) (Option.none : Option Jvm.ClassFile.FieldType)) ∈ lw_all := lw_g (lw_at lw_m4 196 rfl) rfl
theorem q1009 : (Jvm.Cond.methodLink "java/util/TreeMap$EntryIterator" (1 : Nat) ({ cls := "java/util/TreeMap$PrivateEntryIterator", name := "<init>", desc := "(Ljava/util/TreeMap;Ljava/util/TreeMap$Entry;)V" } : Jvm.MethodName)) ∈ lw_all := lw_g (lw_at lw_m4 197 rfl) rfl
theorem q1017 : (Jvm.Cond.lays "java/util/TreeMap$EntryIterator" "java/util/TreeMap$PrivateEntryIterator" "next" "Ljava/util/TreeMap$Entry;") ∈ lw_all := lw_g (lw_at lw_m4 205 rfl) rfl
theorem q1019 : (Jvm.Cond.lays "java/util/TreeMap$EntryIterator" "java/util/TreeMap$PrivateEntryIterator" "lastReturned" "Ljava/util/TreeMap$Entry;") ∈ lw_all := lw_g (lw_at lw_m4 207 rfl) rfl
theorem q1021 : (Jvm.Cond.lays "java/util/TreeMap$EntryIterator" "java/util/TreeMap$PrivateEntryIterator" "expectedModCount" "I") ∈ lw_all := lw_g (lw_at lw_m4 209 rfl) rfl
theorem q1023 : (Jvm.Cond.laysFinal "java/util/TreeMap$EntryIterator" "java/util/TreeMap$PrivateEntryIterator" "this$0" "Ljava/util/TreeMap;") ∈ lw_all := lw_g (lw_at lw_m4 211 rfl) rfl
theorem q1025 : (Jvm.Cond.superclass "java/util/TreeMap$EntryIterator" "java/util/TreeMap$PrivateEntryIterator") ∈ lw_all := lw_g (lw_at lw_m4 213 rfl) rfl
theorem q1078 : (Jvm.Cond.castable "java/util/TreeMap$EntryIterator" "java/util/Iterator") ∈ lw_tbl := lw_at lw_m5 26 rfl
theorem q1079 : (Jvm.Cond.selects "java/util/TreeMap$EntryIterator" ({ cls := "java/util/Iterator", name := "hasNext", desc := "()Z" } : Jvm.MethodName) ({ cls := "java/util/TreeMap$PrivateEntryIterator", name := "hasNext", desc := "()Z" } : Jvm.MethodName)) ∈ lw_all := lw_g (lw_at lw_m5 27 rfl) rfl
theorem q1080 : (Jvm.Cond.unhidden "java/util/TreeMap$EntryIterator" "hasNext" "()Z") ∈ lw_tbl := lw_at lw_m5 28 rfl
theorem q1091 : (Jvm.Cond.selects "java/util/TreeMap$EntryIterator" ({ cls := "java/util/Iterator", name := "next", desc := "()Ljava/lang/Object;" } : Jvm.MethodName) ({ cls := "java/util/TreeMap$EntryIterator", name := "next", desc := "()Ljava/lang/Object;" } : Jvm.MethodName)) ∈ lw_all := lw_g (lw_at lw_m5 39 rfl) rfl
theorem q1092 : (Jvm.Cond.unhidden "java/util/TreeMap$EntryIterator" "next" "()Ljava/lang/Object;") ∈ lw_tbl := lw_at lw_m5 40 rfl
theorem q1093 : (Jvm.Cond.instanceMethod ({ cls := "java/util/TreeMap$EntryIterator", name := "next", desc := "()Ljava/lang/Object;" } : Jvm.MethodName)) ∈ lw_all := lw_g (lw_at lw_m5 41 rfl) rfl
theorem q1094 : (Jvm.Cond.publicMethod ({ cls := "java/util/TreeMap$EntryIterator", name := "next", desc := "()Ljava/lang/Object;" } : Jvm.MethodName)) ∈ lw_tbl := lw_at lw_m5 42 rfl
theorem q1095 : (Jvm.Cond.code ({ cls := "java/util/TreeMap$EntryIterator", name := "next", desc := "()Ljava/lang/Object;" } : Jvm.MethodName) prog_64_method_3_code (1 : Nat) (Option.some (Jvm.ClassFile.FieldType.object "java/lang/Object"))) ∈ lw_all := lw_g (lw_at lw_m5 43 rfl) rfl
theorem q1096 : (Jvm.Cond.methodLink "java/util/TreeMap$EntryIterator" (13 : Nat) ({ cls := "java/util/TreeMap$EntryIterator", name := "next", desc := "()Ljava/util/Map$Entry;" } : Jvm.MethodName)) ∈ lw_all := lw_g (lw_at lw_m5 44 rfl) rfl
theorem q1097 : (Jvm.Cond.instanceMethod ({ cls := "java/util/TreeMap$EntryIterator", name := "next", desc := "()Ljava/util/Map$Entry;" } : Jvm.MethodName)) ∈ lw_all := lw_g (lw_at lw_m5 45 rfl) rfl
theorem q1098 : (Jvm.Cond.selects "java/util/TreeMap$EntryIterator" ({ cls := "java/util/TreeMap$EntryIterator", name := "next", desc := "()Ljava/util/Map$Entry;" } : Jvm.MethodName) ({ cls := "java/util/TreeMap$EntryIterator", name := "next", desc := "()Ljava/util/Map$Entry;" } : Jvm.MethodName)) ∈ lw_all := lw_g (lw_at lw_m5 46 rfl) rfl
theorem q1099 : (Jvm.Cond.code ({ cls := "java/util/TreeMap$EntryIterator", name := "next", desc := "()Ljava/util/Map$Entry;" } : Jvm.MethodName) prog_64_method_2_code (1 : Nat) (Option.some (Jvm.ClassFile.FieldType.object "java/util/Map$Entry"))) ∈ lw_all := lw_g (lw_at lw_m5 47 rfl) rfl
theorem q1100 : (Jvm.Cond.methodLink "java/util/TreeMap$EntryIterator" (7 : Nat) ({ cls := "java/util/TreeMap$EntryIterator", name := "nextEntry", desc := "()Ljava/util/TreeMap$Entry;" } : Jvm.MethodName)) ∈ lw_all := lw_g (lw_at lw_m5 48 rfl) rfl
theorem q1101 : (Jvm.Cond.sameMethod "java/util/TreeMap$EntryIterator" "java/util/TreeMap$PrivateEntryIterator" "nextEntry" "()Ljava/util/TreeMap$Entry;") ∈ lw_all := lw_g (lw_at lw_m5 49 rfl) rfl
theorem q1103 : (Jvm.Cond.selects "java/util/TreeMap$EntryIterator" ({ cls := "java/util/TreeMap$EntryIterator", name := "nextEntry", desc := "()Ljava/util/TreeMap$Entry;" } : Jvm.MethodName) ({ cls := "java/util/TreeMap$PrivateEntryIterator", name := "nextEntry", desc := "()Ljava/util/TreeMap$Entry;" } : Jvm.MethodName)) ∈ lw_all := lw_g (lw_at lw_m5 51 rfl) rfl
theorem q1568 : (Jvm.Cond.selects "java/util/TreeMap$EntryIterator" ({ cls := "java/lang/Object", name := "getClass", desc := "()Ljava/lang/Class;" } : Jvm.MethodName) ({ cls := "java/lang/Object", name := "getClass", desc := "()Ljava/lang/Class;" } : Jvm.MethodName)) ∈ lw_all := lw_g (lw_at lw_m7 36 rfl) rfl
theorem q2556 : (Jvm.Cond.castable "java/util/TreeMap$EntryIterator" "java/lang/Object") ∈ lw_tbl := lw_at lw_m11 64 rfl
theorem in_J24 : ∀ w ∈ wsJ240, w ∈ lw_all := lw_in wsJ240 [1017, 1019, 1021, 1023] (by decide +kernel) (by decide +kernel)
/-! java/util/TreeMap$KeyIterator -/
set_option maxRecDepth 100000
def RJ25 : String := "java/util/TreeMap$KeyIterator"
def TJ25 : u_T := fun k => match k with
  | 0 => ("java/util/TreeMap$PrivateEntryIterator", "next", "Ljava/util/TreeMap$Entry;", false)
  | 1 => ("java/util/TreeMap$PrivateEntryIterator", "lastReturned", "Ljava/util/TreeMap$Entry;", false)
  | 2 => ("java/util/TreeMap$PrivateEntryIterator", "expectedModCount", "I", false)
  | _ => ("java/util/TreeMap$PrivateEntryIterator", "this$0", "Ljava/util/TreeMap;", true)
def tyJ25 : Nat → FieldType := fun k => match k with
  | 0 => .object "java/util/TreeMap$Entry"
  | 1 => .object "java/util/TreeMap$Entry"
  | 2 => .int
  | _ => .object "java/util/TreeMap"
abbrev wsJ250 : List Cond := u_ws RJ25 TJ25 4
theorem nmJ25 : ∀ a, a < 4 → ∀ b, b < 4 → a ≠ b → (TJ25 a).2.1 ≠ (TJ25 b).2.1 := by decide +kernel
theorem tyJ25_ok : ∀ k, k < 4 → parseFieldDescriptor (TJ25 k).2.2.1 = some (tyJ25 k) := by decide +kernel
abbrev cJ25_init : ByteArray := prog_66_method_1_code
def yJ25_init : MethodName := ⟨RJ25, "<init>", "(Ljava/util/TreeMap;Ljava/util/TreeMap$Entry;)V"⟩
def dkwJ25_init_0 : List UInt8 := [42, 43, 44, 183, 0, 1, 177]
abbrev dktJ25_init_0 : List UInt8 := dkwJ25_init_0 ++ []
theorem dksJ25_init_0 : cJ25_init.data.toList.drop 0 = dktJ25_init_0 := by decide +kernel
theorem dJ25_init_0 : decode cJ25_init 0 = .ok (.aload_n 0, 1) := dk_42 (dk_at dksJ25_init_0 0 rfl rfl)
theorem dJ25_init_1 : decode cJ25_init 1 = .ok (.aload_n 1, 1) := dk_43 (dk_at dksJ25_init_0 1 rfl rfl)
theorem dJ25_init_2 : decode cJ25_init 2 = .ok (.aload_n 2, 1) := dk_44 (dk_at dksJ25_init_0 2 rfl rfl)
theorem dJ25_init_3 : decode cJ25_init 3 = .ok (.invokespecial 1, 3) := dk_183 0 1 (dk_at dksJ25_init_0 3 rfl rfl)
theorem dJ25_init_6 : decode cJ25_init 6 = .ok (.return_, 1) := dk_177 (dk_at dksJ25_init_0 6 rfl rfl)
abbrev cJ25_next : ByteArray := prog_66_method_2_code
def yJ25_next : MethodName := ⟨RJ25, "next", "()Ljava/lang/Object;"⟩
def dkwJ25_next_0 : List UInt8 := [42, 182, 0, 7, 180, 0, 13, 176]
abbrev dktJ25_next_0 : List UInt8 := dkwJ25_next_0 ++ []
theorem dksJ25_next_0 : cJ25_next.data.toList.drop 0 = dktJ25_next_0 := by decide +kernel
theorem dJ25_next_0 : decode cJ25_next 0 = .ok (.aload_n 0, 1) := dk_42 (dk_at dksJ25_next_0 0 rfl rfl)
theorem dJ25_next_1 : decode cJ25_next 1 = .ok (.invokevirtual 7, 3) := dk_182 0 7 (dk_at dksJ25_next_0 1 rfl rfl)
theorem dJ25_next_4 : decode cJ25_next 4 = .ok (.getfield 13, 3) := dk_180 0 13 (dk_at dksJ25_next_0 4 rfl rfl)
theorem dJ25_next_7 : decode cJ25_next 7 = .ok (.areturn, 1) := dk_176 (dk_at dksJ25_next_0 7 rfl rfl)
theorem q124 : (Jvm.Cond.initialized "java/util/TreeMap$KeyIterator") ∈ lw_all := lw_g (lw_at lw_m1 32 rfl) rfl
theorem q1038 : (Jvm.Cond.instantiable "java/util/TreeMap$KeyIterator" (4 : Nat)) ∈ lw_all := lw_g (lw_at lw_m4 226 rfl) rfl
theorem q1041 : (Jvm.Cond.instanceMethod ({ cls := "java/util/TreeMap$KeyIterator", name := "<init>", desc := "(Ljava/util/TreeMap;Ljava/util/TreeMap$Entry;)V" } : Jvm.MethodName)) ∈ lw_all := lw_g (lw_at lw_m4 229 rfl) rfl
theorem q1042 : (Jvm.Cond.code ({ cls := "java/util/TreeMap$KeyIterator", name := "<init>", desc := "(Ljava/util/TreeMap;Ljava/util/TreeMap$Entry;)V" } : Jvm.MethodName) prog_66_method_1_code (3 : Nat) (Option.none : Option Jvm.ClassFile.FieldType)) ∈ lw_all := lw_g (lw_at lw_m4 230 rfl) rfl
theorem q1043 : (Jvm.Cond.methodLink "java/util/TreeMap$KeyIterator" (1 : Nat) ({ cls := "java/util/TreeMap$PrivateEntryIterator", name := "<init>", desc := "(Ljava/util/TreeMap;Ljava/util/TreeMap$Entry;)V" } : Jvm.MethodName)) ∈ lw_all := lw_g (lw_at lw_m4 231 rfl) rfl
theorem q1044 : (Jvm.Cond.lays "java/util/TreeMap$KeyIterator" "java/util/TreeMap$PrivateEntryIterator" "next" "Ljava/util/TreeMap$Entry;") ∈ lw_all := lw_g (lw_at lw_m4 232 rfl) rfl
theorem q1045 : (Jvm.Cond.lays "java/util/TreeMap$KeyIterator" "java/util/TreeMap$PrivateEntryIterator" "lastReturned" "Ljava/util/TreeMap$Entry;") ∈ lw_all := lw_g (lw_at lw_m4 233 rfl) rfl
theorem q1046 : (Jvm.Cond.lays "java/util/TreeMap$KeyIterator" "java/util/TreeMap$PrivateEntryIterator" "expectedModCount" "I") ∈ lw_all := lw_g (lw_at lw_m4 234 rfl) rfl
theorem q1047 : (Jvm.Cond.laysFinal "java/util/TreeMap$KeyIterator" "java/util/TreeMap$PrivateEntryIterator" "this$0" "Ljava/util/TreeMap;") ∈ lw_all := lw_g (lw_at lw_m4 235 rfl) rfl
theorem q1048 : (Jvm.Cond.superclass "java/util/TreeMap$KeyIterator" "java/util/TreeMap$PrivateEntryIterator") ∈ lw_all := lw_g (lw_at lw_m4 236 rfl) rfl
theorem q1084 : (Jvm.Cond.castable "java/util/TreeMap$KeyIterator" "java/util/Iterator") ∈ lw_tbl := lw_at lw_m5 32 rfl
theorem q1085 : (Jvm.Cond.selects "java/util/TreeMap$KeyIterator" ({ cls := "java/util/Iterator", name := "hasNext", desc := "()Z" } : Jvm.MethodName) ({ cls := "java/util/TreeMap$PrivateEntryIterator", name := "hasNext", desc := "()Z" } : Jvm.MethodName)) ∈ lw_all := lw_g (lw_at lw_m5 33 rfl) rfl
theorem q1086 : (Jvm.Cond.unhidden "java/util/TreeMap$KeyIterator" "hasNext" "()Z") ∈ lw_tbl := lw_at lw_m5 34 rfl
theorem q1109 : (Jvm.Cond.selects "java/util/TreeMap$KeyIterator" ({ cls := "java/util/Iterator", name := "next", desc := "()Ljava/lang/Object;" } : Jvm.MethodName) ({ cls := "java/util/TreeMap$KeyIterator", name := "next", desc := "()Ljava/lang/Object;" } : Jvm.MethodName)) ∈ lw_all := lw_g (lw_at lw_m5 57 rfl) rfl
theorem q1110 : (Jvm.Cond.unhidden "java/util/TreeMap$KeyIterator" "next" "()Ljava/lang/Object;") ∈ lw_tbl := lw_at lw_m5 58 rfl
theorem q1111 : (Jvm.Cond.instanceMethod ({ cls := "java/util/TreeMap$KeyIterator", name := "next", desc := "()Ljava/lang/Object;" } : Jvm.MethodName)) ∈ lw_all := lw_g (lw_at lw_m5 59 rfl) rfl
theorem q1112 : (Jvm.Cond.publicMethod ({ cls := "java/util/TreeMap$KeyIterator", name := "next", desc := "()Ljava/lang/Object;" } : Jvm.MethodName)) ∈ lw_tbl := lw_at lw_m5 60 rfl
theorem q1113 : (Jvm.Cond.code ({ cls := "java/util/TreeMap$KeyIterator", name := "next", desc := "()Ljava/lang/Object;" } : Jvm.MethodName) prog_66_method_2_code (1 : Nat) (Option.some (Jvm.ClassFile.FieldType.object "java/lang/Object"))) ∈ lw_all := lw_g (lw_at lw_m5 61 rfl) rfl
theorem q1114 : (Jvm.Cond.methodLink "java/util/TreeMap$KeyIterator" (7 : Nat) ({ cls := "java/util/TreeMap$KeyIterator", name := "nextEntry", desc := "()Ljava/util/TreeMap$Entry;" } : Jvm.MethodName)) ∈ lw_all := lw_g (lw_at lw_m5 62 rfl) rfl
theorem q1115 : (Jvm.Cond.sameMethod "java/util/TreeMap$KeyIterator" "java/util/TreeMap$PrivateEntryIterator" "nextEntry" "()Ljava/util/TreeMap$Entry;") ∈ lw_all := lw_g (lw_at lw_m5 63 rfl) rfl
theorem q1116 : (Jvm.Cond.selects "java/util/TreeMap$KeyIterator" ({ cls := "java/util/TreeMap$KeyIterator", name := "nextEntry", desc := "()Ljava/util/TreeMap$Entry;" } : Jvm.MethodName) ({ cls := "java/util/TreeMap$PrivateEntryIterator", name := "nextEntry", desc := "()Ljava/util/TreeMap$Entry;" } : Jvm.MethodName)) ∈ lw_all := lw_g (lw_at lw_m5 64 rfl) rfl
theorem q1380 : (Jvm.Cond.fieldLink "java/util/TreeMap$KeyIterator" (13 : Nat) "java/util/TreeMap$Entry" "key" "Ljava/lang/Object;") ∈ lw_all := lw_g (lw_at lw_m6 88 rfl) rfl
theorem q1570 : (Jvm.Cond.selects "java/util/TreeMap$KeyIterator" ({ cls := "java/lang/Object", name := "getClass", desc := "()Ljava/lang/Class;" } : Jvm.MethodName) ({ cls := "java/lang/Object", name := "getClass", desc := "()Ljava/lang/Class;" } : Jvm.MethodName)) ∈ lw_all := lw_g (lw_at lw_m7 38 rfl) rfl
theorem q2547 : (Jvm.Cond.castable "java/util/TreeMap$KeyIterator" "java/lang/Object") ∈ lw_tbl := lw_at lw_m11 55 rfl
theorem in_J25 : ∀ w ∈ wsJ250, w ∈ lw_all := lw_in wsJ250 [1044, 1045, 1046, 1047] (by decide +kernel) (by decide +kernel)
/-! java/lang/Number -/
set_option maxRecDepth 100000
def RJ26 : String := "java/lang/Number"
abbrev cJ26_init : ByteArray := prog_26_method_1_code
def yJ26_init : MethodName := ⟨RJ26, "<init>", "()V"⟩
theorem dJ26_init_0 : decode cJ26_init 0 = .ok (.aload_n 0, 1) := by decide +kernel
theorem dJ26_init_1 : decode cJ26_init 1 = .ok (.invokespecial 1, 3) := by decide +kernel
theorem dJ26_init_4 : decode cJ26_init 4 = .ok (.return_, 1) := by decide +kernel
theorem q125 : (Jvm.Cond.initialized "java/lang/Number") ∈ lw_all := lw_g (lw_at lw_m1 33 rfl) rfl
theorem q1480 : (Jvm.Cond.instanceMethod ({ cls := "java/lang/Number", name := "<init>", desc := "()V" } : Jvm.MethodName)) ∈ lw_all := lw_g (lw_at lw_m6 188 rfl) rfl
theorem q1481 : (Jvm.Cond.code ({ cls := "java/lang/Number", name := "<init>", desc := "()V" } : Jvm.MethodName) prog_26_method_1_code (1 : Nat) (Option.none : Option Jvm.ClassFile.FieldType)) ∈ lw_all := lw_g (lw_at lw_m6 189 rfl) rfl
theorem q1482 : (Jvm.Cond.methodLink "java/lang/Number" (1 : Nat) ({ cls := "java/lang/Object", name := "<init>", desc := "()V" } : Jvm.MethodName)) ∈ lw_all := lw_g (lw_at lw_m6 190 rfl) rfl
/-! java/lang/Integer -/
set_option maxRecDepth 100000
def RJ27 : String := "java/lang/Integer"
def TJ27 : u_T := fun k => match k with
  | _ => ("java/lang/Integer", "value", "I", true)
def tyJ27 : Nat → FieldType := fun k => match k with
  | _ => .int
abbrev wsJ270 : List Cond := u_ws RJ27 TJ27 1
theorem nmJ27 : ∀ a, a < 1 → ∀ b, b < 1 → a ≠ b → (TJ27 a).2.1 ≠ (TJ27 b).2.1 := by decide +kernel
theorem tyJ27_ok : ∀ k, k < 1 → parseFieldDescriptor (TJ27 k).2.2.1 = some (tyJ27 k) := by decide +kernel
abbrev cJ27_compareTo : ByteArray := prog_21_method_63_code
def yJ27_compareTo : MethodName := ⟨RJ27, "compareTo", "(Ljava/lang/Object;)I"⟩
def dkwJ27_compareTo_0 : List UInt8 := [42, 43, 192, 0, 1, 182, 1, 28, 172]
abbrev dktJ27_compareTo_0 : List UInt8 := dkwJ27_compareTo_0 ++ []
theorem dksJ27_compareTo_0 : cJ27_compareTo.data.toList.drop 0 = dktJ27_compareTo_0 := by decide +kernel
theorem dJ27_compareTo_0 : decode cJ27_compareTo 0 = .ok (.aload_n 0, 1) := dk_42 (dk_at dksJ27_compareTo_0 0 rfl rfl)
theorem dJ27_compareTo_1 : decode cJ27_compareTo 1 = .ok (.aload_n 1, 1) := dk_43 (dk_at dksJ27_compareTo_0 1 rfl rfl)
theorem dJ27_compareTo_2 : decode cJ27_compareTo 2 = .ok (.checkcast 1, 3) := dk_192 0 1 (dk_at dksJ27_compareTo_0 2 rfl rfl)
theorem dJ27_compareTo_5 : decode cJ27_compareTo 5 = .ok (.invokevirtual 284, 3) := dk_182 1 28 (dk_at dksJ27_compareTo_0 5 rfl rfl)
theorem dJ27_compareTo_8 : decode cJ27_compareTo 8 = .ok (.ireturn, 1) := dk_172 (dk_at dksJ27_compareTo_0 8 rfl rfl)
abbrev cJ27_compareTo_2 : ByteArray := prog_21_method_39_code
def yJ27_compareTo_2 : MethodName := ⟨RJ27, "compareTo", "(Ljava/lang/Integer;)I"⟩
def dkwJ27_compareTo_2_0 : List UInt8 := [42, 180, 0, 205, 43, 180, 0, 205, 184, 1, 3, 172]
abbrev dktJ27_compareTo_2_0 : List UInt8 := dkwJ27_compareTo_2_0 ++ []
theorem dksJ27_compareTo_2_0 : cJ27_compareTo_2.data.toList.drop 0 = dktJ27_compareTo_2_0 := by decide +kernel
theorem dJ27_compareTo_2_0 : decode cJ27_compareTo_2 0 = .ok (.aload_n 0, 1) := dk_42 (dk_at dksJ27_compareTo_2_0 0 rfl rfl)
theorem dJ27_compareTo_2_1 : decode cJ27_compareTo_2 1 = .ok (.getfield 205, 3) := dk_180 0 205 (dk_at dksJ27_compareTo_2_0 1 rfl rfl)
theorem dJ27_compareTo_2_4 : decode cJ27_compareTo_2 4 = .ok (.aload_n 1, 1) := dk_43 (dk_at dksJ27_compareTo_2_0 4 rfl rfl)
theorem dJ27_compareTo_2_5 : decode cJ27_compareTo_2 5 = .ok (.getfield 205, 3) := dk_180 0 205 (dk_at dksJ27_compareTo_2_0 5 rfl rfl)
theorem dJ27_compareTo_2_8 : decode cJ27_compareTo_2 8 = .ok (.invokestatic 259, 3) := dk_184 1 3 (dk_at dksJ27_compareTo_2_0 8 rfl rfl)
theorem dJ27_compareTo_2_11 : decode cJ27_compareTo_2 11 = .ok (.ireturn, 1) := dk_172 (dk_at dksJ27_compareTo_2_0 11 rfl rfl)
abbrev cJ27_compare : ByteArray := prog_21_method_40_code
def yJ27_compare : MethodName := ⟨RJ27, "compare", "(II)I"⟩
def dkwJ27_compare_0 : List UInt8 := [26, 27, 162, 0, 7, 2, 167, 0, 13, 26, 27, 160, 0, 7, 3, 167, 0, 4, 4, 172]
abbrev dktJ27_compare_0 : List UInt8 := dkwJ27_compare_0 ++ []
theorem dksJ27_compare_0 : cJ27_compare.data.toList.drop 0 = dktJ27_compare_0 := by decide +kernel
theorem dJ27_compare_0 : decode cJ27_compare 0 = .ok (.iload_n 0, 1) := dk_26 (dk_at dksJ27_compare_0 0 rfl rfl)
theorem dJ27_compare_1 : decode cJ27_compare 1 = .ok (.iload_n 1, 1) := dk_27 (dk_at dksJ27_compare_0 1 rfl rfl)
theorem dJ27_compare_2 : decode cJ27_compare 2 = .ok (.if_icmp .ge 7, 3) := dk_162 0 7 (dk_at dksJ27_compare_0 2 rfl rfl)
theorem dJ27_compare_5 : decode cJ27_compare 5 = .ok (.iconst (-1), 1) := dk_2 (dk_at dksJ27_compare_0 5 rfl rfl)
theorem dJ27_compare_6 : decode cJ27_compare 6 = .ok (.goto 13, 3) := dk_167 0 13 (dk_at dksJ27_compare_0 6 rfl rfl)
theorem dJ27_compare_9 : decode cJ27_compare 9 = .ok (.iload_n 0, 1) := dk_26 (dk_at dksJ27_compare_0 9 rfl rfl)
theorem dJ27_compare_10 : decode cJ27_compare 10 = .ok (.iload_n 1, 1) := dk_27 (dk_at dksJ27_compare_0 10 rfl rfl)
theorem dJ27_compare_11 : decode cJ27_compare 11 = .ok (.if_icmp .ne 7, 3) := dk_160 0 7 (dk_at dksJ27_compare_0 11 rfl rfl)
theorem dJ27_compare_14 : decode cJ27_compare 14 = .ok (.iconst 0, 1) := dk_3 (dk_at dksJ27_compare_0 14 rfl rfl)
theorem dJ27_compare_15 : decode cJ27_compare 15 = .ok (.goto 4, 3) := dk_167 0 4 (dk_at dksJ27_compare_0 15 rfl rfl)
theorem dJ27_compare_18 : decode cJ27_compare 18 = .ok (.iconst 1, 1) := dk_4 (dk_at dksJ27_compare_0 18 rfl rfl)
theorem dJ27_compare_19 : decode cJ27_compare 19 = .ok (.ireturn, 1) := dk_172 (dk_at dksJ27_compare_0 19 rfl rfl)
abbrev cJ27_valueOf : ByteArray := prog_21_method_22_code
def yJ27_valueOf : MethodName := ⟨RJ27, "valueOf", "(I)Ljava/lang/Integer;"⟩
def dkwJ27_valueOf_1 : List UInt8 := [187, 0, 1, 89, 26, 183, 0, 199, 176]
abbrev dktJ27_valueOf_1 : List UInt8 := dkwJ27_valueOf_1 ++ []
def dkwJ27_valueOf_0 : List UInt8 := [26, 16, 128, 161, 0, 20, 26, 178, 0, 191, 163, 0, 13, 178, 0, 195, 26, 17, 0, 128, 96, 50, 176]
abbrev dktJ27_valueOf_0 : List UInt8 := dkwJ27_valueOf_0 ++ dktJ27_valueOf_1
theorem dksJ27_valueOf_0 : cJ27_valueOf.data.toList.drop 0 = dktJ27_valueOf_0 := by decide +kernel
theorem dksJ27_valueOf_1 : cJ27_valueOf.data.toList.drop 23 = dktJ27_valueOf_1 := dk_seg dksJ27_valueOf_0 23 rfl rfl
theorem dJ27_valueOf_0 : decode cJ27_valueOf 0 = .ok (.iload_n 0, 1) := dk_26 (dk_at dksJ27_valueOf_0 0 rfl rfl)
theorem dJ27_valueOf_1 : decode cJ27_valueOf 1 = .ok (.bipush (-128), 2) := dk_16 128 (dk_at dksJ27_valueOf_0 1 rfl rfl)
theorem dJ27_valueOf_3 : decode cJ27_valueOf 3 = .ok (.if_icmp .lt 20, 3) := dk_161 0 20 (dk_at dksJ27_valueOf_0 3 rfl rfl)
theorem dJ27_valueOf_6 : decode cJ27_valueOf 6 = .ok (.iload_n 0, 1) := dk_26 (dk_at dksJ27_valueOf_0 6 rfl rfl)
theorem dJ27_valueOf_7 : decode cJ27_valueOf 7 = .ok (.getstatic 191, 3) := dk_178 0 191 (dk_at dksJ27_valueOf_0 7 rfl rfl)
theorem dJ27_valueOf_10 : decode cJ27_valueOf 10 = .ok (.if_icmp .gt 13, 3) := dk_163 0 13 (dk_at dksJ27_valueOf_0 10 rfl rfl)
theorem dJ27_valueOf_13 : decode cJ27_valueOf 13 = .ok (.getstatic 195, 3) := dk_178 0 195 (dk_at dksJ27_valueOf_0 13 rfl rfl)
theorem dJ27_valueOf_16 : decode cJ27_valueOf 16 = .ok (.iload_n 0, 1) := dk_26 (dk_at dksJ27_valueOf_0 16 rfl rfl)
theorem dJ27_valueOf_17 : decode cJ27_valueOf 17 = .ok (.sipush 128, 3) := dk_17 0 128 (dk_at dksJ27_valueOf_0 17 rfl rfl)
theorem dJ27_valueOf_20 : decode cJ27_valueOf 20 = .ok (.iadd, 1) := dk_96 (dk_at dksJ27_valueOf_0 20 rfl rfl)
theorem dJ27_valueOf_21 : decode cJ27_valueOf 21 = .ok (.aaload, 1) := dk_50 (dk_at dksJ27_valueOf_0 21 rfl rfl)
theorem dJ27_valueOf_22 : decode cJ27_valueOf 22 = .ok (.areturn, 1) := dk_176 (dk_at dksJ27_valueOf_0 22 rfl rfl)
theorem dJ27_valueOf_23 : decode cJ27_valueOf 23 = .ok (.new 1, 3) := dk_187 0 1 (dk_at dksJ27_valueOf_1 0 rfl rfl)
theorem dJ27_valueOf_26 : decode cJ27_valueOf 26 = .ok (.dup, 1) := dk_89 (dk_at dksJ27_valueOf_1 3 rfl rfl)
theorem dJ27_valueOf_27 : decode cJ27_valueOf 27 = .ok (.iload_n 0, 1) := dk_26 (dk_at dksJ27_valueOf_1 4 rfl rfl)
theorem dJ27_valueOf_28 : decode cJ27_valueOf 28 = .ok (.invokespecial 199, 3) := dk_183 0 199 (dk_at dksJ27_valueOf_1 5 rfl rfl)
theorem dJ27_valueOf_31 : decode cJ27_valueOf 31 = .ok (.areturn, 1) := dk_176 (dk_at dksJ27_valueOf_1 8 rfl rfl)
abbrev cJ27_init : ByteArray := prog_21_method_23_code
def yJ27_init : MethodName := ⟨RJ27, "<init>", "(I)V"⟩
def dkwJ27_init_0 : List UInt8 := [42, 183, 0, 202, 42, 27, 181, 0, 205, 177]
abbrev dktJ27_init_0 : List UInt8 := dkwJ27_init_0 ++ []
theorem dksJ27_init_0 : cJ27_init.data.toList.drop 0 = dktJ27_init_0 := by decide +kernel
theorem dJ27_init_0 : decode cJ27_init 0 = .ok (.aload_n 0, 1) := dk_42 (dk_at dksJ27_init_0 0 rfl rfl)
theorem dJ27_init_1 : decode cJ27_init 1 = .ok (.invokespecial 202, 3) := dk_183 0 202 (dk_at dksJ27_init_0 1 rfl rfl)
theorem dJ27_init_4 : decode cJ27_init 4 = .ok (.aload_n 0, 1) := dk_42 (dk_at dksJ27_init_0 4 rfl rfl)
theorem dJ27_init_5 : decode cJ27_init 5 = .ok (.iload_n 1, 1) := dk_27 (dk_at dksJ27_init_0 5 rfl rfl)
theorem dJ27_init_6 : decode cJ27_init 6 = .ok (.putfield 205, 3) := dk_181 0 205 (dk_at dksJ27_init_0 6 rfl rfl)
theorem dJ27_init_9 : decode cJ27_init 9 = .ok (.return_, 1) := dk_177 (dk_at dksJ27_init_0 9 rfl rfl)
abbrev cJ27_intValue : ByteArray := prog_21_method_27_code
def yJ27_intValue : MethodName := ⟨RJ27, "intValue", "()I"⟩
theorem dJ27_intValue_0 : decode cJ27_intValue 0 = .ok (.aload_n 0, 1) := by decide +kernel
theorem dJ27_intValue_1 : decode cJ27_intValue 1 = .ok (.getfield 205, 3) := by decide +kernel
theorem dJ27_intValue_4 : decode cJ27_intValue 4 = .ok (.ireturn, 1) := by decide +kernel
theorem q126 : (Jvm.Cond.initialized "java/lang/Integer") ∈ lw_all := lw_g (lw_at lw_m1 34 rfl) rfl
theorem q679 : (Jvm.Cond.static ({ cls := "java/lang/Integer", name := "stringSize", desc := "(I)I" } : Jvm.MethodName)) ∈ lw_all := lw_g (lw_at lw_m3 107 rfl) rfl
theorem q680 : (Jvm.Cond.code ({ cls := "java/lang/Integer", name := "stringSize", desc := "(I)I" } : Jvm.MethodName) prog_21_method_13_code (4 : Nat) (Option.some Jvm.ClassFile.FieldType.int)) ∈ lw_all := lw_g (lw_at lw_m3 108 rfl) rfl
theorem q682 : (Jvm.Cond.static ({ cls := "java/lang/Integer", name := "getChars", desc := "(II[B)I" } : Jvm.MethodName)) ∈ lw_all := lw_g (lw_at lw_m3 110 rfl) rfl
theorem q683 : (Jvm.Cond.code ({ cls := "java/lang/Integer", name := "getChars", desc := "(II[B)I" } : Jvm.MethodName) prog_21_method_12_code (7 : Nat) (Option.some Jvm.ClassFile.FieldType.int)) ∈ lw_all := lw_g (lw_at lw_m3 111 rfl) rfl
theorem q684 : (Jvm.Cond.fieldLink "java/lang/Integer" (83 : Nat) "java/lang/Integer" "DigitOnes" "[B") ∈ lw_all := lw_g (lw_at lw_m3 112 rfl) rfl
theorem q685 : (Jvm.Cond.laysStatic "java/lang/Integer" "DigitOnes" "[B") ∈ lw_tbl := lw_at lw_m3 113 rfl
theorem q686 : (Jvm.Cond.fieldLink "java/lang/Integer" (87 : Nat) "java/lang/Integer" "DigitTens" "[B") ∈ lw_all := lw_g (lw_at lw_m3 114 rfl) rfl
theorem q687 : (Jvm.Cond.laysStatic "java/lang/Integer" "DigitTens" "[B") ∈ lw_tbl := lw_at lw_m3 115 rfl
theorem q1164 : (Jvm.Cond.castable "java/lang/Integer" "java/lang/Comparable") ∈ lw_tbl := lw_at lw_m5 112 rfl
theorem q1165 : (Jvm.Cond.selects "java/lang/Integer" ({ cls := "java/lang/Comparable", name := "compareTo", desc := "(Ljava/lang/Object;)I" } : Jvm.MethodName) ({ cls := "java/lang/Integer", name := "compareTo", desc := "(Ljava/lang/Object;)I" } : Jvm.MethodName)) ∈ lw_all := lw_g (lw_at lw_m5 113 rfl) rfl
theorem q1166 : (Jvm.Cond.unhidden "java/lang/Integer" "compareTo" "(Ljava/lang/Object;)I") ∈ lw_tbl := lw_at lw_m5 114 rfl
theorem q1167 : (Jvm.Cond.instanceMethod ({ cls := "java/lang/Integer", name := "compareTo", desc := "(Ljava/lang/Object;)I" } : Jvm.MethodName)) ∈ lw_all := lw_g (lw_at lw_m5 115 rfl) rfl
theorem q1168 : (Jvm.Cond.publicMethod ({ cls := "java/lang/Integer", name := "compareTo", desc := "(Ljava/lang/Object;)I" } : Jvm.MethodName)) ∈ lw_tbl := lw_at lw_m5 116 rfl
theorem q1169 : (Jvm.Cond.code ({ cls := "java/lang/Integer", name := "compareTo", desc := "(Ljava/lang/Object;)I" } : Jvm.MethodName) prog_21_method_63_code (2 : Nat) (Option.some Jvm.ClassFile.FieldType.int)) ∈ lw_all := lw_g (lw_at lw_m5 117 rfl) rfl
theorem q1170 : (Jvm.Cond.classLink "java/lang/Integer" (1 : Nat) "java/lang/Integer") ∈ lw_all := lw_g (lw_at lw_m5 118 rfl) rfl
theorem q1171 : (Jvm.Cond.methodLink "java/lang/Integer" (284 : Nat) ({ cls := "java/lang/Integer", name := "compareTo", desc := "(Ljava/lang/Integer;)I" } : Jvm.MethodName)) ∈ lw_all := lw_g (lw_at lw_m5 119 rfl) rfl
theorem q1172 : (Jvm.Cond.instanceMethod ({ cls := "java/lang/Integer", name := "compareTo", desc := "(Ljava/lang/Integer;)I" } : Jvm.MethodName)) ∈ lw_all := lw_g (lw_at lw_m5 120 rfl) rfl
theorem q1173 : (Jvm.Cond.selects "java/lang/Integer" ({ cls := "java/lang/Integer", name := "compareTo", desc := "(Ljava/lang/Integer;)I" } : Jvm.MethodName) ({ cls := "java/lang/Integer", name := "compareTo", desc := "(Ljava/lang/Integer;)I" } : Jvm.MethodName)) ∈ lw_all := lw_g (lw_at lw_m5 121 rfl) rfl
theorem q1174 : (Jvm.Cond.code ({ cls := "java/lang/Integer", name := "compareTo", desc := "(Ljava/lang/Integer;)I" } : Jvm.MethodName) prog_21_method_39_code (2 : Nat) (Option.some Jvm.ClassFile.FieldType.int)) ∈ lw_all := lw_g (lw_at lw_m5 122 rfl) rfl
theorem q1175 : (Jvm.Cond.methodLink "java/lang/Integer" (259 : Nat) ({ cls := "java/lang/Integer", name := "compare", desc := "(II)I" } : Jvm.MethodName)) ∈ lw_all := lw_g (lw_at lw_m5 123 rfl) rfl
theorem q1176 : (Jvm.Cond.static ({ cls := "java/lang/Integer", name := "compare", desc := "(II)I" } : Jvm.MethodName)) ∈ lw_all := lw_g (lw_at lw_m5 124 rfl) rfl
theorem q1177 : (Jvm.Cond.code ({ cls := "java/lang/Integer", name := "compare", desc := "(II)I" } : Jvm.MethodName) prog_21_method_40_code (2 : Nat) (Option.some Jvm.ClassFile.FieldType.int)) ∈ lw_all := lw_g (lw_at lw_m5 125 rfl) rfl
theorem q1268 : (Jvm.Cond.static ({ cls := "java/lang/Integer", name := "numberOfLeadingZeros", desc := "(I)I" } : Jvm.MethodName)) ∈ lw_all := lw_g (lw_at lw_m5 216 rfl) rfl
theorem q1269 : (Jvm.Cond.code ({ cls := "java/lang/Integer", name := "numberOfLeadingZeros", desc := "(I)I" } : Jvm.MethodName) prog_21_method_47_code (2 : Nat) (Option.some Jvm.ClassFile.FieldType.int)) ∈ lw_all := lw_g (lw_at lw_m5 217 rfl) rfl
theorem q1270 : (Jvm.Cond.constant "java/lang/Integer" (264 : Nat) (65536 : Int32)) ∈ lw_all := lw_g (lw_at lw_m5 218 rfl) rfl
theorem q1277 : (Jvm.Cond.static ({ cls := "java/lang/Integer", name := "numberOfTrailingZeros", desc := "(I)I" } : Jvm.MethodName)) ∈ lw_all := lw_g (lw_at lw_m5 225 rfl) rfl
theorem q1278 : (Jvm.Cond.code ({ cls := "java/lang/Integer", name := "numberOfTrailingZeros", desc := "(I)I" } : Jvm.MethodName) prog_21_method_48_code (2 : Nat) (Option.some Jvm.ClassFile.FieldType.int)) ∈ lw_all := lw_g (lw_at lw_m5 226 rfl) rfl
theorem q1469 : (Jvm.Cond.static ({ cls := "java/lang/Integer", name := "valueOf", desc := "(I)Ljava/lang/Integer;" } : Jvm.MethodName)) ∈ lw_all := lw_g (lw_at lw_m6 177 rfl) rfl
theorem q1470 : (Jvm.Cond.code ({ cls := "java/lang/Integer", name := "valueOf", desc := "(I)Ljava/lang/Integer;" } : Jvm.MethodName) prog_21_method_22_code (1 : Nat) (Option.some (Jvm.ClassFile.FieldType.object "java/lang/Integer"))) ∈ lw_all := lw_g (lw_at lw_m6 178 rfl) rfl
theorem q1471 : (Jvm.Cond.fieldLink "java/lang/Integer" (191 : Nat) "java/lang/Integer$IntegerCache" "high" "I") ∈ lw_all := lw_g (lw_at lw_m6 179 rfl) rfl
theorem q1473 : (Jvm.Cond.fieldLink "java/lang/Integer" (195 : Nat) "java/lang/Integer$IntegerCache" "cache" "[Ljava/lang/Integer;") ∈ lw_all := lw_g (lw_at lw_m6 181 rfl) rfl
theorem q1475 : (Jvm.Cond.instantiable "java/lang/Integer" (1 : Nat)) ∈ lw_all := lw_g (lw_at lw_m6 183 rfl) rfl
theorem q1476 : (Jvm.Cond.methodLink "java/lang/Integer" (199 : Nat) ({ cls := "java/lang/Integer", name := "<init>", desc := "(I)V" } : Jvm.MethodName)) ∈ lw_all := lw_g (lw_at lw_m6 184 rfl) rfl
theorem q1477 : (Jvm.Cond.instanceMethod ({ cls := "java/lang/Integer", name := "<init>", desc := "(I)V" } : Jvm.MethodName)) ∈ lw_all := lw_g (lw_at lw_m6 185 rfl) rfl
theorem q1478 : (Jvm.Cond.code ({ cls := "java/lang/Integer", name := "<init>", desc := "(I)V" } : Jvm.MethodName) prog_21_method_23_code (2 : Nat) (Option.none : Option Jvm.ClassFile.FieldType)) ∈ lw_all := lw_g (lw_at lw_m6 186 rfl) rfl
theorem q1479 : (Jvm.Cond.methodLink "java/lang/Integer" (202 : Nat) ({ cls := "java/lang/Number", name := "<init>", desc := "()V" } : Jvm.MethodName)) ∈ lw_all := lw_g (lw_at lw_m6 187 rfl) rfl
theorem q1483 : (Jvm.Cond.fieldLink "java/lang/Integer" (205 : Nat) "java/lang/Integer" "value" "I") ∈ lw_all := lw_g (lw_at lw_m6 191 rfl) rfl
theorem q1484 : (Jvm.Cond.laysFinal "java/lang/Integer" "java/lang/Integer" "value" "I") ∈ lw_all := lw_g (lw_at lw_m6 192 rfl) rfl
theorem q1485 : (Jvm.Cond.soleField "java/lang/Integer" "value") ∈ lw_all := lw_g (lw_at lw_m6 193 rfl) rfl
theorem q1486 : (Jvm.Cond.superclass "java/lang/Integer" "java/lang/Number") ∈ lw_all := lw_g (lw_at lw_m6 194 rfl) rfl
theorem q1499 : (Jvm.Cond.instanceMethod ({ cls := "java/lang/Integer", name := "intValue", desc := "()I" } : Jvm.MethodName)) ∈ lw_all := lw_g (lw_at lw_m6 207 rfl) rfl
theorem q1500 : (Jvm.Cond.selects "java/lang/Integer" ({ cls := "java/lang/Integer", name := "intValue", desc := "()I" } : Jvm.MethodName) ({ cls := "java/lang/Integer", name := "intValue", desc := "()I" } : Jvm.MethodName)) ∈ lw_all := lw_g (lw_at lw_m6 208 rfl) rfl
theorem q1501 : (Jvm.Cond.code ({ cls := "java/lang/Integer", name := "intValue", desc := "()I" } : Jvm.MethodName) prog_21_method_27_code (1 : Nat) (Option.some Jvm.ClassFile.FieldType.int)) ∈ lw_all := lw_g (lw_at lw_m6 209 rfl) rfl
theorem q1560 : (Jvm.Cond.selects "java/lang/Integer" ({ cls := "java/lang/Object", name := "getClass", desc := "()Ljava/lang/Class;" } : Jvm.MethodName) ({ cls := "java/lang/Object", name := "getClass", desc := "()Ljava/lang/Class;" } : Jvm.MethodName)) ∈ lw_all := lw_g (lw_at lw_m7 28 rfl) rfl
theorem q2550 : (Jvm.Cond.castable "java/lang/Integer" "java/lang/Object") ∈ lw_tbl := lw_at lw_m11 58 rfl
theorem in_J27 : ∀ w ∈ wsJ270, w ∈ lw_all := lw_in wsJ270 [1484] (by decide +kernel) (by decide +kernel)
/-! java/lang/StringLatin1 -/
set_option maxRecDepth 100000
def RJ28 : String := "java/lang/StringLatin1"
abbrev cJ28_getChar : ByteArray := prog_31_method_44_code
def yJ28_getChar : MethodName := ⟨RJ28, "getChar", "([BI)C"⟩
def dkwJ28_getChar_0 : List UInt8 := [42, 27, 51, 17, 0, 255, 126, 146, 172]
abbrev dktJ28_getChar_0 : List UInt8 := dkwJ28_getChar_0 ++ []
theorem dksJ28_getChar_0 : cJ28_getChar.data.toList.drop 0 = dktJ28_getChar_0 := by decide +kernel
theorem dJ28_getChar_0 : decode cJ28_getChar 0 = .ok (.aload_n 0, 1) := dk_42 (dk_at dksJ28_getChar_0 0 rfl rfl)
theorem dJ28_getChar_1 : decode cJ28_getChar 1 = .ok (.iload_n 1, 1) := dk_27 (dk_at dksJ28_getChar_0 1 rfl rfl)
theorem dJ28_getChar_2 : decode cJ28_getChar 2 = .ok (.baload, 1) := dk_51 (dk_at dksJ28_getChar_0 2 rfl rfl)
theorem dJ28_getChar_3 : decode cJ28_getChar 3 = .ok (.sipush 255, 3) := dk_17 0 255 (dk_at dksJ28_getChar_0 3 rfl rfl)
theorem dJ28_getChar_6 : decode cJ28_getChar 6 = .ok (.iand, 1) := dk_126 (dk_at dksJ28_getChar_0 6 rfl rfl)
theorem dJ28_getChar_7 : decode cJ28_getChar 7 = .ok (.i2c, 1) := dk_146 (dk_at dksJ28_getChar_0 7 rfl rfl)
theorem dJ28_getChar_8 : decode cJ28_getChar 8 = .ok (.ireturn, 1) := dk_172 (dk_at dksJ28_getChar_0 8 rfl rfl)
abbrev cJ28_canEncode : ByteArray := prog_31_method_3_code
def yJ28_canEncode : MethodName := ⟨RJ28, "canEncode", "(C)Z"⟩
def dkwJ28_canEncode_0 : List UInt8 := [26, 17, 0, 255, 163, 0, 7, 4, 167, 0, 4, 3, 172]
abbrev dktJ28_canEncode_0 : List UInt8 := dkwJ28_canEncode_0 ++ []
theorem dksJ28_canEncode_0 : cJ28_canEncode.data.toList.drop 0 = dktJ28_canEncode_0 := by decide +kernel
theorem dJ28_canEncode_0 : decode cJ28_canEncode 0 = .ok (.iload_n 0, 1) := dk_26 (dk_at dksJ28_canEncode_0 0 rfl rfl)
theorem dJ28_canEncode_1 : decode cJ28_canEncode 1 = .ok (.sipush 255, 3) := dk_17 0 255 (dk_at dksJ28_canEncode_0 1 rfl rfl)
theorem dJ28_canEncode_4 : decode cJ28_canEncode 4 = .ok (.if_icmp .gt 7, 3) := dk_163 0 7 (dk_at dksJ28_canEncode_0 4 rfl rfl)
theorem dJ28_canEncode_7 : decode cJ28_canEncode 7 = .ok (.iconst 1, 1) := dk_4 (dk_at dksJ28_canEncode_0 7 rfl rfl)
theorem dJ28_canEncode_8 : decode cJ28_canEncode 8 = .ok (.goto 4, 3) := dk_167 0 4 (dk_at dksJ28_canEncode_0 8 rfl rfl)
theorem dJ28_canEncode_11 : decode cJ28_canEncode 11 = .ok (.iconst 0, 1) := dk_3 (dk_at dksJ28_canEncode_0 11 rfl rfl)
theorem dJ28_canEncode_12 : decode cJ28_canEncode 12 = .ok (.ireturn, 1) := dk_172 (dk_at dksJ28_canEncode_0 12 rfl rfl)
theorem q127 : (Jvm.Cond.initialized "java/lang/StringLatin1") ∈ lw_all := lw_g (lw_at lw_m1 35 rfl) rfl
theorem q651 : (Jvm.Cond.static ({ cls := "java/lang/StringLatin1", name := "inflate", desc := "([BI[BII)V" } : Jvm.MethodName)) ∈ lw_all := lw_g (lw_at lw_m3 79 rfl) rfl
theorem q652 : (Jvm.Cond.code ({ cls := "java/lang/StringLatin1", name := "inflate", desc := "([BI[BII)V" } : Jvm.MethodName) prog_31_method_50_code (5 : Nat) (Option.none : Option Jvm.ClassFile.FieldType)) ∈ lw_all := lw_g (lw_at lw_m3 80 rfl) rfl
theorem q653 : (Jvm.Cond.methodLink "java/lang/StringLatin1" (240 : Nat) ({ cls := "java/lang/StringUTF16", name := "inflate", desc := "([BI[BII)V" } : Jvm.MethodName)) ∈ lw_all := lw_g (lw_at lw_m3 81 rfl) rfl
theorem q780 : (Jvm.Cond.static ({ cls := "java/lang/StringLatin1", name := "fillNull", desc := "([BII)V" } : Jvm.MethodName)) ∈ lw_all := lw_g (lw_at lw_m3 208 rfl) rfl
theorem q781 : (Jvm.Cond.code ({ cls := "java/lang/StringLatin1", name := "fillNull", desc := "([BII)V" } : Jvm.MethodName) prog_31_method_48_code (3 : Nat) (Option.none : Option Jvm.ClassFile.FieldType)) ∈ lw_all := lw_g (lw_at lw_m3 209 rfl) rfl
theorem q782 : (Jvm.Cond.methodLink "java/lang/StringLatin1" (236 : Nat) ({ cls := "java/util/Arrays", name := "fill", desc := "([BIIB)V" } : Jvm.MethodName)) ∈ lw_all := lw_g (lw_at lw_m3 210 rfl) rfl
theorem q1190 : (Jvm.Cond.static ({ cls := "java/lang/StringLatin1", name := "compareTo", desc := "([B[B)I" } : Jvm.MethodName)) ∈ lw_all := lw_g (lw_at lw_m5 138 rfl) rfl
theorem q1191 : (Jvm.Cond.code ({ cls := "java/lang/StringLatin1", name := "compareTo", desc := "([B[B)I" } : Jvm.MethodName) prog_31_method_14_code (4 : Nat) (Option.some Jvm.ClassFile.FieldType.int)) ∈ lw_all := lw_g (lw_at lw_m5 139 rfl) rfl
theorem q1192 : (Jvm.Cond.methodLink "java/lang/StringLatin1" (34 : Nat) ({ cls := "java/lang/StringLatin1", name := "compareTo", desc := "([B[BII)I" } : Jvm.MethodName)) ∈ lw_all := lw_g (lw_at lw_m5 140 rfl) rfl
theorem q1193 : (Jvm.Cond.static ({ cls := "java/lang/StringLatin1", name := "compareTo", desc := "([B[BII)I" } : Jvm.MethodName)) ∈ lw_all := lw_g (lw_at lw_m5 141 rfl) rfl
theorem q1194 : (Jvm.Cond.code ({ cls := "java/lang/StringLatin1", name := "compareTo", desc := "([B[BII)I" } : Jvm.MethodName) prog_31_method_15_code (6 : Nat) (Option.some Jvm.ClassFile.FieldType.int)) ∈ lw_all := lw_g (lw_at lw_m5 142 rfl) rfl
theorem q1195 : (Jvm.Cond.methodLink "java/lang/StringLatin1" (38 : Nat) ({ cls := "java/lang/Math", name := "min", desc := "(II)I" } : Jvm.MethodName)) ∈ lw_all := lw_g (lw_at lw_m5 143 rfl) rfl
theorem q1196 : (Jvm.Cond.methodLink "java/lang/StringLatin1" (44 : Nat) ({ cls := "jdk/internal/util/ArraysSupport", name := "mismatch", desc := "([B[BI)I" } : Jvm.MethodName)) ∈ lw_all := lw_g (lw_at lw_m5 144 rfl) rfl
theorem q1300 : (Jvm.Cond.methodLink "java/lang/StringLatin1" (50 : Nat) ({ cls := "java/lang/StringLatin1", name := "getChar", desc := "([BI)C" } : Jvm.MethodName)) ∈ lw_all := lw_g (lw_at lw_m6 8 rfl) rfl
theorem q1301 : (Jvm.Cond.static ({ cls := "java/lang/StringLatin1", name := "getChar", desc := "([BI)C" } : Jvm.MethodName)) ∈ lw_all := lw_g (lw_at lw_m6 9 rfl) rfl
theorem q1302 : (Jvm.Cond.code ({ cls := "java/lang/StringLatin1", name := "getChar", desc := "([BI)C" } : Jvm.MethodName) prog_31_method_44_code (2 : Nat) (Option.some Jvm.ClassFile.FieldType.char)) ∈ lw_all := lw_g (lw_at lw_m6 10 rfl) rfl
theorem q1311 : (Jvm.Cond.static ({ cls := "java/lang/StringLatin1", name := "compareToUTF16", desc := "([B[B)I" } : Jvm.MethodName)) ∈ lw_all := lw_g (lw_at lw_m6 19 rfl) rfl
theorem q1312 : (Jvm.Cond.code ({ cls := "java/lang/StringLatin1", name := "compareToUTF16", desc := "([B[B)I" } : Jvm.MethodName) prog_31_method_16_code (4 : Nat) (Option.some Jvm.ClassFile.FieldType.int)) ∈ lw_all := lw_g (lw_at lw_m6 20 rfl) rfl
theorem q1313 : (Jvm.Cond.methodLink "java/lang/StringLatin1" (54 : Nat) ({ cls := "java/lang/StringLatin1", name := "length", desc := "([B)I" } : Jvm.MethodName)) ∈ lw_all := lw_g (lw_at lw_m6 21 rfl) rfl
theorem q1314 : (Jvm.Cond.static ({ cls := "java/lang/StringLatin1", name := "length", desc := "([B)I" } : Jvm.MethodName)) ∈ lw_all := lw_g (lw_at lw_m6 22 rfl) rfl
theorem q1315 : (Jvm.Cond.code ({ cls := "java/lang/StringLatin1", name := "length", desc := "([B)I" } : Jvm.MethodName) prog_31_method_5_code (1 : Nat) (Option.some Jvm.ClassFile.FieldType.int)) ∈ lw_all := lw_g (lw_at lw_m6 23 rfl) rfl
theorem q1316 : (Jvm.Cond.methodLink "java/lang/StringLatin1" (58 : Nat) ({ cls := "java/lang/StringUTF16", name := "length", desc := "([B)I" } : Jvm.MethodName)) ∈ lw_all := lw_g (lw_at lw_m6 24 rfl) rfl
theorem q1317 : (Jvm.Cond.methodLink "java/lang/StringLatin1" (59 : Nat) ({ cls := "java/lang/StringLatin1", name := "compareToUTF16Values", desc := "([B[BII)I" } : Jvm.MethodName)) ∈ lw_all := lw_g (lw_at lw_m6 25 rfl) rfl
theorem q1318 : (Jvm.Cond.static ({ cls := "java/lang/StringLatin1", name := "compareToUTF16Values", desc := "([B[BII)I" } : Jvm.MethodName)) ∈ lw_all := lw_g (lw_at lw_m6 26 rfl) rfl
theorem q1319 : (Jvm.Cond.code ({ cls := "java/lang/StringLatin1", name := "compareToUTF16Values", desc := "([B[BII)I" } : Jvm.MethodName) prog_31_method_18_code (8 : Nat) (Option.some Jvm.ClassFile.FieldType.int)) ∈ lw_all := lw_g (lw_at lw_m6 27 rfl) rfl
theorem q1320 : (Jvm.Cond.methodLink "java/lang/StringLatin1" (65 : Nat) ({ cls := "java/lang/StringUTF16", name := "getChar", desc := "([BI)C" } : Jvm.MethodName)) ∈ lw_all := lw_g (lw_at lw_m6 28 rfl) rfl
theorem q1350 : (Jvm.Cond.static ({ cls := "java/lang/StringLatin1", name := "compareToUTF16", desc := "([B[BII)I" } : Jvm.MethodName)) ∈ lw_all := lw_g (lw_at lw_m6 58 rfl) rfl
theorem q1351 : (Jvm.Cond.code ({ cls := "java/lang/StringLatin1", name := "compareToUTF16", desc := "([B[BII)I" } : Jvm.MethodName) prog_31_method_17_code (4 : Nat) (Option.some Jvm.ClassFile.FieldType.int)) ∈ lw_all := lw_g (lw_at lw_m6 59 rfl) rfl
theorem q1352 : (Jvm.Cond.methodLink "java/lang/StringLatin1" (62 : Nat) ({ cls := "java/lang/String", name := "checkOffset", desc := "(II)V" } : Jvm.MethodName)) ∈ lw_all := lw_g (lw_at lw_m6 60 rfl) rfl
theorem q2017 : (Jvm.Cond.static ({ cls := "java/lang/StringLatin1", name := "canEncode", desc := "(C)Z" } : Jvm.MethodName)) ∈ lw_all := lw_g (lw_at lw_m9 5 rfl) rfl
theorem q2018 : (Jvm.Cond.code ({ cls := "java/lang/StringLatin1", name := "canEncode", desc := "(C)Z" } : Jvm.MethodName) prog_31_method_3_code (1 : Nat) (Option.some Jvm.ClassFile.FieldType.boolean)) ∈ lw_all := lw_g (lw_at lw_m9 6 rfl) rfl
/-! java/lang/Math -/
set_option maxRecDepth 100000
def RJ29 : String := "java/lang/Math"
abbrev cJ29_max : ByteArray := prog_25_method_65_code
def yJ29_max : MethodName := ⟨RJ29, "max", "(II)I"⟩
def dkwJ29_max_0 : List UInt8 := [26, 27, 161, 0, 7, 26, 167, 0, 4, 27, 172]
abbrev dktJ29_max_0 : List UInt8 := dkwJ29_max_0 ++ []
theorem dksJ29_max_0 : cJ29_max.data.toList.drop 0 = dktJ29_max_0 := by decide +kernel
theorem dJ29_max_0 : decode cJ29_max 0 = .ok (.iload_n 0, 1) := dk_26 (dk_at dksJ29_max_0 0 rfl rfl)
theorem dJ29_max_1 : decode cJ29_max 1 = .ok (.iload_n 1, 1) := dk_27 (dk_at dksJ29_max_0 1 rfl rfl)
theorem dJ29_max_2 : decode cJ29_max 2 = .ok (.if_icmp .lt 7, 3) := dk_161 0 7 (dk_at dksJ29_max_0 2 rfl rfl)
theorem dJ29_max_5 : decode cJ29_max 5 = .ok (.iload_n 0, 1) := dk_26 (dk_at dksJ29_max_0 5 rfl rfl)
theorem dJ29_max_6 : decode cJ29_max 6 = .ok (.goto 4, 3) := dk_167 0 4 (dk_at dksJ29_max_0 6 rfl rfl)
theorem dJ29_max_9 : decode cJ29_max 9 = .ok (.iload_n 1, 1) := dk_27 (dk_at dksJ29_max_0 9 rfl rfl)
theorem dJ29_max_10 : decode cJ29_max 10 = .ok (.ireturn, 1) := dk_172 (dk_at dksJ29_max_0 10 rfl rfl)
abbrev cJ29_min : ByteArray := prog_25_method_69_code
def yJ29_min : MethodName := ⟨RJ29, "min", "(II)I"⟩
def dkwJ29_min_0 : List UInt8 := [26, 27, 163, 0, 7, 26, 167, 0, 4, 27, 172]
abbrev dktJ29_min_0 : List UInt8 := dkwJ29_min_0 ++ []
theorem dksJ29_min_0 : cJ29_min.data.toList.drop 0 = dktJ29_min_0 := by decide +kernel
theorem dJ29_min_0 : decode cJ29_min 0 = .ok (.iload_n 0, 1) := dk_26 (dk_at dksJ29_min_0 0 rfl rfl)
theorem dJ29_min_1 : decode cJ29_min 1 = .ok (.iload_n 1, 1) := dk_27 (dk_at dksJ29_min_0 1 rfl rfl)
theorem dJ29_min_2 : decode cJ29_min 2 = .ok (.if_icmp .gt 7, 3) := dk_163 0 7 (dk_at dksJ29_min_0 2 rfl rfl)
theorem dJ29_min_5 : decode cJ29_min 5 = .ok (.iload_n 0, 1) := dk_26 (dk_at dksJ29_min_0 5 rfl rfl)
theorem dJ29_min_6 : decode cJ29_min 6 = .ok (.goto 4, 3) := dk_167 0 4 (dk_at dksJ29_min_0 6 rfl rfl)
theorem dJ29_min_9 : decode cJ29_min 9 = .ok (.iload_n 1, 1) := dk_27 (dk_at dksJ29_min_0 9 rfl rfl)
theorem dJ29_min_10 : decode cJ29_min 10 = .ok (.ireturn, 1) := dk_172 (dk_at dksJ29_min_0 10 rfl rfl)
theorem q128 : (Jvm.Cond.initialized "java/lang/Math") ∈ lw_all := lw_g (lw_at lw_m1 36 rfl) rfl
theorem q574 : (Jvm.Cond.static ({ cls := "java/lang/Math", name := "max", desc := "(II)I" } : Jvm.MethodName)) ∈ lw_all := lw_g (lw_at lw_m3 2 rfl) rfl
theorem q575 : (Jvm.Cond.code ({ cls := "java/lang/Math", name := "max", desc := "(II)I" } : Jvm.MethodName) prog_25_method_65_code (2 : Nat) (Option.some Jvm.ClassFile.FieldType.int)) ∈ lw_all := lw_g (lw_at lw_m3 3 rfl) rfl
theorem q592 : (Jvm.Cond.static ({ cls := "java/lang/Math", name := "min", desc := "(II)I" } : Jvm.MethodName)) ∈ lw_all := lw_g (lw_at lw_m3 20 rfl) rfl
theorem q593 : (Jvm.Cond.code ({ cls := "java/lang/Math", name := "min", desc := "(II)I" } : Jvm.MethodName) prog_25_method_69_code (2 : Nat) (Option.some Jvm.ClassFile.FieldType.int)) ∈ lw_all := lw_g (lw_at lw_m3 21 rfl) rfl
/-! jdk/internal/util/ArraysSupport -/
set_option maxRecDepth 100000
def RJ30 : String := "jdk/internal/util/ArraysSupport"
abbrev cJ30_newLength : ByteArray := prog_73_method_27_code
def yJ30_newLength : MethodName := ⟨RJ30, "newLength", "(III)I"⟩
def dkwJ30_newLength_1 : List UInt8 := [184, 0, 201, 172]
abbrev dktJ30_newLength_1 : List UInt8 := dkwJ30_newLength_1 ++ []
def dkwJ30_newLength_0 : List UInt8 := [26, 27, 28, 184, 0, 194, 96, 62, 3, 29, 162, 0, 11, 29, 18, 200, 163, 0, 5, 29, 172, 26, 27]
abbrev dktJ30_newLength_0 : List UInt8 := dkwJ30_newLength_0 ++ dktJ30_newLength_1
theorem dksJ30_newLength_0 : cJ30_newLength.data.toList.drop 0 = dktJ30_newLength_0 := by decide +kernel
theorem dksJ30_newLength_1 : cJ30_newLength.data.toList.drop 23 = dktJ30_newLength_1 := dk_seg dksJ30_newLength_0 23 rfl rfl
theorem dJ30_newLength_0 : decode cJ30_newLength 0 = .ok (.iload_n 0, 1) := dk_26 (dk_at dksJ30_newLength_0 0 rfl rfl)
theorem dJ30_newLength_1 : decode cJ30_newLength 1 = .ok (.iload_n 1, 1) := dk_27 (dk_at dksJ30_newLength_0 1 rfl rfl)
theorem dJ30_newLength_2 : decode cJ30_newLength 2 = .ok (.iload_n 2, 1) := dk_28 (dk_at dksJ30_newLength_0 2 rfl rfl)
theorem dJ30_newLength_3 : decode cJ30_newLength 3 = .ok (.invokestatic 194, 3) := dk_184 0 194 (dk_at dksJ30_newLength_0 3 rfl rfl)
theorem dJ30_newLength_6 : decode cJ30_newLength 6 = .ok (.iadd, 1) := dk_96 (dk_at dksJ30_newLength_0 6 rfl rfl)
theorem dJ30_newLength_7 : decode cJ30_newLength 7 = .ok (.istore_n 3, 1) := dk_62 (dk_at dksJ30_newLength_0 7 rfl rfl)
theorem dJ30_newLength_8 : decode cJ30_newLength 8 = .ok (.iconst 0, 1) := dk_3 (dk_at dksJ30_newLength_0 8 rfl rfl)
theorem dJ30_newLength_9 : decode cJ30_newLength 9 = .ok (.iload_n 3, 1) := dk_29 (dk_at dksJ30_newLength_0 9 rfl rfl)
theorem dJ30_newLength_10 : decode cJ30_newLength 10 = .ok (.if_icmp .ge 11, 3) := dk_162 0 11 (dk_at dksJ30_newLength_0 10 rfl rfl)
theorem dJ30_newLength_13 : decode cJ30_newLength 13 = .ok (.iload_n 3, 1) := dk_29 (dk_at dksJ30_newLength_0 13 rfl rfl)
theorem dJ30_newLength_14 : decode cJ30_newLength 14 = .ok (.ldc 200, 2) := dk_18 200 (dk_at dksJ30_newLength_0 14 rfl rfl)
theorem dJ30_newLength_16 : decode cJ30_newLength 16 = .ok (.if_icmp .gt 5, 3) := dk_163 0 5 (dk_at dksJ30_newLength_0 16 rfl rfl)
theorem dJ30_newLength_19 : decode cJ30_newLength 19 = .ok (.iload_n 3, 1) := dk_29 (dk_at dksJ30_newLength_0 19 rfl rfl)
theorem dJ30_newLength_20 : decode cJ30_newLength 20 = .ok (.ireturn, 1) := dk_172 (dk_at dksJ30_newLength_0 20 rfl rfl)
theorem dJ30_newLength_21 : decode cJ30_newLength 21 = .ok (.iload_n 0, 1) := dk_26 (dk_at dksJ30_newLength_0 21 rfl rfl)
theorem dJ30_newLength_22 : decode cJ30_newLength 22 = .ok (.iload_n 1, 1) := dk_27 (dk_at dksJ30_newLength_0 22 rfl rfl)
theorem dJ30_newLength_23 : decode cJ30_newLength 23 = .ok (.invokestatic 201, 3) := dk_184 0 201 (dk_at dksJ30_newLength_1 0 rfl rfl)
theorem dJ30_newLength_26 : decode cJ30_newLength 26 = .ok (.ireturn, 1) := dk_172 (dk_at dksJ30_newLength_1 3 rfl rfl)
theorem q129 : (Jvm.Cond.initialized "jdk/internal/util/ArraysSupport") ∈ lw_all := lw_g (lw_at lw_m1 37 rfl) rfl
theorem q571 : (Jvm.Cond.static ({ cls := "jdk/internal/util/ArraysSupport", name := "newLength", desc := "(III)I" } : Jvm.MethodName)) ∈ lw_all := lw_g (lw_at lw_m2 239 rfl) rfl
theorem q572 : (Jvm.Cond.code ({ cls := "jdk/internal/util/ArraysSupport", name := "newLength", desc := "(III)I" } : Jvm.MethodName) prog_73_method_27_code (4 : Nat) (Option.some Jvm.ClassFile.FieldType.int)) ∈ lw_all := lw_g (lw_at lw_m3 0 rfl) rfl
theorem q573 : (Jvm.Cond.methodLink "jdk/internal/util/ArraysSupport" (194 : Nat) ({ cls := "java/lang/Math", name := "max", desc := "(II)I" } : Jvm.MethodName)) ∈ lw_all := lw_g (lw_at lw_m3 1 rfl) rfl
theorem q576 : (Jvm.Cond.constant "jdk/internal/util/ArraysSupport" (200 : Nat) (2147483639 : Int32)) ∈ lw_all := lw_g (lw_at lw_m3 4 rfl) rfl
theorem q577 : (Jvm.Cond.methodLink "jdk/internal/util/ArraysSupport" (201 : Nat) ({ cls := "jdk/internal/util/ArraysSupport", name := "hugeLength", desc := "(II)I" } : Jvm.MethodName)) ∈ lw_all := lw_g (lw_at lw_m3 5 rfl) rfl
theorem q578 : (Jvm.Cond.static ({ cls := "jdk/internal/util/ArraysSupport", name := "hugeLength", desc := "(II)I" } : Jvm.MethodName)) ∈ lw_all := lw_g (lw_at lw_m3 6 rfl) rfl
theorem q579 : (Jvm.Cond.code ({ cls := "jdk/internal/util/ArraysSupport", name := "hugeLength", desc := "(II)I" } : Jvm.MethodName) prog_73_method_28_code (3 : Nat) (Option.some Jvm.ClassFile.FieldType.int)) ∈ lw_all := lw_g (lw_at lw_m3 7 rfl) rfl
theorem q1197 : (Jvm.Cond.static ({ cls := "jdk/internal/util/ArraysSupport", name := "mismatch", desc := "([B[BI)I" } : Jvm.MethodName)) ∈ lw_all := lw_g (lw_at lw_m5 145 rfl) rfl
theorem q1198 : (Jvm.Cond.code ({ cls := "jdk/internal/util/ArraysSupport", name := "mismatch", desc := "([B[BI)I" } : Jvm.MethodName) prog_73_method_13_code (4 : Nat) (Option.some Jvm.ClassFile.FieldType.int)) ∈ lw_all := lw_g (lw_at lw_m5 146 rfl) rfl
theorem q1199 : (Jvm.Cond.fieldLink "jdk/internal/util/ArraysSupport" (126 : Nat) "jdk/internal/misc/Unsafe" "ARRAY_BYTE_BASE_OFFSET" "I") ∈ lw_all := lw_g (lw_at lw_m5 147 rfl) rfl
theorem q1201 : (Jvm.Cond.fieldLink "jdk/internal/util/ArraysSupport" (129 : Nat) "jdk/internal/util/ArraysSupport" "LOG2_ARRAY_BYTE_INDEX_SCALE" "I") ∈ lw_all := lw_g (lw_at lw_m5 149 rfl) rfl
theorem q1202 : (Jvm.Cond.laysStatic "jdk/internal/util/ArraysSupport" "LOG2_ARRAY_BYTE_INDEX_SCALE" "I") ∈ lw_tbl := lw_at lw_m5 150 rfl
theorem q1203 : (Jvm.Cond.methodLink "jdk/internal/util/ArraysSupport" (122 : Nat) ({ cls := "jdk/internal/util/ArraysSupport", name := "vectorizedMismatch", desc := "(Ljava/lang/Object;JLjava/lang/Object;JII)I" } : Jvm.MethodName)) ∈ lw_all := lw_g (lw_at lw_m5 151 rfl) rfl
theorem q1204 : (Jvm.Cond.static ({ cls := "jdk/internal/util/ArraysSupport", name := "vectorizedMismatch", desc := "(Ljava/lang/Object;JLjava/lang/Object;JII)I" } : Jvm.MethodName)) ∈ lw_all := lw_g (lw_at lw_m5 152 rfl) rfl
theorem q1205 : (Jvm.Cond.code ({ cls := "jdk/internal/util/ArraysSupport", name := "vectorizedMismatch", desc := "(Ljava/lang/Object;JLjava/lang/Object;JII)I" } : Jvm.MethodName) prog_73_method_3_code (19 : Nat) (Option.some Jvm.ClassFile.FieldType.int)) ∈ lw_all := lw_g (lw_at lw_m5 153 rfl) rfl
theorem q1206 : (Jvm.Cond.fieldLink "jdk/internal/util/ArraysSupport" (20 : Nat) "jdk/internal/util/ArraysSupport" "LOG2_ARRAY_LONG_INDEX_SCALE" "I") ∈ lw_all := lw_g (lw_at lw_m5 154 rfl) rfl
theorem q1207 : (Jvm.Cond.laysStatic "jdk/internal/util/ArraysSupport" "LOG2_ARRAY_LONG_INDEX_SCALE" "I") ∈ lw_tbl := lw_at lw_m5 155 rfl
theorem q1208 : (Jvm.Cond.fieldLink "jdk/internal/util/ArraysSupport" (26 : Nat) "jdk/internal/util/ArraysSupport" "U" "Ljdk/internal/misc/Unsafe;") ∈ lw_all := lw_g (lw_at lw_m5 156 rfl) rfl
theorem q1209 : (Jvm.Cond.laysStatic "jdk/internal/util/ArraysSupport" "U" "Ljdk/internal/misc/Unsafe;") ∈ lw_tbl := lw_at lw_m5 157 rfl
theorem q1210 : (Jvm.Cond.methodLink "jdk/internal/util/ArraysSupport" (30 : Nat) ({ cls := "jdk/internal/misc/Unsafe", name := "getLongUnaligned", desc := "(Ljava/lang/Object;J)J" } : Jvm.MethodName)) ∈ lw_all := lw_g (lw_at lw_m5 158 rfl) rfl
theorem q1262 : (Jvm.Cond.fieldLink "jdk/internal/util/ArraysSupport" (36 : Nat) "jdk/internal/util/ArraysSupport" "BIG_ENDIAN" "Z") ∈ lw_all := lw_g (lw_at lw_m5 210 rfl) rfl
theorem q1263 : (Jvm.Cond.laysStatic "jdk/internal/util/ArraysSupport" "BIG_ENDIAN" "Z") ∈ lw_tbl := lw_at lw_m5 211 rfl
theorem q1264 : (Jvm.Cond.methodLink "jdk/internal/util/ArraysSupport" (40 : Nat) ({ cls := "java/lang/Long", name := "numberOfLeadingZeros", desc := "(J)I" } : Jvm.MethodName)) ∈ lw_all := lw_g (lw_at lw_m5 212 rfl) rfl
theorem q1271 : (Jvm.Cond.fieldLink "jdk/internal/util/ArraysSupport" (46 : Nat) "jdk/internal/util/ArraysSupport" "LOG2_BYTE_BIT_SIZE" "I") ∈ lw_all := lw_g (lw_at lw_m5 219 rfl) rfl
theorem q1272 : (Jvm.Cond.laysStatic "jdk/internal/util/ArraysSupport" "LOG2_BYTE_BIT_SIZE" "I") ∈ lw_tbl := lw_at lw_m5 220 rfl
theorem q1273 : (Jvm.Cond.methodLink "jdk/internal/util/ArraysSupport" (49 : Nat) ({ cls := "java/lang/Long", name := "numberOfTrailingZeros", desc := "(J)I" } : Jvm.MethodName)) ∈ lw_all := lw_g (lw_at lw_m5 221 rfl) rfl
theorem q1279 : (Jvm.Cond.fieldLink "jdk/internal/util/ArraysSupport" (51 : Nat) "jdk/internal/util/ArraysSupport" "LOG2_ARRAY_INT_INDEX_SCALE" "I") ∈ lw_all := lw_g (lw_at lw_m5 227 rfl) rfl
theorem q1280 : (Jvm.Cond.laysStatic "jdk/internal/util/ArraysSupport" "LOG2_ARRAY_INT_INDEX_SCALE" "I") ∈ lw_tbl := lw_at lw_m5 228 rfl
theorem q1281 : (Jvm.Cond.methodLink "jdk/internal/util/ArraysSupport" (54 : Nat) ({ cls := "jdk/internal/misc/Unsafe", name := "getIntUnaligned", desc := "(Ljava/lang/Object;J)I" } : Jvm.MethodName)) ∈ lw_all := lw_g (lw_at lw_m5 229 rfl) rfl
theorem q1298 : (Jvm.Cond.methodLink "jdk/internal/util/ArraysSupport" (58 : Nat) ({ cls := "java/lang/Integer", name := "numberOfLeadingZeros", desc := "(I)I" } : Jvm.MethodName)) ∈ lw_all := lw_g (lw_at lw_m6 6 rfl) rfl
theorem q1299 : (Jvm.Cond.methodLink "jdk/internal/util/ArraysSupport" (11 : Nat) ({ cls := "java/lang/Integer", name := "numberOfTrailingZeros", desc := "(I)I" } : Jvm.MethodName)) ∈ lw_all := lw_g (lw_at lw_m6 7 rfl) rfl
/-! jdk/internal/misc/Unsafe -/
set_option maxRecDepth 100000
def RJ31 : String := "jdk/internal/misc/Unsafe"
theorem q130 : (Jvm.Cond.initialized "jdk/internal/misc/Unsafe") ∈ lw_all := lw_g (lw_at lw_m1 38 rfl) rfl
theorem q1200 : (Jvm.Cond.laysStatic "jdk/internal/misc/Unsafe" "ARRAY_BYTE_BASE_OFFSET" "I") ∈ lw_tbl := lw_at lw_m5 148 rfl
theorem q1211 : (Jvm.Cond.instanceMethod ({ cls := "jdk/internal/misc/Unsafe", name := "getLongUnaligned", desc := "(Ljava/lang/Object;J)J" } : Jvm.MethodName)) ∈ lw_all := lw_g (lw_at lw_m5 159 rfl) rfl
theorem q1212 : (Jvm.Cond.selects "jdk/internal/misc/Unsafe" ({ cls := "jdk/internal/misc/Unsafe", name := "getLongUnaligned", desc := "(Ljava/lang/Object;J)J" } : Jvm.MethodName) ({ cls := "jdk/internal/misc/Unsafe", name := "getLongUnaligned", desc := "(Ljava/lang/Object;J)J" } : Jvm.MethodName)) ∈ lw_all := lw_g (lw_at lw_m5 160 rfl) rfl
theorem q1213 : (Jvm.Cond.code ({ cls := "jdk/internal/misc/Unsafe", name := "getLongUnaligned", desc := "(Ljava/lang/Object;J)J" } : Jvm.MethodName) prog_71_method_334_code (4 : Nat) (Option.some Jvm.ClassFile.FieldType.long)) ∈ lw_all := lw_g (lw_at lw_m5 161 rfl) rfl
theorem q1214 : (Jvm.Cond.constantLong "jdk/internal/misc/Unsafe" (696 : Nat) (7 : Int64)) ∈ lw_all := lw_g (lw_at lw_m5 162 rfl) rfl
theorem q1215 : (Jvm.Cond.methodLink "jdk/internal/misc/Unsafe" (27 : Nat) ({ cls := "jdk/internal/misc/Unsafe", name := "getLong", desc := "(Ljava/lang/Object;J)J" } : Jvm.MethodName)) ∈ lw_all := lw_g (lw_at lw_m5 163 rfl) rfl
theorem q1216 : (Jvm.Cond.instanceMethod ({ cls := "jdk/internal/misc/Unsafe", name := "getLong", desc := "(Ljava/lang/Object;J)J" } : Jvm.MethodName)) ∈ lw_all := lw_g (lw_at lw_m5 164 rfl) rfl
theorem q1217 : (Jvm.Cond.selects "jdk/internal/misc/Unsafe" ({ cls := "jdk/internal/misc/Unsafe", name := "getLong", desc := "(Ljava/lang/Object;J)J" } : Jvm.MethodName) ({ cls := "jdk/internal/misc/Unsafe", name := "getLong", desc := "(Ljava/lang/Object;J)J" } : Jvm.MethodName)) ∈ lw_all := lw_g (lw_at lw_m5 165 rfl) rfl
theorem q1218 : (Jvm.Cond.native ({ cls := "jdk/internal/misc/Unsafe", name := "getLong", desc := "(Ljava/lang/Object;J)J" } : Jvm.MethodName)) ∈ lw_all := lw_g (lw_at lw_m5 166 rfl) rfl
theorem q1219 : (Jvm.Cond.constantLong "jdk/internal/misc/Unsafe" (349 : Nat) (3 : Int64)) ∈ lw_all := lw_g (lw_at lw_m5 167 rfl) rfl
theorem q1220 : (Jvm.Cond.methodLink "jdk/internal/misc/Unsafe" (17 : Nat) ({ cls := "jdk/internal/misc/Unsafe", name := "getInt", desc := "(Ljava/lang/Object;J)I" } : Jvm.MethodName)) ∈ lw_all := lw_g (lw_at lw_m5 168 rfl) rfl
theorem q1221 : (Jvm.Cond.instanceMethod ({ cls := "jdk/internal/misc/Unsafe", name := "getInt", desc := "(Ljava/lang/Object;J)I" } : Jvm.MethodName)) ∈ lw_all := lw_g (lw_at lw_m5 169 rfl) rfl
theorem q1222 : (Jvm.Cond.selects "jdk/internal/misc/Unsafe" ({ cls := "jdk/internal/misc/Unsafe", name := "getInt", desc := "(Ljava/lang/Object;J)I" } : Jvm.MethodName) ({ cls := "jdk/internal/misc/Unsafe", name := "getInt", desc := "(Ljava/lang/Object;J)I" } : Jvm.MethodName)) ∈ lw_all := lw_g (lw_at lw_m5 170 rfl) rfl
theorem q1223 : (Jvm.Cond.native ({ cls := "jdk/internal/misc/Unsafe", name := "getInt", desc := "(Ljava/lang/Object;J)I" } : Jvm.MethodName)) ∈ lw_all := lw_g (lw_at lw_m5 171 rfl) rfl
theorem q1224 : (Jvm.Cond.constantLong "jdk/internal/misc/Unsafe" (205 : Nat) (4 : Int64)) ∈ lw_all := lw_g (lw_at lw_m5 172 rfl) rfl
theorem q1225 : (Jvm.Cond.methodLink "jdk/internal/misc/Unsafe" (698 : Nat) ({ cls := "jdk/internal/misc/Unsafe", name := "makeLong", desc := "(II)J" } : Jvm.MethodName)) ∈ lw_all := lw_g (lw_at lw_m5 173 rfl) rfl
theorem q1226 : (Jvm.Cond.static ({ cls := "jdk/internal/misc/Unsafe", name := "makeLong", desc := "(II)J" } : Jvm.MethodName)) ∈ lw_all := lw_g (lw_at lw_m5 174 rfl) rfl
theorem q1227 : (Jvm.Cond.code ({ cls := "jdk/internal/misc/Unsafe", name := "makeLong", desc := "(II)J" } : Jvm.MethodName) prog_71_method_353_code (2 : Nat) (Option.some Jvm.ClassFile.FieldType.long)) ∈ lw_all := lw_g (lw_at lw_m5 175 rfl) rfl
theorem q1228 : (Jvm.Cond.methodLink "jdk/internal/misc/Unsafe" (791 : Nat) ({ cls := "jdk/internal/misc/Unsafe", name := "toUnsignedLong", desc := "(I)J" } : Jvm.MethodName)) ∈ lw_all := lw_g (lw_at lw_m5 176 rfl) rfl
theorem q1229 : (Jvm.Cond.static ({ cls := "jdk/internal/misc/Unsafe", name := "toUnsignedLong", desc := "(I)J" } : Jvm.MethodName)) ∈ lw_all := lw_g (lw_at lw_m5 177 rfl) rfl
theorem q1230 : (Jvm.Cond.code ({ cls := "jdk/internal/misc/Unsafe", name := "toUnsignedLong", desc := "(I)J" } : Jvm.MethodName) prog_71_method_370_code (1 : Nat) (Option.some Jvm.ClassFile.FieldType.long)) ∈ lw_all := lw_g (lw_at lw_m5 178 rfl) rfl
theorem q1231 : (Jvm.Cond.constantLong "jdk/internal/misc/Unsafe" (812 : Nat) (4294967295 : Int64)) ∈ lw_all := lw_g (lw_at lw_m5 179 rfl) rfl
theorem q1232 : (Jvm.Cond.methodLink "jdk/internal/misc/Unsafe" (784 : Nat) ({ cls := "jdk/internal/misc/Unsafe", name := "pickPos", desc := "(II)I" } : Jvm.MethodName)) ∈ lw_all := lw_g (lw_at lw_m5 180 rfl) rfl
theorem q1233 : (Jvm.Cond.static ({ cls := "jdk/internal/misc/Unsafe", name := "pickPos", desc := "(II)I" } : Jvm.MethodName)) ∈ lw_all := lw_g (lw_at lw_m5 181 rfl) rfl
theorem q1234 : (Jvm.Cond.code ({ cls := "jdk/internal/misc/Unsafe", name := "pickPos", desc := "(II)I" } : Jvm.MethodName) prog_71_method_350_code (2 : Nat) (Option.some Jvm.ClassFile.FieldType.int)) ∈ lw_all := lw_g (lw_at lw_m5 182 rfl) rfl
theorem q1235 : (Jvm.Cond.fieldLink "jdk/internal/misc/Unsafe" (351 : Nat) "jdk/internal/misc/UnsafeConstants" "BIG_ENDIAN" "Z") ∈ lw_all := lw_g (lw_at lw_m5 183 rfl) rfl
theorem q1237 : (Jvm.Cond.methodLink "jdk/internal/misc/Unsafe" (47 : Nat) ({ cls := "jdk/internal/misc/Unsafe", name := "getShort", desc := "(Ljava/lang/Object;J)S" } : Jvm.MethodName)) ∈ lw_all := lw_g (lw_at lw_m5 185 rfl) rfl
theorem q1238 : (Jvm.Cond.instanceMethod ({ cls := "jdk/internal/misc/Unsafe", name := "getShort", desc := "(Ljava/lang/Object;J)S" } : Jvm.MethodName)) ∈ lw_all := lw_g (lw_at lw_m5 186 rfl) rfl
theorem q1239 : (Jvm.Cond.selects "jdk/internal/misc/Unsafe" ({ cls := "jdk/internal/misc/Unsafe", name := "getShort", desc := "(Ljava/lang/Object;J)S" } : Jvm.MethodName) ({ cls := "jdk/internal/misc/Unsafe", name := "getShort", desc := "(Ljava/lang/Object;J)S" } : Jvm.MethodName)) ∈ lw_all := lw_g (lw_at lw_m5 187 rfl) rfl
theorem q1240 : (Jvm.Cond.native ({ cls := "jdk/internal/misc/Unsafe", name := "getShort", desc := "(Ljava/lang/Object;J)S" } : Jvm.MethodName)) ∈ lw_all := lw_g (lw_at lw_m5 188 rfl) rfl
theorem q1241 : (Jvm.Cond.constantLong "jdk/internal/misc/Unsafe" (203 : Nat) (2 : Int64)) ∈ lw_all := lw_g (lw_at lw_m5 189 rfl) rfl
theorem q1242 : (Jvm.Cond.constantLong "jdk/internal/misc/Unsafe" (702 : Nat) (6 : Int64)) ∈ lw_all := lw_g (lw_at lw_m5 190 rfl) rfl
theorem q1243 : (Jvm.Cond.methodLink "jdk/internal/misc/Unsafe" (704 : Nat) ({ cls := "jdk/internal/misc/Unsafe", name := "makeLong", desc := "(SSSS)J" } : Jvm.MethodName)) ∈ lw_all := lw_g (lw_at lw_m5 191 rfl) rfl
theorem q1244 : (Jvm.Cond.static ({ cls := "jdk/internal/misc/Unsafe", name := "makeLong", desc := "(SSSS)J" } : Jvm.MethodName)) ∈ lw_all := lw_g (lw_at lw_m5 192 rfl) rfl
theorem q1245 : (Jvm.Cond.code ({ cls := "jdk/internal/misc/Unsafe", name := "makeLong", desc := "(SSSS)J" } : Jvm.MethodName) prog_71_method_352_code (4 : Nat) (Option.some Jvm.ClassFile.FieldType.long)) ∈ lw_all := lw_g (lw_at lw_m5 193 rfl) rfl
theorem q1246 : (Jvm.Cond.methodLink "jdk/internal/misc/Unsafe" (788 : Nat) ({ cls := "jdk/internal/misc/Unsafe", name := "toUnsignedLong", desc := "(S)J" } : Jvm.MethodName)) ∈ lw_all := lw_g (lw_at lw_m5 194 rfl) rfl
theorem q1247 : (Jvm.Cond.static ({ cls := "jdk/internal/misc/Unsafe", name := "toUnsignedLong", desc := "(S)J" } : Jvm.MethodName)) ∈ lw_all := lw_g (lw_at lw_m5 195 rfl) rfl
theorem q1248 : (Jvm.Cond.code ({ cls := "jdk/internal/misc/Unsafe", name := "toUnsignedLong", desc := "(S)J" } : Jvm.MethodName) prog_71_method_369_code (1 : Nat) (Option.some Jvm.ClassFile.FieldType.long)) ∈ lw_all := lw_g (lw_at lw_m5 196 rfl) rfl
theorem q1249 : (Jvm.Cond.constantLong "jdk/internal/misc/Unsafe" (810 : Nat) (65535 : Int64)) ∈ lw_all := lw_g (lw_at lw_m5 197 rfl) rfl
theorem q1250 : (Jvm.Cond.methodLink "jdk/internal/misc/Unsafe" (39 : Nat) ({ cls := "jdk/internal/misc/Unsafe", name := "getByte", desc := "(Ljava/lang/Object;J)B" } : Jvm.MethodName)) ∈ lw_all := lw_g (lw_at lw_m5 198 rfl) rfl
theorem q1251 : (Jvm.Cond.instanceMethod ({ cls := "jdk/internal/misc/Unsafe", name := "getByte", desc := "(Ljava/lang/Object;J)B" } : Jvm.MethodName)) ∈ lw_all := lw_g (lw_at lw_m5 199 rfl) rfl
theorem q1252 : (Jvm.Cond.selects "jdk/internal/misc/Unsafe" ({ cls := "jdk/internal/misc/Unsafe", name := "getByte", desc := "(Ljava/lang/Object;J)B" } : Jvm.MethodName) ({ cls := "jdk/internal/misc/Unsafe", name := "getByte", desc := "(Ljava/lang/Object;J)B" } : Jvm.MethodName)) ∈ lw_all := lw_g (lw_at lw_m5 200 rfl) rfl
theorem q1253 : (Jvm.Cond.native ({ cls := "jdk/internal/misc/Unsafe", name := "getByte", desc := "(Ljava/lang/Object;J)B" } : Jvm.MethodName)) ∈ lw_all := lw_g (lw_at lw_m5 201 rfl) rfl
theorem q1254 : (Jvm.Cond.constantLong "jdk/internal/misc/Unsafe" (707 : Nat) (5 : Int64)) ∈ lw_all := lw_g (lw_at lw_m5 202 rfl) rfl
theorem q1255 : (Jvm.Cond.methodLink "jdk/internal/misc/Unsafe" (709 : Nat) ({ cls := "jdk/internal/misc/Unsafe", name := "makeLong", desc := "(BBBBBBBB)J" } : Jvm.MethodName)) ∈ lw_all := lw_g (lw_at lw_m5 203 rfl) rfl
theorem q1256 : (Jvm.Cond.static ({ cls := "jdk/internal/misc/Unsafe", name := "makeLong", desc := "(BBBBBBBB)J" } : Jvm.MethodName)) ∈ lw_all := lw_g (lw_at lw_m5 204 rfl) rfl
theorem q1257 : (Jvm.Cond.code ({ cls := "jdk/internal/misc/Unsafe", name := "makeLong", desc := "(BBBBBBBB)J" } : Jvm.MethodName) prog_71_method_351_code (8 : Nat) (Option.some Jvm.ClassFile.FieldType.long)) ∈ lw_all := lw_g (lw_at lw_m5 205 rfl) rfl
theorem q1258 : (Jvm.Cond.methodLink "jdk/internal/misc/Unsafe" (781 : Nat) ({ cls := "jdk/internal/misc/Unsafe", name := "toUnsignedLong", desc := "(B)J" } : Jvm.MethodName)) ∈ lw_all := lw_g (lw_at lw_m5 206 rfl) rfl
theorem q1259 : (Jvm.Cond.static ({ cls := "jdk/internal/misc/Unsafe", name := "toUnsignedLong", desc := "(B)J" } : Jvm.MethodName)) ∈ lw_all := lw_g (lw_at lw_m5 207 rfl) rfl
theorem q1260 : (Jvm.Cond.code ({ cls := "jdk/internal/misc/Unsafe", name := "toUnsignedLong", desc := "(B)J" } : Jvm.MethodName) prog_71_method_368_code (1 : Nat) (Option.some Jvm.ClassFile.FieldType.long)) ∈ lw_all := lw_g (lw_at lw_m5 208 rfl) rfl
theorem q1261 : (Jvm.Cond.constantLong "jdk/internal/misc/Unsafe" (808 : Nat) (255 : Int64)) ∈ lw_all := lw_g (lw_at lw_m5 209 rfl) rfl
theorem q1282 : (Jvm.Cond.instanceMethod ({ cls := "jdk/internal/misc/Unsafe", name := "getIntUnaligned", desc := "(Ljava/lang/Object;J)I" } : Jvm.MethodName)) ∈ lw_all := lw_g (lw_at lw_m5 230 rfl) rfl
theorem q1283 : (Jvm.Cond.selects "jdk/internal/misc/Unsafe" ({ cls := "jdk/internal/misc/Unsafe", name := "getIntUnaligned", desc := "(Ljava/lang/Object;J)I" } : Jvm.MethodName) ({ cls := "jdk/internal/misc/Unsafe", name := "getIntUnaligned", desc := "(Ljava/lang/Object;J)I" } : Jvm.MethodName)) ∈ lw_all := lw_g (lw_at lw_m5 231 rfl) rfl
theorem q1284 : (Jvm.Cond.code ({ cls := "jdk/internal/misc/Unsafe", name := "getIntUnaligned", desc := "(Ljava/lang/Object;J)I" } : Jvm.MethodName) prog_71_method_336_code (4 : Nat) (Option.some Jvm.ClassFile.FieldType.int)) ∈ lw_all := lw_g (lw_at lw_m5 232 rfl) rfl
theorem q1285 : (Jvm.Cond.methodLink "jdk/internal/misc/Unsafe" (719 : Nat) ({ cls := "jdk/internal/misc/Unsafe", name := "makeInt", desc := "(SS)I" } : Jvm.MethodName)) ∈ lw_all := lw_g (lw_at lw_m5 233 rfl) rfl
theorem q1286 : (Jvm.Cond.static ({ cls := "jdk/internal/misc/Unsafe", name := "makeInt", desc := "(SS)I" } : Jvm.MethodName)) ∈ lw_all := lw_g (lw_at lw_m5 234 rfl) rfl
theorem q1287 : (Jvm.Cond.code ({ cls := "jdk/internal/misc/Unsafe", name := "makeInt", desc := "(SS)I" } : Jvm.MethodName) prog_71_method_354_code (2 : Nat) (Option.some Jvm.ClassFile.FieldType.int)) ∈ lw_all := lw_g (lw_at lw_m5 235 rfl) rfl
theorem q1288 : (Jvm.Cond.methodLink "jdk/internal/misc/Unsafe" (792 : Nat) ({ cls := "jdk/internal/misc/Unsafe", name := "toUnsignedInt", desc := "(S)I" } : Jvm.MethodName)) ∈ lw_all := lw_g (lw_at lw_m5 236 rfl) rfl
theorem q1289 : (Jvm.Cond.static ({ cls := "jdk/internal/misc/Unsafe", name := "toUnsignedInt", desc := "(S)I" } : Jvm.MethodName)) ∈ lw_all := lw_g (lw_at lw_m5 237 rfl) rfl
theorem q1290 : (Jvm.Cond.code ({ cls := "jdk/internal/misc/Unsafe", name := "toUnsignedInt", desc := "(S)I" } : Jvm.MethodName) prog_71_method_367_code (1 : Nat) (Option.some Jvm.ClassFile.FieldType.int)) ∈ lw_all := lw_g (lw_at lw_m5 238 rfl) rfl
theorem q1291 : (Jvm.Cond.constant "jdk/internal/misc/Unsafe" (374 : Nat) (65535 : Int32)) ∈ lw_all := lw_g (lw_at lw_m5 239 rfl) rfl
theorem q1292 : (Jvm.Cond.methodLink "jdk/internal/misc/Unsafe" (723 : Nat) ({ cls := "jdk/internal/misc/Unsafe", name := "makeInt", desc := "(BBBB)I" } : Jvm.MethodName)) ∈ lw_all := lw_g (lw_at lw_m6 0 rfl) rfl
theorem q1293 : (Jvm.Cond.static ({ cls := "jdk/internal/misc/Unsafe", name := "makeInt", desc := "(BBBB)I" } : Jvm.MethodName)) ∈ lw_all := lw_g (lw_at lw_m6 1 rfl) rfl
theorem q1294 : (Jvm.Cond.code ({ cls := "jdk/internal/misc/Unsafe", name := "makeInt", desc := "(BBBB)I" } : Jvm.MethodName) prog_71_method_355_code (4 : Nat) (Option.some Jvm.ClassFile.FieldType.int)) ∈ lw_all := lw_g (lw_at lw_m6 2 rfl) rfl
theorem q1295 : (Jvm.Cond.methodLink "jdk/internal/misc/Unsafe" (796 : Nat) ({ cls := "jdk/internal/misc/Unsafe", name := "toUnsignedInt", desc := "(B)I" } : Jvm.MethodName)) ∈ lw_all := lw_g (lw_at lw_m6 3 rfl) rfl
theorem q1296 : (Jvm.Cond.static ({ cls := "jdk/internal/misc/Unsafe", name := "toUnsignedInt", desc := "(B)I" } : Jvm.MethodName)) ∈ lw_all := lw_g (lw_at lw_m6 4 rfl) rfl
theorem q1297 : (Jvm.Cond.code ({ cls := "jdk/internal/misc/Unsafe", name := "toUnsignedInt", desc := "(B)I" } : Jvm.MethodName) prog_71_method_366_code (1 : Nat) (Option.some Jvm.ClassFile.FieldType.int)) ∈ lw_all := lw_g (lw_at lw_m6 5 rfl) rfl
theorem q1573 : (Jvm.Cond.selects "jdk/internal/misc/Unsafe" ({ cls := "java/lang/Object", name := "getClass", desc := "()Ljava/lang/Class;" } : Jvm.MethodName) ({ cls := "java/lang/Object", name := "getClass", desc := "()Ljava/lang/Class;" } : Jvm.MethodName)) ∈ lw_all := lw_g (lw_at lw_m7 41 rfl) rfl
theorem q2548 : (Jvm.Cond.castable "jdk/internal/misc/Unsafe" "java/lang/Object") ∈ lw_tbl := lw_at lw_m11 56 rfl
/-! java/lang/Long -/
set_option maxRecDepth 100000
def RJ32 : String := "java/lang/Long"
theorem q132 : (Jvm.Cond.initialized "java/lang/Long") ∈ lw_all := lw_g (lw_at lw_m1 40 rfl) rfl
theorem q1265 : (Jvm.Cond.static ({ cls := "java/lang/Long", name := "numberOfLeadingZeros", desc := "(J)I" } : Jvm.MethodName)) ∈ lw_all := lw_g (lw_at lw_m5 213 rfl) rfl
theorem q1266 : (Jvm.Cond.code ({ cls := "java/lang/Long", name := "numberOfLeadingZeros", desc := "(J)I" } : Jvm.MethodName) prog_24_method_48_code (3 : Nat) (Option.some Jvm.ClassFile.FieldType.int)) ∈ lw_all := lw_g (lw_at lw_m5 214 rfl) rfl
theorem q1267 : (Jvm.Cond.methodLink "java/lang/Long" (308 : Nat) ({ cls := "java/lang/Integer", name := "numberOfLeadingZeros", desc := "(I)I" } : Jvm.MethodName)) ∈ lw_all := lw_g (lw_at lw_m5 215 rfl) rfl
theorem q1274 : (Jvm.Cond.static ({ cls := "java/lang/Long", name := "numberOfTrailingZeros", desc := "(J)I" } : Jvm.MethodName)) ∈ lw_all := lw_g (lw_at lw_m5 222 rfl) rfl
theorem q1275 : (Jvm.Cond.code ({ cls := "java/lang/Long", name := "numberOfTrailingZeros", desc := "(J)I" } : Jvm.MethodName) prog_24_method_49_code (3 : Nat) (Option.some Jvm.ClassFile.FieldType.int)) ∈ lw_all := lw_g (lw_at lw_m5 223 rfl) rfl
theorem q1276 : (Jvm.Cond.methodLink "java/lang/Long" (311 : Nat) ({ cls := "java/lang/Integer", name := "numberOfTrailingZeros", desc := "(I)I" } : Jvm.MethodName)) ∈ lw_all := lw_g (lw_at lw_m5 224 rfl) rfl
/-! java/util/TreeMap$Entry -/
set_option maxRecDepth 100000
def RJ33 : String := "java/util/TreeMap$Entry"
def TJ33 : u_T := fun k => match k with
  | 0 => ("java/util/TreeMap$Entry", "key", "Ljava/lang/Object;", false)
  | 1 => ("java/util/TreeMap$Entry", "value", "Ljava/lang/Object;", false)
  | 2 => ("java/util/TreeMap$Entry", "left", "Ljava/util/TreeMap$Entry;", false)
  | 3 => ("java/util/TreeMap$Entry", "right", "Ljava/util/TreeMap$Entry;", false)
  | 4 => ("java/util/TreeMap$Entry", "parent", "Ljava/util/TreeMap$Entry;", false)
  | _ => ("java/util/TreeMap$Entry", "color", "Z", false)
def tyJ33 : Nat → FieldType := fun k => match k with
  | 0 => .object "java/lang/Object"
  | 1 => .object "java/lang/Object"
  | 2 => .object "java/util/TreeMap$Entry"
  | 3 => .object "java/util/TreeMap$Entry"
  | 4 => .object "java/util/TreeMap$Entry"
  | _ => .boolean
abbrev wsJ330 : List Cond := u_ws RJ33 TJ33 6
theorem nmJ33 : ∀ a, a < 6 → ∀ b, b < 6 → a ≠ b → (TJ33 a).2.1 ≠ (TJ33 b).2.1 := by decide +kernel
theorem tyJ33_ok : ∀ k, k < 6 → parseFieldDescriptor (TJ33 k).2.2.1 = some (tyJ33 k) := by decide +kernel
abbrev cJ33_init : ByteArray := prog_63_method_1_code
def yJ33_init : MethodName := ⟨RJ33, "<init>", "(Ljava/lang/Object;Ljava/lang/Object;Ljava/util/TreeMap$Entry;)V"⟩
def dkwJ33_init_1 : List UInt8 := [177]
abbrev dktJ33_init_1 : List UInt8 := dkwJ33_init_1 ++ []
def dkwJ33_init_0 : List UInt8 := [42, 183, 0, 3, 42, 4, 181, 0, 9, 42, 43, 181, 0, 15, 42, 44, 181, 0, 19, 42, 45, 181, 0, 22]
abbrev dktJ33_init_0 : List UInt8 := dkwJ33_init_0 ++ dktJ33_init_1
theorem dksJ33_init_0 : cJ33_init.data.toList.drop 0 = dktJ33_init_0 := by decide +kernel
theorem dksJ33_init_1 : cJ33_init.data.toList.drop 24 = dktJ33_init_1 := dk_seg dksJ33_init_0 24 rfl rfl
theorem dJ33_init_0 : decode cJ33_init 0 = .ok (.aload_n 0, 1) := dk_42 (dk_at dksJ33_init_0 0 rfl rfl)
theorem dJ33_init_1 : decode cJ33_init 1 = .ok (.invokespecial 3, 3) := dk_183 0 3 (dk_at dksJ33_init_0 1 rfl rfl)
theorem dJ33_init_4 : decode cJ33_init 4 = .ok (.aload_n 0, 1) := dk_42 (dk_at dksJ33_init_0 4 rfl rfl)
theorem dJ33_init_5 : decode cJ33_init 5 = .ok (.iconst 1, 1) := dk_4 (dk_at dksJ33_init_0 5 rfl rfl)
theorem dJ33_init_6 : decode cJ33_init 6 = .ok (.putfield 9, 3) := dk_181 0 9 (dk_at dksJ33_init_0 6 rfl rfl)
theorem dJ33_init_9 : decode cJ33_init 9 = .ok (.aload_n 0, 1) := dk_42 (dk_at dksJ33_init_0 9 rfl rfl)
theorem dJ33_init_10 : decode cJ33_init 10 = .ok (.aload_n 1, 1) := dk_43 (dk_at dksJ33_init_0 10 rfl rfl)
theorem dJ33_init_11 : decode cJ33_init 11 = .ok (.putfield 15, 3) := dk_181 0 15 (dk_at dksJ33_init_0 11 rfl rfl)
theorem dJ33_init_14 : decode cJ33_init 14 = .ok (.aload_n 0, 1) := dk_42 (dk_at dksJ33_init_0 14 rfl rfl)
theorem dJ33_init_15 : decode cJ33_init 15 = .ok (.aload_n 2, 1) := dk_44 (dk_at dksJ33_init_0 15 rfl rfl)
theorem dJ33_init_16 : decode cJ33_init 16 = .ok (.putfield 19, 3) := dk_181 0 19 (dk_at dksJ33_init_0 16 rfl rfl)
theorem dJ33_init_19 : decode cJ33_init 19 = .ok (.aload_n 0, 1) := dk_42 (dk_at dksJ33_init_0 19 rfl rfl)
theorem dJ33_init_20 : decode cJ33_init 20 = .ok (.aload_n 3, 1) := dk_45 (dk_at dksJ33_init_0 20 rfl rfl)
theorem dJ33_init_21 : decode cJ33_init 21 = .ok (.putfield 22, 3) := dk_181 0 22 (dk_at dksJ33_init_0 21 rfl rfl)
theorem dJ33_init_24 : decode cJ33_init 24 = .ok (.return_, 1) := dk_177 (dk_at dksJ33_init_1 0 rfl rfl)
theorem q133 : (Jvm.Cond.initialized "java/util/TreeMap$Entry") ∈ lw_all := lw_g (lw_at lw_m1 41 rfl) rfl
theorem q1374 : (Jvm.Cond.instantiable "java/util/TreeMap$Entry" (6 : Nat)) ∈ lw_all := lw_g (lw_at lw_m6 82 rfl) rfl
theorem q1376 : (Jvm.Cond.instanceMethod ({ cls := "java/util/TreeMap$Entry", name := "<init>", desc := "(Ljava/lang/Object;Ljava/lang/Object;Ljava/util/TreeMap$Entry;)V" } : Jvm.MethodName)) ∈ lw_all := lw_g (lw_at lw_m6 84 rfl) rfl
theorem q1377 : (Jvm.Cond.code ({ cls := "java/util/TreeMap$Entry", name := "<init>", desc := "(Ljava/lang/Object;Ljava/lang/Object;Ljava/util/TreeMap$Entry;)V" } : Jvm.MethodName) prog_63_method_1_code (4 : Nat) (Option.none : Option Jvm.ClassFile.FieldType)) ∈ lw_all := lw_g (lw_at lw_m6 85 rfl) rfl
theorem q1378 : (Jvm.Cond.methodLink "java/util/TreeMap$Entry" (3 : Nat) ({ cls := "java/lang/Object", name := "<init>", desc := "()V" } : Jvm.MethodName)) ∈ lw_all := lw_g (lw_at lw_m6 86 rfl) rfl
theorem q1379 : (Jvm.Cond.fieldLink "java/util/TreeMap$Entry" (15 : Nat) "java/util/TreeMap$Entry" "key" "Ljava/lang/Object;") ∈ lw_all := lw_g (lw_at lw_m6 87 rfl) rfl
theorem q1382 : (Jvm.Cond.fieldLink "java/util/TreeMap$Entry" (19 : Nat) "java/util/TreeMap$Entry" "value" "Ljava/lang/Object;") ∈ lw_all := lw_g (lw_at lw_m6 90 rfl) rfl
theorem q1386 : (Jvm.Cond.fieldLink "java/util/TreeMap$Entry" (22 : Nat) "java/util/TreeMap$Entry" "parent" "Ljava/util/TreeMap$Entry;") ∈ lw_all := lw_g (lw_at lw_m6 94 rfl) rfl
theorem q1388 : (Jvm.Cond.fieldLink "java/util/TreeMap$Entry" (9 : Nat) "java/util/TreeMap$Entry" "color" "Z") ∈ lw_all := lw_g (lw_at lw_m6 96 rfl) rfl
theorem q1390 : (Jvm.Cond.lays "java/util/TreeMap$Entry" "java/util/TreeMap$Entry" "key" "Ljava/lang/Object;") ∈ lw_all := lw_g (lw_at lw_m6 98 rfl) rfl
theorem q1391 : (Jvm.Cond.soleField "java/util/TreeMap$Entry" "key") ∈ lw_all := lw_g (lw_at lw_m6 99 rfl) rfl
theorem q1392 : (Jvm.Cond.lays "java/util/TreeMap$Entry" "java/util/TreeMap$Entry" "value" "Ljava/lang/Object;") ∈ lw_all := lw_g (lw_at lw_m6 100 rfl) rfl
theorem q1393 : (Jvm.Cond.soleField "java/util/TreeMap$Entry" "value") ∈ lw_all := lw_g (lw_at lw_m6 101 rfl) rfl
theorem q1394 : (Jvm.Cond.lays "java/util/TreeMap$Entry" "java/util/TreeMap$Entry" "left" "Ljava/util/TreeMap$Entry;") ∈ lw_all := lw_g (lw_at lw_m6 102 rfl) rfl
theorem q1395 : (Jvm.Cond.soleField "java/util/TreeMap$Entry" "left") ∈ lw_all := lw_g (lw_at lw_m6 103 rfl) rfl
theorem q1396 : (Jvm.Cond.lays "java/util/TreeMap$Entry" "java/util/TreeMap$Entry" "right" "Ljava/util/TreeMap$Entry;") ∈ lw_all := lw_g (lw_at lw_m6 104 rfl) rfl
theorem q1397 : (Jvm.Cond.soleField "java/util/TreeMap$Entry" "right") ∈ lw_all := lw_g (lw_at lw_m6 105 rfl) rfl
theorem q1398 : (Jvm.Cond.lays "java/util/TreeMap$Entry" "java/util/TreeMap$Entry" "parent" "Ljava/util/TreeMap$Entry;") ∈ lw_all := lw_g (lw_at lw_m6 106 rfl) rfl
theorem q1399 : (Jvm.Cond.soleField "java/util/TreeMap$Entry" "parent") ∈ lw_all := lw_g (lw_at lw_m6 107 rfl) rfl
theorem q1400 : (Jvm.Cond.lays "java/util/TreeMap$Entry" "java/util/TreeMap$Entry" "color" "Z") ∈ lw_all := lw_g (lw_at lw_m6 108 rfl) rfl
theorem q1401 : (Jvm.Cond.soleField "java/util/TreeMap$Entry" "color") ∈ lw_all := lw_g (lw_at lw_m6 109 rfl) rfl
theorem q1402 : (Jvm.Cond.superclass "java/util/TreeMap$Entry" "java/lang/Object") ∈ lw_all := lw_g (lw_at lw_m6 110 rfl) rfl
theorem q1567 : (Jvm.Cond.selects "java/util/TreeMap$Entry" ({ cls := "java/lang/Object", name := "getClass", desc := "()Ljava/lang/Class;" } : Jvm.MethodName) ({ cls := "java/lang/Object", name := "getClass", desc := "()Ljava/lang/Class;" } : Jvm.MethodName)) ∈ lw_all := lw_g (lw_at lw_m7 35 rfl) rfl
theorem q2549 : (Jvm.Cond.castable "java/util/TreeMap$Entry" "java/lang/Object") ∈ lw_tbl := lw_at lw_m11 57 rfl
theorem in_J33 : ∀ w ∈ wsJ330, w ∈ lw_all := lw_in wsJ330 [1390, 1392, 1394, 1396, 1398, 1400] (by decide +kernel) (by decide +kernel)
/-! java/util/Arrays -/
set_option maxRecDepth 100000
def RJ34 : String := "java/util/Arrays"
abbrev cJ34_fill : ByteArray := prog_43_method_110_code
def yJ34_fill : MethodName := ⟨RJ34, "fill", "([BIIB)V"⟩
def dkwJ34_fill_1 : List UInt8 := [167, 255, 242, 177]
abbrev dktJ34_fill_1 : List UInt8 := dkwJ34_fill_1 ++ []
def dkwJ34_fill_0 : List UInt8 := [42, 190, 27, 28, 184, 0, 13, 27, 54, 4, 21, 4, 28, 162, 0, 14, 42, 21, 4, 29, 84, 132, 4, 1]
abbrev dktJ34_fill_0 : List UInt8 := dkwJ34_fill_0 ++ dktJ34_fill_1
theorem dksJ34_fill_0 : cJ34_fill.data.toList.drop 0 = dktJ34_fill_0 := by decide +kernel
theorem dksJ34_fill_1 : cJ34_fill.data.toList.drop 24 = dktJ34_fill_1 := dk_seg dksJ34_fill_0 24 rfl rfl
theorem dJ34_fill_0 : decode cJ34_fill 0 = .ok (.aload_n 0, 1) := dk_42 (dk_at dksJ34_fill_0 0 rfl rfl)
theorem dJ34_fill_1 : decode cJ34_fill 1 = .ok (.arraylength, 1) := dk_190 (dk_at dksJ34_fill_0 1 rfl rfl)
theorem dJ34_fill_2 : decode cJ34_fill 2 = .ok (.iload_n 1, 1) := dk_27 (dk_at dksJ34_fill_0 2 rfl rfl)
theorem dJ34_fill_3 : decode cJ34_fill 3 = .ok (.iload_n 2, 1) := dk_28 (dk_at dksJ34_fill_0 3 rfl rfl)
theorem dJ34_fill_4 : decode cJ34_fill 4 = .ok (.invokestatic 13, 3) := dk_184 0 13 (dk_at dksJ34_fill_0 4 rfl rfl)
theorem dJ34_fill_7 : decode cJ34_fill 7 = .ok (.iload_n 1, 1) := dk_27 (dk_at dksJ34_fill_0 7 rfl rfl)
theorem dJ34_fill_8 : decode cJ34_fill 8 = .ok (.istore 4, 2) := dk_54 4 (dk_at dksJ34_fill_0 8 rfl rfl)
theorem dJ34_fill_10 : decode cJ34_fill 10 = .ok (.iload 4, 2) := dk_21 4 (dk_at dksJ34_fill_0 10 rfl rfl)
theorem dJ34_fill_12 : decode cJ34_fill 12 = .ok (.iload_n 2, 1) := dk_28 (dk_at dksJ34_fill_0 12 rfl rfl)
theorem dJ34_fill_13 : decode cJ34_fill 13 = .ok (.if_icmp .ge 14, 3) := dk_162 0 14 (dk_at dksJ34_fill_0 13 rfl rfl)
theorem dJ34_fill_16 : decode cJ34_fill 16 = .ok (.aload_n 0, 1) := dk_42 (dk_at dksJ34_fill_0 16 rfl rfl)
theorem dJ34_fill_17 : decode cJ34_fill 17 = .ok (.iload 4, 2) := dk_21 4 (dk_at dksJ34_fill_0 17 rfl rfl)
theorem dJ34_fill_19 : decode cJ34_fill 19 = .ok (.iload_n 3, 1) := dk_29 (dk_at dksJ34_fill_0 19 rfl rfl)
theorem dJ34_fill_20 : decode cJ34_fill 20 = .ok (.bastore, 1) := dk_84 (dk_at dksJ34_fill_0 20 rfl rfl)
theorem dJ34_fill_21 : decode cJ34_fill 21 = .ok (.iinc 4 1, 3) := dk_132 4 1 (dk_at dksJ34_fill_0 21 rfl rfl)
theorem dJ34_fill_24 : decode cJ34_fill 24 = .ok (.goto (-14), 3) := dk_167 255 242 (dk_at dksJ34_fill_1 0 rfl rfl)
theorem dJ34_fill_27 : decode cJ34_fill 27 = .ok (.return_, 1) := dk_177 (dk_at dksJ34_fill_1 3 rfl rfl)
abbrev cJ34_rangeCheck : ByteArray := prog_43_method_30_code
def yJ34_rangeCheck : MethodName := ⟨RJ34, "rangeCheck", "(III)V"⟩
def dkwJ34_rangeCheck_3 : List UInt8 := [183, 0, 70, 191, 177]
abbrev dktJ34_rangeCheck_3 : List UInt8 := dkwJ34_rangeCheck_3 ++ []
def dkwJ34_rangeCheck_2 : List UInt8 := [27, 156, 0, 12, 187, 0, 68, 89, 27, 183, 0, 70, 191, 28, 26, 164, 0, 12, 187, 0, 68, 89, 28]
abbrev dktJ34_rangeCheck_2 : List UInt8 := dkwJ34_rangeCheck_2 ++ dktJ34_rangeCheck_3
def dkwJ34_rangeCheck_1 : List UInt8 := [182, 0, 54, 18, 57, 182, 0, 50, 28, 182, 0, 54, 18, 59, 182, 0, 50, 182, 0, 61, 183, 0, 65, 191]
abbrev dktJ34_rangeCheck_1 : List UInt8 := dkwJ34_rangeCheck_1 ++ dktJ34_rangeCheck_2
def dkwJ34_rangeCheck_0 : List UInt8 := [27, 28, 164, 0, 44, 187, 0, 43, 89, 187, 0, 45, 89, 183, 0, 47, 18, 48, 182, 0, 50, 27]
abbrev dktJ34_rangeCheck_0 : List UInt8 := dkwJ34_rangeCheck_0 ++ dktJ34_rangeCheck_1
theorem dksJ34_rangeCheck_0 : cJ34_rangeCheck.data.toList.drop 0 = dktJ34_rangeCheck_0 := by decide +kernel
theorem dksJ34_rangeCheck_1 : cJ34_rangeCheck.data.toList.drop 22 = dktJ34_rangeCheck_1 := dk_seg dksJ34_rangeCheck_0 22 rfl rfl
theorem dksJ34_rangeCheck_2 : cJ34_rangeCheck.data.toList.drop 46 = dktJ34_rangeCheck_2 := dk_seg dksJ34_rangeCheck_1 24 rfl rfl
theorem dksJ34_rangeCheck_3 : cJ34_rangeCheck.data.toList.drop 69 = dktJ34_rangeCheck_3 := dk_seg dksJ34_rangeCheck_2 23 rfl rfl
theorem dJ34_rangeCheck_0 : decode cJ34_rangeCheck 0 = .ok (.iload_n 1, 1) := dk_27 (dk_at dksJ34_rangeCheck_0 0 rfl rfl)
theorem dJ34_rangeCheck_1 : decode cJ34_rangeCheck 1 = .ok (.iload_n 2, 1) := dk_28 (dk_at dksJ34_rangeCheck_0 1 rfl rfl)
theorem dJ34_rangeCheck_2 : decode cJ34_rangeCheck 2 = .ok (.if_icmp .le 44, 3) := dk_164 0 44 (dk_at dksJ34_rangeCheck_0 2 rfl rfl)
theorem dJ34_rangeCheck_5 : decode cJ34_rangeCheck 5 = .ok (.new 43, 3) := dk_187 0 43 (dk_at dksJ34_rangeCheck_0 5 rfl rfl)
theorem dJ34_rangeCheck_8 : decode cJ34_rangeCheck 8 = .ok (.dup, 1) := dk_89 (dk_at dksJ34_rangeCheck_0 8 rfl rfl)
theorem dJ34_rangeCheck_9 : decode cJ34_rangeCheck 9 = .ok (.new 45, 3) := dk_187 0 45 (dk_at dksJ34_rangeCheck_0 9 rfl rfl)
theorem dJ34_rangeCheck_12 : decode cJ34_rangeCheck 12 = .ok (.dup, 1) := dk_89 (dk_at dksJ34_rangeCheck_0 12 rfl rfl)
theorem dJ34_rangeCheck_13 : decode cJ34_rangeCheck 13 = .ok (.invokespecial 47, 3) := dk_183 0 47 (dk_at dksJ34_rangeCheck_0 13 rfl rfl)
theorem dJ34_rangeCheck_16 : decode cJ34_rangeCheck 16 = .ok (.ldc 48, 2) := dk_18 48 (dk_at dksJ34_rangeCheck_0 16 rfl rfl)
theorem dJ34_rangeCheck_18 : decode cJ34_rangeCheck 18 = .ok (.invokevirtual 50, 3) := dk_182 0 50 (dk_at dksJ34_rangeCheck_0 18 rfl rfl)
theorem dJ34_rangeCheck_21 : decode cJ34_rangeCheck 21 = .ok (.iload_n 1, 1) := dk_27 (dk_at dksJ34_rangeCheck_0 21 rfl rfl)
theorem dJ34_rangeCheck_22 : decode cJ34_rangeCheck 22 = .ok (.invokevirtual 54, 3) := dk_182 0 54 (dk_at dksJ34_rangeCheck_1 0 rfl rfl)
theorem dJ34_rangeCheck_25 : decode cJ34_rangeCheck 25 = .ok (.ldc 57, 2) := dk_18 57 (dk_at dksJ34_rangeCheck_1 3 rfl rfl)
theorem dJ34_rangeCheck_27 : decode cJ34_rangeCheck 27 = .ok (.invokevirtual 50, 3) := dk_182 0 50 (dk_at dksJ34_rangeCheck_1 5 rfl rfl)
theorem dJ34_rangeCheck_30 : decode cJ34_rangeCheck 30 = .ok (.iload_n 2, 1) := dk_28 (dk_at dksJ34_rangeCheck_1 8 rfl rfl)
theorem dJ34_rangeCheck_31 : decode cJ34_rangeCheck 31 = .ok (.invokevirtual 54, 3) := dk_182 0 54 (dk_at dksJ34_rangeCheck_1 9 rfl rfl)
theorem dJ34_rangeCheck_34 : decode cJ34_rangeCheck 34 = .ok (.ldc 59, 2) := dk_18 59 (dk_at dksJ34_rangeCheck_1 12 rfl rfl)
theorem dJ34_rangeCheck_36 : decode cJ34_rangeCheck 36 = .ok (.invokevirtual 50, 3) := dk_182 0 50 (dk_at dksJ34_rangeCheck_1 14 rfl rfl)
theorem dJ34_rangeCheck_39 : decode cJ34_rangeCheck 39 = .ok (.invokevirtual 61, 3) := dk_182 0 61 (dk_at dksJ34_rangeCheck_1 17 rfl rfl)
theorem dJ34_rangeCheck_42 : decode cJ34_rangeCheck 42 = .ok (.invokespecial 65, 3) := dk_183 0 65 (dk_at dksJ34_rangeCheck_1 20 rfl rfl)
theorem dJ34_rangeCheck_45 : decode cJ34_rangeCheck 45 = .ok (.athrow, 1) := dk_191 (dk_at dksJ34_rangeCheck_1 23 rfl rfl)
theorem dJ34_rangeCheck_46 : decode cJ34_rangeCheck 46 = .ok (.iload_n 1, 1) := dk_27 (dk_at dksJ34_rangeCheck_2 0 rfl rfl)
theorem dJ34_rangeCheck_47 : decode cJ34_rangeCheck 47 = .ok (.ifCond .ge 12, 3) := dk_156 0 12 (dk_at dksJ34_rangeCheck_2 1 rfl rfl)
theorem dJ34_rangeCheck_50 : decode cJ34_rangeCheck 50 = .ok (.new 68, 3) := dk_187 0 68 (dk_at dksJ34_rangeCheck_2 4 rfl rfl)
theorem dJ34_rangeCheck_53 : decode cJ34_rangeCheck 53 = .ok (.dup, 1) := dk_89 (dk_at dksJ34_rangeCheck_2 7 rfl rfl)
theorem dJ34_rangeCheck_54 : decode cJ34_rangeCheck 54 = .ok (.iload_n 1, 1) := dk_27 (dk_at dksJ34_rangeCheck_2 8 rfl rfl)
theorem dJ34_rangeCheck_55 : decode cJ34_rangeCheck 55 = .ok (.invokespecial 70, 3) := dk_183 0 70 (dk_at dksJ34_rangeCheck_2 9 rfl rfl)
theorem dJ34_rangeCheck_58 : decode cJ34_rangeCheck 58 = .ok (.athrow, 1) := dk_191 (dk_at dksJ34_rangeCheck_2 12 rfl rfl)
theorem dJ34_rangeCheck_59 : decode cJ34_rangeCheck 59 = .ok (.iload_n 2, 1) := dk_28 (dk_at dksJ34_rangeCheck_2 13 rfl rfl)
theorem dJ34_rangeCheck_60 : decode cJ34_rangeCheck 60 = .ok (.iload_n 0, 1) := dk_26 (dk_at dksJ34_rangeCheck_2 14 rfl rfl)
theorem dJ34_rangeCheck_61 : decode cJ34_rangeCheck 61 = .ok (.if_icmp .le 12, 3) := dk_164 0 12 (dk_at dksJ34_rangeCheck_2 15 rfl rfl)
theorem dJ34_rangeCheck_64 : decode cJ34_rangeCheck 64 = .ok (.new 68, 3) := dk_187 0 68 (dk_at dksJ34_rangeCheck_2 18 rfl rfl)
theorem dJ34_rangeCheck_67 : decode cJ34_rangeCheck 67 = .ok (.dup, 1) := dk_89 (dk_at dksJ34_rangeCheck_2 21 rfl rfl)
theorem dJ34_rangeCheck_68 : decode cJ34_rangeCheck 68 = .ok (.iload_n 2, 1) := dk_28 (dk_at dksJ34_rangeCheck_2 22 rfl rfl)
theorem dJ34_rangeCheck_69 : decode cJ34_rangeCheck 69 = .ok (.invokespecial 70, 3) := dk_183 0 70 (dk_at dksJ34_rangeCheck_3 0 rfl rfl)
theorem dJ34_rangeCheck_72 : decode cJ34_rangeCheck 72 = .ok (.athrow, 1) := dk_191 (dk_at dksJ34_rangeCheck_3 3 rfl rfl)
theorem dJ34_rangeCheck_73 : decode cJ34_rangeCheck 73 = .ok (.return_, 1) := dk_177 (dk_at dksJ34_rangeCheck_3 4 rfl rfl)
abbrev cJ34_copyOf_2 : ByteArray := prog_43_method_119_code
def yJ34_copyOf_2 : MethodName := ⟨RJ34, "copyOf", "([Ljava/lang/Object;I)[Ljava/lang/Object;"⟩
def dkwJ34_copyOf_2_0 : List UInt8 := [42, 27, 42, 182, 0, 86, 184, 1, 44, 176]
abbrev dktJ34_copyOf_2_0 : List UInt8 := dkwJ34_copyOf_2_0 ++ []
theorem dksJ34_copyOf_2_0 : cJ34_copyOf_2.data.toList.drop 0 = dktJ34_copyOf_2_0 := by decide +kernel
theorem dJ34_copyOf_2_0 : decode cJ34_copyOf_2 0 = .ok (.aload_n 0, 1) := dk_42 (dk_at dksJ34_copyOf_2_0 0 rfl rfl)
theorem dJ34_copyOf_2_1 : decode cJ34_copyOf_2 1 = .ok (.iload_n 1, 1) := dk_27 (dk_at dksJ34_copyOf_2_0 1 rfl rfl)
theorem dJ34_copyOf_2_2 : decode cJ34_copyOf_2 2 = .ok (.aload_n 0, 1) := dk_42 (dk_at dksJ34_copyOf_2_0 2 rfl rfl)
theorem dJ34_copyOf_2_3 : decode cJ34_copyOf_2 3 = .ok (.invokevirtual 86, 3) := dk_182 0 86 (dk_at dksJ34_copyOf_2_0 3 rfl rfl)
theorem dJ34_copyOf_2_6 : decode cJ34_copyOf_2 6 = .ok (.invokestatic 300, 3) := dk_184 1 44 (dk_at dksJ34_copyOf_2_0 6 rfl rfl)
theorem dJ34_copyOf_2_9 : decode cJ34_copyOf_2 9 = .ok (.areturn, 1) := dk_176 (dk_at dksJ34_copyOf_2_0 9 rfl rfl)
abbrev cJ34_copyOf_3 : ByteArray := prog_43_method_120_code
def yJ34_copyOf_3 : MethodName := ⟨RJ34, "copyOf", "([Ljava/lang/Object;ILjava/lang/Class;)[Ljava/lang/Object;"⟩
def dkwJ34_copyOf_3_1 : List UInt8 := [78, 42, 3, 45, 3, 42, 190, 27, 184, 1, 48, 184, 0, 150, 45, 176]
abbrev dktJ34_copyOf_3_1 : List UInt8 := dkwJ34_copyOf_3_1 ++ []
def dkwJ34_copyOf_3_0 : List UInt8 := [44, 18, 110, 166, 0, 10, 27, 189, 0, 2, 167, 0, 14, 44, 182, 0, 90, 27, 184, 0, 95, 192, 0, 110]
abbrev dktJ34_copyOf_3_0 : List UInt8 := dkwJ34_copyOf_3_0 ++ dktJ34_copyOf_3_1
theorem dksJ34_copyOf_3_0 : cJ34_copyOf_3.data.toList.drop 0 = dktJ34_copyOf_3_0 := by decide +kernel
theorem dksJ34_copyOf_3_1 : cJ34_copyOf_3.data.toList.drop 24 = dktJ34_copyOf_3_1 := dk_seg dksJ34_copyOf_3_0 24 rfl rfl
theorem dJ34_copyOf_3_0 : decode cJ34_copyOf_3 0 = .ok (.aload_n 2, 1) := dk_44 (dk_at dksJ34_copyOf_3_0 0 rfl rfl)
theorem dJ34_copyOf_3_1 : decode cJ34_copyOf_3 1 = .ok (.ldc 110, 2) := dk_18 110 (dk_at dksJ34_copyOf_3_0 1 rfl rfl)
theorem dJ34_copyOf_3_3 : decode cJ34_copyOf_3 3 = .ok (.if_acmp .ne 10, 3) := dk_166 0 10 (dk_at dksJ34_copyOf_3_0 3 rfl rfl)
theorem dJ34_copyOf_3_6 : decode cJ34_copyOf_3 6 = .ok (.iload_n 1, 1) := dk_27 (dk_at dksJ34_copyOf_3_0 6 rfl rfl)
theorem dJ34_copyOf_3_7 : decode cJ34_copyOf_3 7 = .ok (.anewarray 2, 3) := dk_189 0 2 (dk_at dksJ34_copyOf_3_0 7 rfl rfl)
theorem dJ34_copyOf_3_10 : decode cJ34_copyOf_3 10 = .ok (.goto 14, 3) := dk_167 0 14 (dk_at dksJ34_copyOf_3_0 10 rfl rfl)
theorem dJ34_copyOf_3_13 : decode cJ34_copyOf_3 13 = .ok (.aload_n 2, 1) := dk_44 (dk_at dksJ34_copyOf_3_0 13 rfl rfl)
theorem dJ34_copyOf_3_14 : decode cJ34_copyOf_3 14 = .ok (.invokevirtual 90, 3) := dk_182 0 90 (dk_at dksJ34_copyOf_3_0 14 rfl rfl)
theorem dJ34_copyOf_3_17 : decode cJ34_copyOf_3 17 = .ok (.iload_n 1, 1) := dk_27 (dk_at dksJ34_copyOf_3_0 17 rfl rfl)
theorem dJ34_copyOf_3_18 : decode cJ34_copyOf_3 18 = .ok (.invokestatic 95, 3) := dk_184 0 95 (dk_at dksJ34_copyOf_3_0 18 rfl rfl)
theorem dJ34_copyOf_3_21 : decode cJ34_copyOf_3 21 = .ok (.checkcast 110, 3) := dk_192 0 110 (dk_at dksJ34_copyOf_3_0 21 rfl rfl)
theorem dJ34_copyOf_3_24 : decode cJ34_copyOf_3 24 = .ok (.astore_n 3, 1) := dk_78 (dk_at dksJ34_copyOf_3_1 0 rfl rfl)
theorem dJ34_copyOf_3_25 : decode cJ34_copyOf_3 25 = .ok (.aload_n 0, 1) := dk_42 (dk_at dksJ34_copyOf_3_1 1 rfl rfl)
theorem dJ34_copyOf_3_26 : decode cJ34_copyOf_3 26 = .ok (.iconst 0, 1) := dk_3 (dk_at dksJ34_copyOf_3_1 2 rfl rfl)
theorem dJ34_copyOf_3_27 : decode cJ34_copyOf_3 27 = .ok (.aload_n 3, 1) := dk_45 (dk_at dksJ34_copyOf_3_1 3 rfl rfl)
theorem dJ34_copyOf_3_28 : decode cJ34_copyOf_3 28 = .ok (.iconst 0, 1) := dk_3 (dk_at dksJ34_copyOf_3_1 4 rfl rfl)
theorem dJ34_copyOf_3_29 : decode cJ34_copyOf_3 29 = .ok (.aload_n 0, 1) := dk_42 (dk_at dksJ34_copyOf_3_1 5 rfl rfl)
theorem dJ34_copyOf_3_30 : decode cJ34_copyOf_3 30 = .ok (.arraylength, 1) := dk_190 (dk_at dksJ34_copyOf_3_1 6 rfl rfl)
theorem dJ34_copyOf_3_31 : decode cJ34_copyOf_3 31 = .ok (.iload_n 1, 1) := dk_27 (dk_at dksJ34_copyOf_3_1 7 rfl rfl)
theorem dJ34_copyOf_3_32 : decode cJ34_copyOf_3 32 = .ok (.invokestatic 304, 3) := dk_184 1 48 (dk_at dksJ34_copyOf_3_1 8 rfl rfl)
theorem dJ34_copyOf_3_35 : decode cJ34_copyOf_3 35 = .ok (.invokestatic 150, 3) := dk_184 0 150 (dk_at dksJ34_copyOf_3_1 11 rfl rfl)
theorem dJ34_copyOf_3_38 : decode cJ34_copyOf_3 38 = .ok (.aload_n 3, 1) := dk_45 (dk_at dksJ34_copyOf_3_1 14 rfl rfl)
theorem dJ34_copyOf_3_39 : decode cJ34_copyOf_3 39 = .ok (.areturn, 1) := dk_176 (dk_at dksJ34_copyOf_3_1 15 rfl rfl)
theorem q134 : (Jvm.Cond.initialized "java/util/Arrays") ∈ lw_all := lw_g (lw_at lw_m1 42 rfl) rfl
theorem q582 : (Jvm.Cond.static ({ cls := "java/util/Arrays", name := "copyOf", desc := "([BI)[B" } : Jvm.MethodName)) ∈ lw_all := lw_g (lw_at lw_m3 10 rfl) rfl
theorem q583 : (Jvm.Cond.code ({ cls := "java/util/Arrays", name := "copyOf", desc := "([BI)[B" } : Jvm.MethodName) prog_43_method_121_code (3 : Nat) (Option.some (Jvm.ClassFile.FieldType.array Jvm.ClassFile.FieldType.byte))) ∈ lw_all := lw_g (lw_at lw_m3 11 rfl) rfl
theorem q584 : (Jvm.Cond.methodLink "java/util/Arrays" (310 : Nat) ({ cls := "[B", name := "clone", desc := "()Ljava/lang/Object;" } : Jvm.MethodName)) ∈ lw_all := lw_g (lw_at lw_m3 12 rfl) rfl
theorem q590 : (Jvm.Cond.classLink "java/util/Arrays" (311 : Nat) "[B") ∈ lw_all := lw_g (lw_at lw_m3 18 rfl) rfl
theorem q591 : (Jvm.Cond.methodLink "java/util/Arrays" (304 : Nat) ({ cls := "java/lang/Math", name := "min", desc := "(II)I" } : Jvm.MethodName)) ∈ lw_all := lw_g (lw_at lw_m3 19 rfl) rfl
theorem q594 : (Jvm.Cond.methodLink "java/util/Arrays" (150 : Nat) ({ cls := "java/lang/System", name := "arraycopy", desc := "(Ljava/lang/Object;ILjava/lang/Object;II)V" } : Jvm.MethodName)) ∈ lw_all := lw_g (lw_at lw_m3 22 rfl) rfl
theorem q717 : (Jvm.Cond.static ({ cls := "java/util/Arrays", name := "copyOfRange", desc := "([BII)[B" } : Jvm.MethodName)) ∈ lw_all := lw_g (lw_at lw_m3 145 rfl) rfl
theorem q718 : (Jvm.Cond.code ({ cls := "java/util/Arrays", name := "copyOfRange", desc := "([BII)[B" } : Jvm.MethodName) prog_43_method_132_code (3 : Nat) (Option.some (Jvm.ClassFile.FieldType.array Jvm.ClassFile.FieldType.byte))) ∈ lw_all := lw_g (lw_at lw_m3 146 rfl) rfl
theorem q719 : (Jvm.Cond.methodLink "java/util/Arrays" (339 : Nat) ({ cls := "java/util/Arrays", name := "copyOfRangeByte", desc := "([BII)[B" } : Jvm.MethodName)) ∈ lw_all := lw_g (lw_at lw_m3 147 rfl) rfl
theorem q720 : (Jvm.Cond.static ({ cls := "java/util/Arrays", name := "copyOfRangeByte", desc := "([BII)[B" } : Jvm.MethodName)) ∈ lw_all := lw_g (lw_at lw_m3 148 rfl) rfl
theorem q721 : (Jvm.Cond.code ({ cls := "java/util/Arrays", name := "copyOfRangeByte", desc := "([BII)[B" } : Jvm.MethodName) prog_43_method_133_code (5 : Nat) (Option.some (Jvm.ClassFile.FieldType.array Jvm.ClassFile.FieldType.byte))) ∈ lw_all := lw_g (lw_at lw_m3 149 rfl) rfl
theorem q722 : (Jvm.Cond.methodLink "java/util/Arrays" (343 : Nat) ({ cls := "java/util/Arrays", name := "checkLength", desc := "(II)V" } : Jvm.MethodName)) ∈ lw_all := lw_g (lw_at lw_m3 150 rfl) rfl
theorem q723 : (Jvm.Cond.static ({ cls := "java/util/Arrays", name := "checkLength", desc := "(II)V" } : Jvm.MethodName)) ∈ lw_all := lw_g (lw_at lw_m3 151 rfl) rfl
theorem q724 : (Jvm.Cond.code ({ cls := "java/util/Arrays", name := "checkLength", desc := "(II)V" } : Jvm.MethodName) prog_43_method_131_code (2 : Nat) (Option.none : Option Jvm.ClassFile.FieldType)) ∈ lw_all := lw_g (lw_at lw_m3 152 rfl) rfl
theorem q725 : (Jvm.Cond.classLink "java/util/Arrays" (43 : Nat) "java/lang/IllegalArgumentException") ∈ lw_all := lw_g (lw_at lw_m3 153 rfl) rfl
theorem q726 : (Jvm.Cond.classLink "java/util/Arrays" (45 : Nat) "java/lang/StringBuilder") ∈ lw_all := lw_g (lw_at lw_m3 154 rfl) rfl
theorem q727 : (Jvm.Cond.methodLink "java/util/Arrays" (47 : Nat) ({ cls := "java/lang/StringBuilder", name := "<init>", desc := "()V" } : Jvm.MethodName)) ∈ lw_all := lw_g (lw_at lw_m3 155 rfl) rfl
theorem q728 : (Jvm.Cond.methodLink "java/util/Arrays" (54 : Nat) ({ cls := "java/lang/StringBuilder", name := "append", desc := "(I)Ljava/lang/StringBuilder;" } : Jvm.MethodName)) ∈ lw_all := lw_g (lw_at lw_m3 156 rfl) rfl
theorem q729 : (Jvm.Cond.stringRef "java/util/Arrays" (337 : Nat) " > ") ∈ lw_tbl := lw_at lw_m3 157 rfl
theorem q730 : (Jvm.Cond.methodLink "java/util/Arrays" (50 : Nat) ({ cls := "java/lang/StringBuilder", name := "append", desc := "(Ljava/lang/String;)Ljava/lang/StringBuilder;" } : Jvm.MethodName)) ∈ lw_all := lw_g (lw_at lw_m3 158 rfl) rfl
theorem q731 : (Jvm.Cond.methodLink "java/util/Arrays" (61 : Nat) ({ cls := "java/lang/StringBuilder", name := "toString", desc := "()Ljava/lang/String;" } : Jvm.MethodName)) ∈ lw_all := lw_g (lw_at lw_m3 159 rfl) rfl
theorem q732 : (Jvm.Cond.methodLink "java/util/Arrays" (65 : Nat) ({ cls := "java/lang/IllegalArgumentException", name := "<init>", desc := "(Ljava/lang/String;)V" } : Jvm.MethodName)) ∈ lw_all := lw_g (lw_at lw_m3 160 rfl) rfl
theorem q783 : (Jvm.Cond.static ({ cls := "java/util/Arrays", name := "fill", desc := "([BIIB)V" } : Jvm.MethodName)) ∈ lw_all := lw_g (lw_at lw_m3 211 rfl) rfl
theorem q784 : (Jvm.Cond.code ({ cls := "java/util/Arrays", name := "fill", desc := "([BIIB)V" } : Jvm.MethodName) prog_43_method_110_code (5 : Nat) (Option.none : Option Jvm.ClassFile.FieldType)) ∈ lw_all := lw_g (lw_at lw_m3 212 rfl) rfl
theorem q785 : (Jvm.Cond.methodLink "java/util/Arrays" (13 : Nat) ({ cls := "java/util/Arrays", name := "rangeCheck", desc := "(III)V" } : Jvm.MethodName)) ∈ lw_all := lw_g (lw_at lw_m3 213 rfl) rfl
theorem q786 : (Jvm.Cond.static ({ cls := "java/util/Arrays", name := "rangeCheck", desc := "(III)V" } : Jvm.MethodName)) ∈ lw_all := lw_g (lw_at lw_m3 214 rfl) rfl
theorem q787 : (Jvm.Cond.code ({ cls := "java/util/Arrays", name := "rangeCheck", desc := "(III)V" } : Jvm.MethodName) prog_43_method_30_code (3 : Nat) (Option.none : Option Jvm.ClassFile.FieldType)) ∈ lw_all := lw_g (lw_at lw_m3 215 rfl) rfl
theorem q788 : (Jvm.Cond.stringRef "java/util/Arrays" (48 : Nat) "fromIndex(") ∈ lw_tbl := lw_at lw_m3 216 rfl
theorem q789 : (Jvm.Cond.stringRef "java/util/Arrays" (57 : Nat) ") > toIndex(") ∈ lw_tbl := lw_at lw_m3 217 rfl
theorem q790 : (Jvm.Cond.stringRef "java/util/Arrays" (59 : Nat) ")") ∈ lw_tbl := lw_at lw_m3 218 rfl
theorem q791 : (Jvm.Cond.classLink "java/util/Arrays" (68 : Nat) "java/lang/ArrayIndexOutOfBoundsException") ∈ lw_all := lw_g (lw_at lw_m3 219 rfl) rfl
theorem q802 : (Jvm.Cond.methodLink "java/util/Arrays" (70 : Nat) ({ cls := "java/lang/ArrayIndexOutOfBoundsException", name := "<init>", desc := "(I)V" } : Jvm.MethodName)) ∈ lw_all := lw_g (lw_at lw_m3 230 rfl) rfl
theorem q1544 : (Jvm.Cond.static ({ cls := "java/util/Arrays", name := "copyOf", desc := "([Ljava/lang/Object;I)[Ljava/lang/Object;" } : Jvm.MethodName)) ∈ lw_all := lw_g (lw_at lw_m7 12 rfl) rfl
theorem q1545 : (Jvm.Cond.code ({ cls := "java/util/Arrays", name := "copyOf", desc := "([Ljava/lang/Object;I)[Ljava/lang/Object;" } : Jvm.MethodName) prog_43_method_119_code (2 : Nat) (Option.some (Jvm.ClassFile.FieldType.array (Jvm.ClassFile.FieldType.object "java/lang/Object")))) ∈ lw_all := lw_g (lw_at lw_m7 13 rfl) rfl
theorem q1546 : (Jvm.Cond.methodLink "java/util/Arrays" (86 : Nat) ({ cls := "java/lang/Object", name := "getClass", desc := "()Ljava/lang/Class;" } : Jvm.MethodName)) ∈ lw_all := lw_g (lw_at lw_m7 14 rfl) rfl
theorem q1575 : (Jvm.Cond.methodLink "java/util/Arrays" (300 : Nat) ({ cls := "java/util/Arrays", name := "copyOf", desc := "([Ljava/lang/Object;ILjava/lang/Class;)[Ljava/lang/Object;" } : Jvm.MethodName)) ∈ lw_all := lw_g (lw_at lw_m7 43 rfl) rfl
theorem q1576 : (Jvm.Cond.static ({ cls := "java/util/Arrays", name := "copyOf", desc := "([Ljava/lang/Object;ILjava/lang/Class;)[Ljava/lang/Object;" } : Jvm.MethodName)) ∈ lw_all := lw_g (lw_at lw_m7 44 rfl) rfl
theorem q1577 : (Jvm.Cond.code ({ cls := "java/util/Arrays", name := "copyOf", desc := "([Ljava/lang/Object;ILjava/lang/Class;)[Ljava/lang/Object;" } : Jvm.MethodName) prog_43_method_120_code (4 : Nat) (Option.some (Jvm.ClassFile.FieldType.array (Jvm.ClassFile.FieldType.object "java/lang/Object")))) ∈ lw_all := lw_g (lw_at lw_m7 45 rfl) rfl
theorem q1578 : (Jvm.Cond.classLink "java/util/Arrays" (110 : Nat) "[Ljava/lang/Object;") ∈ lw_all := lw_g (lw_at lw_m7 46 rfl) rfl
theorem q1579 : (Jvm.Cond.classLink "java/util/Arrays" (2 : Nat) "java/lang/Object") ∈ lw_all := lw_g (lw_at lw_m7 47 rfl) rfl
/-! java/util/TreeMap$EntrySet -/
set_option maxRecDepth 100000
def RJ35 : String := "java/util/TreeMap$EntrySet"
theorem q137 : (Jvm.Cond.initialized "java/util/TreeMap$EntrySet") ∈ lw_all := lw_g (lw_at lw_m1 45 rfl) rfl
theorem q994 : (Jvm.Cond.castable "java/util/TreeMap$EntrySet" "java/util/Set") ∈ lw_tbl := lw_at lw_m4 182 rfl
theorem q995 : (Jvm.Cond.selects "java/util/TreeMap$EntrySet" ({ cls := "java/util/Set", name := "iterator", desc := "()Ljava/util/Iterator;" } : Jvm.MethodName) ({ cls := "java/util/TreeMap$EntrySet", name := "iterator", desc := "()Ljava/util/Iterator;" } : Jvm.MethodName)) ∈ lw_all := lw_g (lw_at lw_m4 183 rfl) rfl
theorem q996 : (Jvm.Cond.unhidden "java/util/TreeMap$EntrySet" "iterator" "()Ljava/util/Iterator;") ∈ lw_tbl := lw_at lw_m4 184 rfl
theorem q997 : (Jvm.Cond.instanceMethod ({ cls := "java/util/TreeMap$EntrySet", name := "iterator", desc := "()Ljava/util/Iterator;" } : Jvm.MethodName)) ∈ lw_all := lw_g (lw_at lw_m4 185 rfl) rfl
theorem q998 : (Jvm.Cond.publicMethod ({ cls := "java/util/TreeMap$EntrySet", name := "iterator", desc := "()Ljava/util/Iterator;" } : Jvm.MethodName)) ∈ lw_tbl := lw_at lw_m4 186 rfl
theorem q999 : (Jvm.Cond.code ({ cls := "java/util/TreeMap$EntrySet", name := "iterator", desc := "()Ljava/util/Iterator;" } : Jvm.MethodName) prog_65_method_2_code (1 : Nat) (Option.some (Jvm.ClassFile.FieldType.object "java/util/Iterator"))) ∈ lw_all := lw_g (lw_at lw_m4 187 rfl) rfl
theorem q1000 : (Jvm.Cond.classLink "java/util/TreeMap$EntrySet" (13 : Nat) "java/util/TreeMap$EntryIterator") ∈ lw_all := lw_g (lw_at lw_m4 188 rfl) rfl
theorem q1002 : (Jvm.Cond.methodLink "java/util/TreeMap$EntrySet" (15 : Nat) ({ cls := "java/util/TreeMap", name := "getFirstEntry", desc := "()Ljava/util/TreeMap$Entry;" } : Jvm.MethodName)) ∈ lw_all := lw_g (lw_at lw_m4 190 rfl) rfl
theorem q1006 : (Jvm.Cond.methodLink "java/util/TreeMap$EntrySet" (21 : Nat) ({ cls := "java/util/TreeMap$EntryIterator", name := "<init>", desc := "(Ljava/util/TreeMap;Ljava/util/TreeMap$Entry;)V" } : Jvm.MethodName)) ∈ lw_all := lw_g (lw_at lw_m4 194 rfl) rfl
theorem q1569 : (Jvm.Cond.selects "java/util/TreeMap$EntrySet" ({ cls := "java/lang/Object", name := "getClass", desc := "()Ljava/lang/Class;" } : Jvm.MethodName) ({ cls := "java/lang/Object", name := "getClass", desc := "()Ljava/lang/Class;" } : Jvm.MethodName)) ∈ lw_all := lw_g (lw_at lw_m7 37 rfl) rfl
theorem q1608 : (Jvm.Cond.selects "java/util/TreeMap$EntrySet" ({ cls := "java/util/AbstractCollection", name := "size", desc := "()I" } : Jvm.MethodName) ({ cls := "java/util/TreeMap$EntrySet", name := "size", desc := "()I" } : Jvm.MethodName)) ∈ lw_all := lw_g (lw_at lw_m7 76 rfl) rfl
theorem q1609 : (Jvm.Cond.instanceMethod ({ cls := "java/util/TreeMap$EntrySet", name := "size", desc := "()I" } : Jvm.MethodName)) ∈ lw_all := lw_g (lw_at lw_m7 77 rfl) rfl
theorem q1610 : (Jvm.Cond.code ({ cls := "java/util/TreeMap$EntrySet", name := "size", desc := "()I" } : Jvm.MethodName) prog_65_method_5_code (1 : Nat) (Option.some Jvm.ClassFile.FieldType.int)) ∈ lw_all := lw_g (lw_at lw_m7 78 rfl) rfl
theorem q1611 : (Jvm.Cond.methodLink "java/util/TreeMap$EntrySet" (48 : Nat) ({ cls := "java/util/TreeMap", name := "size", desc := "()I" } : Jvm.MethodName)) ∈ lw_all := lw_g (lw_at lw_m7 79 rfl) rfl
theorem q2552 : (Jvm.Cond.castable "java/util/TreeMap$EntrySet" "java/lang/Object") ∈ lw_tbl := lw_at lw_m11 60 rfl
theorem q2568 : (Jvm.Cond.fieldLink "java/util/TreeMap$EntrySet" (1 : Nat) "java/util/TreeMap$EntrySet" "this$0" "Ljava/util/TreeMap;") ∈ lw_all := lw_g (lw_at lw_m11 76 rfl) rfl
/-! java/lang/StringIndexOutOfBoundsException -/
set_option maxRecDepth 100000
def RJ36 : String := "java/lang/StringIndexOutOfBoundsException"
def TJ36 : u_T := fun k => match k with
  | 0 => ("java/lang/Throwable", "backtrace", "Ljava/lang/Object;", false)
  | 1 => ("java/lang/Throwable", "detailMessage", "Ljava/lang/String;", false)
  | 2 => ("java/lang/Throwable", "cause", "Ljava/lang/Throwable;", false)
  | 3 => ("java/lang/Throwable", "stackTrace", "[Ljava/lang/StackTraceElement;", false)
  | 4 => ("java/lang/Throwable", "depth", "I", false)
  | _ => ("java/lang/Throwable", "suppressedExceptions", "Ljava/util/List;", false)
def tyJ36 : Nat → FieldType := fun k => match k with
  | 0 => .object "java/lang/Object"
  | 1 => .object "java/lang/String"
  | 2 => .object "java/lang/Throwable"
  | 3 => .array (.object "java/lang/StackTraceElement")
  | 4 => .int
  | _ => .object "java/util/List"
abbrev wsJ360 : List Cond := u_ws RJ36 TJ36 6
theorem nmJ36 : ∀ a, a < 6 → ∀ b, b < 6 → a ≠ b → (TJ36 a).2.1 ≠ (TJ36 b).2.1 := by decide +kernel
theorem tyJ36_ok : ∀ k, k < 6 → parseFieldDescriptor (TJ36 k).2.2.1 = some (tyJ36 k) := by decide +kernel
theorem q138 : (Jvm.Cond.initialized "java/lang/StringIndexOutOfBoundsException") ∈ lw_all := lw_g (lw_at lw_m1 46 rfl) rfl
theorem q210 : (Jvm.Cond.selects "java/lang/StringIndexOutOfBoundsException" ({ cls := "java/lang/Throwable", name := "fillInStackTrace", desc := "()Ljava/lang/Throwable;" } : Jvm.MethodName) ({ cls := "java/lang/Throwable", name := "fillInStackTrace", desc := "()Ljava/lang/Throwable;" } : Jvm.MethodName)) ∈ lw_all := lw_g (lw_at lw_m1 118 rfl) rfl
theorem q542 : (Jvm.Cond.instantiable "java/lang/StringIndexOutOfBoundsException" (6 : Nat)) ∈ lw_all := lw_g (lw_at lw_m2 210 rfl) rfl
theorem q544 : (Jvm.Cond.instanceMethod ({ cls := "java/lang/StringIndexOutOfBoundsException", name := "<init>", desc := "(I)V" } : Jvm.MethodName)) ∈ lw_all := lw_g (lw_at lw_m2 212 rfl) rfl
theorem q545 : (Jvm.Cond.code ({ cls := "java/lang/StringIndexOutOfBoundsException", name := "<init>", desc := "(I)V" } : Jvm.MethodName) prog_30_method_3_code (2 : Nat) (Option.none : Option Jvm.ClassFile.FieldType)) ∈ lw_all := lw_g (lw_at lw_m2 213 rfl) rfl
theorem q546 : (Jvm.Cond.classLink "java/lang/StringIndexOutOfBoundsException" (10 : Nat) "java/lang/StringBuilder") ∈ lw_all := lw_g (lw_at lw_m2 214 rfl) rfl
theorem q547 : (Jvm.Cond.methodLink "java/lang/StringIndexOutOfBoundsException" (12 : Nat) ({ cls := "java/lang/StringBuilder", name := "<init>", desc := "()V" } : Jvm.MethodName)) ∈ lw_all := lw_g (lw_at lw_m2 215 rfl) rfl
theorem q550 : (Jvm.Cond.stringRef "java/lang/StringIndexOutOfBoundsException" (13 : Nat) "String index out of range: ") ∈ lw_tbl := lw_at lw_m2 218 rfl
theorem q551 : (Jvm.Cond.methodLink "java/lang/StringIndexOutOfBoundsException" (15 : Nat) ({ cls := "java/lang/StringBuilder", name := "append", desc := "(Ljava/lang/String;)Ljava/lang/StringBuilder;" } : Jvm.MethodName)) ∈ lw_all := lw_g (lw_at lw_m2 219 rfl) rfl
theorem q671 : (Jvm.Cond.methodLink "java/lang/StringIndexOutOfBoundsException" (19 : Nat) ({ cls := "java/lang/StringBuilder", name := "append", desc := "(I)Ljava/lang/StringBuilder;" } : Jvm.MethodName)) ∈ lw_all := lw_g (lw_at lw_m3 99 rfl) rfl
theorem q696 : (Jvm.Cond.methodLink "java/lang/StringIndexOutOfBoundsException" (22 : Nat) ({ cls := "java/lang/StringBuilder", name := "toString", desc := "()Ljava/lang/String;" } : Jvm.MethodName)) ∈ lw_all := lw_g (lw_at lw_m3 124 rfl) rfl
theorem q768 : (Jvm.Cond.methodLink "java/lang/StringIndexOutOfBoundsException" (7 : Nat) ({ cls := "java/lang/IndexOutOfBoundsException", name := "<init>", desc := "(Ljava/lang/String;)V" } : Jvm.MethodName)) ∈ lw_all := lw_g (lw_at lw_m3 196 rfl) rfl
theorem q772 : (Jvm.Cond.lays "java/lang/StringIndexOutOfBoundsException" "java/lang/Throwable" "backtrace" "Ljava/lang/Object;") ∈ lw_all := lw_g (lw_at lw_m3 200 rfl) rfl
theorem q773 : (Jvm.Cond.lays "java/lang/StringIndexOutOfBoundsException" "java/lang/Throwable" "detailMessage" "Ljava/lang/String;") ∈ lw_all := lw_g (lw_at lw_m3 201 rfl) rfl
theorem q774 : (Jvm.Cond.lays "java/lang/StringIndexOutOfBoundsException" "java/lang/Throwable" "cause" "Ljava/lang/Throwable;") ∈ lw_all := lw_g (lw_at lw_m3 202 rfl) rfl
theorem q775 : (Jvm.Cond.lays "java/lang/StringIndexOutOfBoundsException" "java/lang/Throwable" "stackTrace" "[Ljava/lang/StackTraceElement;") ∈ lw_all := lw_g (lw_at lw_m3 203 rfl) rfl
theorem q776 : (Jvm.Cond.lays "java/lang/StringIndexOutOfBoundsException" "java/lang/Throwable" "depth" "I") ∈ lw_all := lw_g (lw_at lw_m3 204 rfl) rfl
theorem q777 : (Jvm.Cond.lays "java/lang/StringIndexOutOfBoundsException" "java/lang/Throwable" "suppressedExceptions" "Ljava/util/List;") ∈ lw_all := lw_g (lw_at lw_m3 205 rfl) rfl
theorem q778 : (Jvm.Cond.superclass "java/lang/StringIndexOutOfBoundsException" "java/lang/IndexOutOfBoundsException") ∈ lw_all := lw_g (lw_at lw_m3 206 rfl) rfl
theorem q1563 : (Jvm.Cond.selects "java/lang/StringIndexOutOfBoundsException" ({ cls := "java/lang/Object", name := "getClass", desc := "()Ljava/lang/Class;" } : Jvm.MethodName) ({ cls := "java/lang/Object", name := "getClass", desc := "()Ljava/lang/Class;" } : Jvm.MethodName)) ∈ lw_all := lw_g (lw_at lw_m7 31 rfl) rfl
theorem q2531 : (Jvm.Cond.castable "java/lang/StringIndexOutOfBoundsException" "java/lang/IndexOutOfBoundsException") ∈ lw_tbl := lw_at lw_m11 39 rfl
theorem q2553 : (Jvm.Cond.castable "java/lang/StringIndexOutOfBoundsException" "java/lang/Object") ∈ lw_tbl := lw_at lw_m11 61 rfl
theorem in_J36 : ∀ w ∈ wsJ360, w ∈ lw_all := lw_in wsJ360 [772, 773, 774, 775, 776, 777] (by decide +kernel) (by decide +kernel)
/-! java/lang/Double -/
set_option maxRecDepth 100000
def RJ37 : String := "java/lang/Double"
abbrev cJ37_doubleToLongBits : ByteArray := prog_16_method_23_code
def yJ37_doubleToLongBits : MethodName := ⟨RJ37, "doubleToLongBits", "(D)J"⟩
def dkwJ37_doubleToLongBits_0 : List UInt8 := [38, 184, 0, 122, 154, 0, 8, 38, 184, 0, 134, 173, 20, 0, 137, 173]
abbrev dktJ37_doubleToLongBits_0 : List UInt8 := dkwJ37_doubleToLongBits_0 ++ []
theorem dksJ37_doubleToLongBits_0 : cJ37_doubleToLongBits.data.toList.drop 0 = dktJ37_doubleToLongBits_0 := by decide +kernel
theorem dJ37_doubleToLongBits_0 : decode cJ37_doubleToLongBits 0 = .ok (.dload_n 0, 1) := dk_38 (dk_at dksJ37_doubleToLongBits_0 0 rfl rfl)
theorem dJ37_doubleToLongBits_1 : decode cJ37_doubleToLongBits 1 = .ok (.invokestatic 122, 3) := dk_184 0 122 (dk_at dksJ37_doubleToLongBits_0 1 rfl rfl)
theorem dJ37_doubleToLongBits_4 : decode cJ37_doubleToLongBits 4 = .ok (.ifCond .ne 8, 3) := dk_154 0 8 (dk_at dksJ37_doubleToLongBits_0 4 rfl rfl)
theorem dJ37_doubleToLongBits_7 : decode cJ37_doubleToLongBits 7 = .ok (.dload_n 0, 1) := dk_38 (dk_at dksJ37_doubleToLongBits_0 7 rfl rfl)
theorem dJ37_doubleToLongBits_8 : decode cJ37_doubleToLongBits 8 = .ok (.invokestatic 134, 3) := dk_184 0 134 (dk_at dksJ37_doubleToLongBits_0 8 rfl rfl)
theorem dJ37_doubleToLongBits_11 : decode cJ37_doubleToLongBits 11 = .ok (.lreturn, 1) := dk_173 (dk_at dksJ37_doubleToLongBits_0 11 rfl rfl)
theorem dJ37_doubleToLongBits_12 : decode cJ37_doubleToLongBits 12 = .ok (.ldc2_w 137, 3) := dk_20 0 137 (dk_at dksJ37_doubleToLongBits_0 12 rfl rfl)
theorem dJ37_doubleToLongBits_15 : decode cJ37_doubleToLongBits 15 = .ok (.lreturn, 1) := dk_173 (dk_at dksJ37_doubleToLongBits_0 15 rfl rfl)
abbrev cJ37_isNaN : ByteArray := prog_16_method_6_code
def yJ37_isNaN : MethodName := ⟨RJ37, "isNaN", "(D)Z"⟩
def dkwJ37_isNaN_0 : List UInt8 := [38, 38, 151, 153, 0, 7, 4, 167, 0, 4, 3, 172]
abbrev dktJ37_isNaN_0 : List UInt8 := dkwJ37_isNaN_0 ++ []
theorem dksJ37_isNaN_0 : cJ37_isNaN.data.toList.drop 0 = dktJ37_isNaN_0 := by decide +kernel
theorem dJ37_isNaN_0 : decode cJ37_isNaN 0 = .ok (.dload_n 0, 1) := dk_38 (dk_at dksJ37_isNaN_0 0 rfl rfl)
theorem dJ37_isNaN_1 : decode cJ37_isNaN 1 = .ok (.dload_n 0, 1) := dk_38 (dk_at dksJ37_isNaN_0 1 rfl rfl)
theorem dJ37_isNaN_2 : decode cJ37_isNaN 2 = .ok (.dcmp .l, 1) := dk_151 (dk_at dksJ37_isNaN_0 2 rfl rfl)
theorem dJ37_isNaN_3 : decode cJ37_isNaN 3 = .ok (.ifCond .eq 7, 3) := dk_153 0 7 (dk_at dksJ37_isNaN_0 3 rfl rfl)
theorem dJ37_isNaN_6 : decode cJ37_isNaN 6 = .ok (.iconst 1, 1) := dk_4 (dk_at dksJ37_isNaN_0 6 rfl rfl)
theorem dJ37_isNaN_7 : decode cJ37_isNaN 7 = .ok (.goto 4, 3) := dk_167 0 4 (dk_at dksJ37_isNaN_0 7 rfl rfl)
theorem dJ37_isNaN_10 : decode cJ37_isNaN 10 = .ok (.iconst 0, 1) := dk_3 (dk_at dksJ37_isNaN_0 10 rfl rfl)
theorem dJ37_isNaN_11 : decode cJ37_isNaN 11 = .ok (.ireturn, 1) := dk_172 (dk_at dksJ37_isNaN_0 11 rfl rfl)
theorem q140 : (Jvm.Cond.initialized "java/lang/Double") ∈ lw_all := lw_g (lw_at lw_m1 48 rfl) rfl
theorem q1792 : (Jvm.Cond.static ({ cls := "java/lang/Double", name := "doubleToLongBits", desc := "(D)J" } : Jvm.MethodName)) ∈ lw_all := lw_g (lw_at lw_m8 20 rfl) rfl
theorem q1793 : (Jvm.Cond.code ({ cls := "java/lang/Double", name := "doubleToLongBits", desc := "(D)J" } : Jvm.MethodName) prog_16_method_23_code (2 : Nat) (Option.some Jvm.ClassFile.FieldType.long)) ∈ lw_all := lw_g (lw_at lw_m8 21 rfl) rfl
theorem q1794 : (Jvm.Cond.methodLink "java/lang/Double" (122 : Nat) ({ cls := "java/lang/Double", name := "isNaN", desc := "(D)Z" } : Jvm.MethodName)) ∈ lw_all := lw_g (lw_at lw_m8 22 rfl) rfl
theorem q1795 : (Jvm.Cond.static ({ cls := "java/lang/Double", name := "isNaN", desc := "(D)Z" } : Jvm.MethodName)) ∈ lw_all := lw_g (lw_at lw_m8 23 rfl) rfl
theorem q1796 : (Jvm.Cond.code ({ cls := "java/lang/Double", name := "isNaN", desc := "(D)Z" } : Jvm.MethodName) prog_16_method_6_code (2 : Nat) (Option.some Jvm.ClassFile.FieldType.boolean)) ∈ lw_all := lw_g (lw_at lw_m8 24 rfl) rfl
theorem q1797 : (Jvm.Cond.methodLink "java/lang/Double" (134 : Nat) ({ cls := "java/lang/Double", name := "doubleToRawLongBits", desc := "(D)J" } : Jvm.MethodName)) ∈ lw_all := lw_g (lw_at lw_m8 25 rfl) rfl
theorem q1798 : (Jvm.Cond.static ({ cls := "java/lang/Double", name := "doubleToRawLongBits", desc := "(D)J" } : Jvm.MethodName)) ∈ lw_all := lw_g (lw_at lw_m8 26 rfl) rfl
theorem q1799 : (Jvm.Cond.native ({ cls := "java/lang/Double", name := "doubleToRawLongBits", desc := "(D)J" } : Jvm.MethodName)) ∈ lw_all := lw_g (lw_at lw_m8 27 rfl) rfl
theorem q1800 : (Jvm.Cond.constantLong "java/lang/Double" (137 : Nat) (9221120237041090560 : Int64)) ∈ lw_all := lw_g (lw_at lw_m8 28 rfl) rfl
/-! java/lang/Object -/
set_option maxRecDepth 100000
def RJ38 : String := "java/lang/Object"
abbrev cJ38_init : ByteArray := object_method_1_code
def yJ38_init : MethodName := ⟨RJ38, "<init>", "()V"⟩
theorem dJ38_init_0 : decode cJ38_init 0 = .ok (.return_, 1) := by decide +kernel
theorem q147 : (Jvm.Cond.instanceMethod ({ cls := "java/lang/Object", name := "<init>", desc := "()V" } : Jvm.MethodName)) ∈ lw_all := lw_g (lw_at lw_m1 55 rfl) rfl
theorem q148 : (Jvm.Cond.code ({ cls := "java/lang/Object", name := "<init>", desc := "()V" } : Jvm.MethodName) object_method_1_code (1 : Nat) (Option.none : Option Jvm.ClassFile.FieldType)) ∈ lw_all := lw_g (lw_at lw_m1 56 rfl) rfl
theorem q586 : (Jvm.Cond.native ({ cls := "java/lang/Object", name := "clone", desc := "()Ljava/lang/Object;" } : Jvm.MethodName)) ∈ lw_all := lw_g (lw_at lw_m3 14 rfl) rfl
theorem q587 : (Jvm.Cond.instanceMethod ({ cls := "java/lang/Object", name := "clone", desc := "()Ljava/lang/Object;" } : Jvm.MethodName)) ∈ lw_all := lw_g (lw_at lw_m3 15 rfl) rfl
theorem q1547 : (Jvm.Cond.instanceMethod ({ cls := "java/lang/Object", name := "getClass", desc := "()Ljava/lang/Class;" } : Jvm.MethodName)) ∈ lw_all := lw_g (lw_at lw_m7 15 rfl) rfl
theorem q1548 : (Jvm.Cond.sameMethod "java/lang/Object" "java/lang/Object" "getClass" "()Ljava/lang/Class;") ∈ lw_all := lw_g (lw_at lw_m7 16 rfl) rfl
theorem q1574 : (Jvm.Cond.native ({ cls := "java/lang/Object", name := "getClass", desc := "()Ljava/lang/Class;" } : Jvm.MethodName)) ∈ lw_all := lw_g (lw_at lw_m7 42 rfl) rfl
theorem q2529 : (Jvm.Cond.initialized "java/lang/Object") ∈ lw_all := lw_g (lw_at lw_m11 37 rfl) rfl
theorem q2560 : (Jvm.Cond.declares ({ cls := "java/lang/Object", name := "getClass", desc := "()Ljava/lang/Class;" } : Jvm.MethodName)) ∈ lw_tbl := lw_at lw_m11 68 rfl
