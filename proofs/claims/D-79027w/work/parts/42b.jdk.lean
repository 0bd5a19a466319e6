/-! java/util/List -/
set_option maxRecDepth 100000
def RJ0 : String := "java/util/List"
abbrev cJ0_of : ByteArray := prog_80_method_37_code
def yJ0_of : MethodName := ⟨RJ0, "of", "(Ljava/lang/Object;)Ljava/util/List;"⟩
def dkwJ0_of_0 : List UInt8 := [187, 0, 96, 89, 42, 183, 0, 98, 176]
abbrev dktJ0_of_0 : List UInt8 := dkwJ0_of_0 ++ []
theorem dksJ0_of_0 : cJ0_of.data.toList.drop 0 = dktJ0_of_0 := by decide +kernel
theorem dJ0_of_0 : decode cJ0_of 0 = .ok (.new 96, 3) := dk_187 0 96 (dk_at dksJ0_of_0 0 rfl rfl)
theorem dJ0_of_3 : decode cJ0_of 3 = .ok (.dup, 1) := dk_89 (dk_at dksJ0_of_0 3 rfl rfl)
theorem dJ0_of_4 : decode cJ0_of 4 = .ok (.aload_n 0, 1) := dk_42 (dk_at dksJ0_of_0 4 rfl rfl)
theorem dJ0_of_5 : decode cJ0_of 5 = .ok (.invokespecial 98, 3) := dk_183 0 98 (dk_at dksJ0_of_0 5 rfl rfl)
theorem dJ0_of_8 : decode cJ0_of 8 = .ok (.areturn, 1) := dk_176 (dk_at dksJ0_of_0 8 rfl rfl)
theorem q106 : (Jvm.Cond.initialized "java/util/List") ∈ lw_all := lw_g (lw_at lw_m1 5 rfl) rfl
theorem q211 : (Jvm.Cond.static ({ cls := "java/util/List", name := "of", desc := "(Ljava/lang/Object;)Ljava/util/List;" } : Jvm.MethodName)) ∈ lw_all := lw_g (lw_at lw_m1 110 rfl) rfl
theorem q212 : (Jvm.Cond.code ({ cls := "java/util/List", name := "of", desc := "(Ljava/lang/Object;)Ljava/util/List;" } : Jvm.MethodName) prog_80_method_37_code (1 : Nat) (Option.some (Jvm.ClassFile.FieldType.object "java/util/List"))) ∈ lw_all := lw_g (lw_at lw_m1 111 rfl) rfl
theorem q213 : (Jvm.Cond.classLink "java/util/List" (96 : Nat) "java/util/ImmutableCollections$List12") ∈ lw_all := lw_g (lw_at lw_m1 112 rfl) rfl
theorem q215 : (Jvm.Cond.methodLink "java/util/List" (98 : Nat) ({ cls := "java/util/ImmutableCollections$List12", name := "<init>", desc := "(Ljava/lang/Object;)V" } : Jvm.MethodName)) ∈ lw_all := lw_g (lw_at lw_m1 114 rfl) rfl
theorem q1544 : (Jvm.Cond.interfaceMethod "java/util/List" "java/util/List" "get" "(I)Ljava/lang/Object;") ∈ lw_tbl := lw_at lw_m7 3 rfl
theorem q1545 : (Jvm.Cond.declares ({ cls := "java/util/List", name := "get", desc := "(I)Ljava/lang/Object;" } : Jvm.MethodName)) ∈ lw_tbl := lw_at lw_m7 4 rfl
theorem q1815 : (Jvm.Cond.interfaceMethod "java/util/List" "java/util/List" "size" "()I") ∈ lw_tbl := lw_at lw_m8 34 rfl
theorem q1816 : (Jvm.Cond.declares ({ cls := "java/util/List", name := "size", desc := "()I" } : Jvm.MethodName)) ∈ lw_tbl := lw_at lw_m8 35 rfl
theorem q2209 : (Jvm.Cond.interfaceMethod "java/util/List" "java/lang/Object" "getClass" "()Ljava/lang/Class;") ∈ lw_tbl := lw_at lw_m9 188 rfl
theorem q2675 : (Jvm.Cond.interfaceMethod "java/util/List" "java/util/List" "set" "(ILjava/lang/Object;)Ljava/lang/Object;") ∈ lw_tbl := lw_at lw_m11 174 rfl
theorem q2676 : (Jvm.Cond.declares ({ cls := "java/util/List", name := "set", desc := "(ILjava/lang/Object;)Ljava/lang/Object;" } : Jvm.MethodName)) ∈ lw_tbl := lw_at lw_m11 175 rfl
theorem q2725 : (Jvm.Cond.interfaceMethod "java/util/List" "java/util/List" "subList" "(II)Ljava/util/List;") ∈ lw_tbl := lw_at lw_m11 224 rfl
theorem q2726 : (Jvm.Cond.declares ({ cls := "java/util/List", name := "subList", desc := "(II)Ljava/util/List;" } : Jvm.MethodName)) ∈ lw_tbl := lw_at lw_m11 225 rfl
theorem q2882 : (Jvm.Cond.interfaceMethod "java/util/List" "java/util/List" "listIterator" "()Ljava/util/ListIterator;") ∈ lw_tbl := lw_at lw_m12 141 rfl
theorem q2883 : (Jvm.Cond.declares ({ cls := "java/util/List", name := "listIterator", desc := "()Ljava/util/ListIterator;" } : Jvm.MethodName)) ∈ lw_tbl := lw_at lw_m12 142 rfl
theorem q2915 : (Jvm.Cond.interfaceMethod "java/util/List" "java/util/List" "listIterator" "(I)Ljava/util/ListIterator;") ∈ lw_tbl := lw_at lw_m12 174 rfl
theorem q2916 : (Jvm.Cond.declares ({ cls := "java/util/List", name := "listIterator", desc := "(I)Ljava/util/ListIterator;" } : Jvm.MethodName)) ∈ lw_tbl := lw_at lw_m12 175 rfl


/-! java/util/AbstractCollection -/
set_option maxRecDepth 100000
def RJ1 : String := "java/util/AbstractCollection"
abbrev cJ1_init : ByteArray := prog_44_method_1_code
def yJ1_init : MethodName := ⟨RJ1, "<init>", "()V"⟩
theorem dJ1_init_0 : decode cJ1_init 0 = .ok (.aload_n 0, 1) := by decide +kernel
theorem dJ1_init_1 : decode cJ1_init 1 = .ok (.invokespecial 1, 3) := by decide +kernel
theorem dJ1_init_4 : decode cJ1_init 4 = .ok (.return_, 1) := by decide +kernel
theorem q107 : (Jvm.Cond.initialized "java/util/AbstractCollection") ∈ lw_all := lw_g (lw_at lw_m1 6 rfl) rfl
theorem q225 : (Jvm.Cond.instanceMethod ({ cls := "java/util/AbstractCollection", name := "<init>", desc := "()V" } : Jvm.MethodName)) ∈ lw_all := lw_g (lw_at lw_m1 124 rfl) rfl
theorem q226 : (Jvm.Cond.code ({ cls := "java/util/AbstractCollection", name := "<init>", desc := "()V" } : Jvm.MethodName) prog_44_method_1_code (1 : Nat) (Option.none : Option Jvm.ClassFile.FieldType)) ∈ lw_all := lw_g (lw_at lw_m1 125 rfl) rfl
theorem q227 : (Jvm.Cond.methodLink "java/util/AbstractCollection" (1 : Nat) ({ cls := "java/lang/Object", name := "<init>", desc := "()V" } : Jvm.MethodName)) ∈ lw_all := lw_g (lw_at lw_m1 126 rfl) rfl
theorem q619 : (Jvm.Cond.instanceMethod ({ cls := "java/util/AbstractCollection", name := "toArray", desc := "()[Ljava/lang/Object;" } : Jvm.MethodName)) ∈ lw_all := lw_g (lw_at lw_m3 38 rfl) rfl
theorem q620 : (Jvm.Cond.publicMethod ({ cls := "java/util/AbstractCollection", name := "toArray", desc := "()[Ljava/lang/Object;" } : Jvm.MethodName)) ∈ lw_tbl := lw_at lw_m3 39 rfl
theorem q621 : (Jvm.Cond.code ({ cls := "java/util/AbstractCollection", name := "toArray", desc := "()[Ljava/lang/Object;" } : Jvm.MethodName) prog_44_method_6_code (4 : Nat) (Option.some (Jvm.ClassFile.FieldType.array (Jvm.ClassFile.FieldType.object "java/lang/Object")))) ∈ lw_all := lw_g (lw_at lw_m3 40 rfl) rfl
theorem q622 : (Jvm.Cond.methodLink "java/util/AbstractCollection" (7 : Nat) ({ cls := "java/util/AbstractCollection", name := "size", desc := "()I" } : Jvm.MethodName)) ∈ lw_all := lw_g (lw_at lw_m3 41 rfl) rfl
theorem q623 : (Jvm.Cond.declares ({ cls := "java/util/AbstractCollection", name := "size", desc := "()I" } : Jvm.MethodName)) ∈ lw_tbl := lw_at lw_m3 42 rfl
theorem q624 : (Jvm.Cond.sameMethod "java/util/AbstractCollection" "java/util/AbstractCollection" "size" "()I") ∈ lw_all := lw_g (lw_at lw_m3 43 rfl) rfl
theorem q656 : (Jvm.Cond.classLink "java/util/AbstractCollection" (2 : Nat) "java/lang/Object") ∈ lw_all := lw_g (lw_at lw_m3 75 rfl) rfl
theorem q657 : (Jvm.Cond.methodLink "java/util/AbstractCollection" (13 : Nat) ({ cls := "java/util/AbstractCollection", name := "iterator", desc := "()Ljava/util/Iterator;" } : Jvm.MethodName)) ∈ lw_all := lw_g (lw_at lw_m3 76 rfl) rfl
theorem q658 : (Jvm.Cond.declares ({ cls := "java/util/AbstractCollection", name := "iterator", desc := "()Ljava/util/Iterator;" } : Jvm.MethodName)) ∈ lw_tbl := lw_at lw_m3 77 rfl
theorem q659 : (Jvm.Cond.sameMethod "java/util/AbstractCollection" "java/util/AbstractCollection" "iterator" "()Ljava/util/Iterator;") ∈ lw_all := lw_g (lw_at lw_m3 78 rfl) rfl
theorem q1240 : (Jvm.Cond.interfaceEntry "java/util/AbstractCollection" (17 : Nat)) ∈ lw_tbl := lw_at lw_m5 179 rfl
theorem q1241 : (Jvm.Cond.methodLink "java/util/AbstractCollection" (17 : Nat) ({ cls := "java/util/Iterator", name := "hasNext", desc := "()Z" } : Jvm.MethodName)) ∈ lw_all := lw_g (lw_at lw_m5 180 rfl) rfl
theorem q1363 : (Jvm.Cond.methodLink "java/util/AbstractCollection" (31 : Nat) ({ cls := "java/util/Arrays", name := "copyOf", desc := "([Ljava/lang/Object;I)[Ljava/lang/Object;" } : Jvm.MethodName)) ∈ lw_all := lw_g (lw_at lw_m6 62 rfl) rfl
theorem q1364 : (Jvm.Cond.interfaceEntry "java/util/AbstractCollection" (23 : Nat)) ∈ lw_tbl := lw_at lw_m6 63 rfl
theorem q1365 : (Jvm.Cond.methodLink "java/util/AbstractCollection" (23 : Nat) ({ cls := "java/util/Iterator", name := "next", desc := "()Ljava/lang/Object;" } : Jvm.MethodName)) ∈ lw_all := lw_g (lw_at lw_m6 64 rfl) rfl
theorem q1641 : (Jvm.Cond.methodLink "java/util/AbstractCollection" (37 : Nat) ({ cls := "java/util/AbstractCollection", name := "finishToArray", desc := "([Ljava/lang/Object;Ljava/util/Iterator;)[Ljava/lang/Object;" } : Jvm.MethodName)) ∈ lw_all := lw_g (lw_at lw_m7 100 rfl) rfl
theorem q1642 : (Jvm.Cond.static ({ cls := "java/util/AbstractCollection", name := "finishToArray", desc := "([Ljava/lang/Object;Ljava/util/Iterator;)[Ljava/lang/Object;" } : Jvm.MethodName)) ∈ lw_all := lw_g (lw_at lw_m7 101 rfl) rfl
theorem q1643 : (Jvm.Cond.code ({ cls := "java/util/AbstractCollection", name := "finishToArray", desc := "([Ljava/lang/Object;Ljava/util/Iterator;)[Ljava/lang/Object;" } : Jvm.MethodName) prog_44_method_8_code (4 : Nat) (Option.some (Jvm.ClassFile.FieldType.array (Jvm.ClassFile.FieldType.object "java/lang/Object")))) ∈ lw_all := lw_g (lw_at lw_m7 102 rfl) rfl
theorem q1644 : (Jvm.Cond.methodLink "java/util/AbstractCollection" (64 : Nat) ({ cls := "jdk/internal/util/ArraysSupport", name := "newLength", desc := "(III)I" } : Jvm.MethodName)) ∈ lw_all := lw_g (lw_at lw_m7 103 rfl) rfl


/-! java/util/ImmutableCollections$AbstractImmutableCollection -/
set_option maxRecDepth 100000
def RJ2 : String := "java/util/ImmutableCollections$AbstractImmutableCollection"
abbrev cJ2_init : ByteArray := prog_70_method_1_code
def yJ2_init : MethodName := ⟨RJ2, "<init>", "()V"⟩
theorem dJ2_init_0 : decode cJ2_init 0 = .ok (.aload_n 0, 1) := by decide +kernel
theorem dJ2_init_1 : decode cJ2_init 1 = .ok (.invokespecial 1, 3) := by decide +kernel
theorem dJ2_init_4 : decode cJ2_init 4 = .ok (.return_, 1) := by decide +kernel
theorem q108 : (Jvm.Cond.initialized "java/util/ImmutableCollections$AbstractImmutableCollection") ∈ lw_all := lw_g (lw_at lw_m1 7 rfl) rfl
theorem q222 : (Jvm.Cond.instanceMethod ({ cls := "java/util/ImmutableCollections$AbstractImmutableCollection", name := "<init>", desc := "()V" } : Jvm.MethodName)) ∈ lw_all := lw_g (lw_at lw_m1 121 rfl) rfl
theorem q223 : (Jvm.Cond.code ({ cls := "java/util/ImmutableCollections$AbstractImmutableCollection", name := "<init>", desc := "()V" } : Jvm.MethodName) prog_70_method_1_code (1 : Nat) (Option.none : Option Jvm.ClassFile.FieldType)) ∈ lw_all := lw_g (lw_at lw_m1 122 rfl) rfl
theorem q224 : (Jvm.Cond.methodLink "java/util/ImmutableCollections$AbstractImmutableCollection" (1 : Nat) ({ cls := "java/util/AbstractCollection", name := "<init>", desc := "()V" } : Jvm.MethodName)) ∈ lw_all := lw_g (lw_at lw_m1 123 rfl) rfl


/-! java/util/ImmutableCollections$AbstractImmutableList -/
set_option maxRecDepth 100000
def RJ3 : String := "java/util/ImmutableCollections$AbstractImmutableList"
abbrev cJ3_init : ByteArray := prog_71_method_1_code
def yJ3_init : MethodName := ⟨RJ3, "<init>", "()V"⟩
theorem dJ3_init_0 : decode cJ3_init 0 = .ok (.aload_n 0, 1) := by decide +kernel
theorem dJ3_init_1 : decode cJ3_init 1 = .ok (.invokespecial 1, 3) := by decide +kernel
theorem dJ3_init_4 : decode cJ3_init 4 = .ok (.return_, 1) := by decide +kernel
theorem q109 : (Jvm.Cond.initialized "java/util/ImmutableCollections$AbstractImmutableList") ∈ lw_all := lw_g (lw_at lw_m1 8 rfl) rfl
theorem q219 : (Jvm.Cond.instanceMethod ({ cls := "java/util/ImmutableCollections$AbstractImmutableList", name := "<init>", desc := "()V" } : Jvm.MethodName)) ∈ lw_all := lw_g (lw_at lw_m1 118 rfl) rfl
theorem q220 : (Jvm.Cond.code ({ cls := "java/util/ImmutableCollections$AbstractImmutableList", name := "<init>", desc := "()V" } : Jvm.MethodName) prog_71_method_1_code (1 : Nat) (Option.none : Option Jvm.ClassFile.FieldType)) ∈ lw_all := lw_g (lw_at lw_m1 119 rfl) rfl
theorem q221 : (Jvm.Cond.methodLink "java/util/ImmutableCollections$AbstractImmutableList" (1 : Nat) ({ cls := "java/util/ImmutableCollections$AbstractImmutableCollection", name := "<init>", desc := "()V" } : Jvm.MethodName)) ∈ lw_all := lw_g (lw_at lw_m1 120 rfl) rfl
theorem q1203 : (Jvm.Cond.instanceMethod ({ cls := "java/util/ImmutableCollections$AbstractImmutableList", name := "iterator", desc := "()Ljava/util/Iterator;" } : Jvm.MethodName)) ∈ lw_all := lw_g (lw_at lw_m5 142 rfl) rfl
theorem q1204 : (Jvm.Cond.code ({ cls := "java/util/ImmutableCollections$AbstractImmutableList", name := "iterator", desc := "()Ljava/util/Iterator;" } : Jvm.MethodName) prog_71_method_10_code (1 : Nat) (Option.some (Jvm.ClassFile.FieldType.object "java/util/Iterator"))) ∈ lw_all := lw_g (lw_at lw_m5 143 rfl) rfl
theorem q1205 : (Jvm.Cond.classLink "java/util/ImmutableCollections$AbstractImmutableList" (61 : Nat) "java/util/ImmutableCollections$ListItr") ∈ lw_all := lw_g (lw_at lw_m5 144 rfl) rfl
theorem q1207 : (Jvm.Cond.methodLink "java/util/ImmutableCollections$AbstractImmutableList" (13 : Nat) ({ cls := "java/util/ImmutableCollections$AbstractImmutableList", name := "size", desc := "()I" } : Jvm.MethodName)) ∈ lw_all := lw_g (lw_at lw_m5 146 rfl) rfl
theorem q1208 : (Jvm.Cond.sameMethod "java/util/ImmutableCollections$AbstractImmutableList" "java/util/AbstractCollection" "size" "()I") ∈ lw_all := lw_g (lw_at lw_m5 147 rfl) rfl
theorem q1211 : (Jvm.Cond.methodLink "java/util/ImmutableCollections$AbstractImmutableList" (63 : Nat) ({ cls := "java/util/ImmutableCollections$ListItr", name := "<init>", desc := "(Ljava/util/List;I)V" } : Jvm.MethodName)) ∈ lw_all := lw_g (lw_at lw_m5 150 rfl) rfl
theorem q1580 : (Jvm.Cond.declares ({ cls := "java/util/ImmutableCollections$AbstractImmutableList", name := "outOfBounds", desc := "(I)Ljava/lang/IndexOutOfBoundsException;" } : Jvm.MethodName)) ∈ lw_tbl := lw_at lw_m7 39 rfl
theorem q1582 : (Jvm.Cond.instanceMethod ({ cls := "java/util/ImmutableCollections$AbstractImmutableList", name := "outOfBounds", desc := "(I)Ljava/lang/IndexOutOfBoundsException;" } : Jvm.MethodName)) ∈ lw_all := lw_g (lw_at lw_m7 41 rfl) rfl
theorem q1583 : (Jvm.Cond.code ({ cls := "java/util/ImmutableCollections$AbstractImmutableList", name := "outOfBounds", desc := "(I)Ljava/lang/IndexOutOfBoundsException;" } : Jvm.MethodName) prog_71_method_17_code (2 : Nat) (Option.some (Jvm.ClassFile.FieldType.object "java/lang/IndexOutOfBoundsException"))) ∈ lw_all := lw_g (lw_at lw_m7 42 rfl) rfl
theorem q1584 : (Jvm.Cond.classLink "java/util/ImmutableCollections$AbstractImmutableList" (29 : Nat) "java/lang/IndexOutOfBoundsException") ∈ lw_all := lw_g (lw_at lw_m7 43 rfl) rfl
theorem q1585 : (Jvm.Cond.classLink "java/util/ImmutableCollections$AbstractImmutableList" (31 : Nat) "java/lang/StringBuilder") ∈ lw_all := lw_g (lw_at lw_m7 44 rfl) rfl
theorem q1586 : (Jvm.Cond.methodLink "java/util/ImmutableCollections$AbstractImmutableList" (33 : Nat) ({ cls := "java/lang/StringBuilder", name := "<init>", desc := "()V" } : Jvm.MethodName)) ∈ lw_all := lw_g (lw_at lw_m7 45 rfl) rfl
theorem q1587 : (Jvm.Cond.stringRef "java/util/ImmutableCollections$AbstractImmutableList" (116 : Nat) "Index: ") ∈ lw_tbl := lw_at lw_m7 46 rfl
theorem q1588 : (Jvm.Cond.methodLink "java/util/ImmutableCollections$AbstractImmutableList" (36 : Nat) ({ cls := "java/lang/StringBuilder", name := "append", desc := "(Ljava/lang/String;)Ljava/lang/StringBuilder;" } : Jvm.MethodName)) ∈ lw_all := lw_g (lw_at lw_m7 47 rfl) rfl
theorem q1589 : (Jvm.Cond.methodLink "java/util/ImmutableCollections$AbstractImmutableList" (40 : Nat) ({ cls := "java/lang/StringBuilder", name := "append", desc := "(I)Ljava/lang/StringBuilder;" } : Jvm.MethodName)) ∈ lw_all := lw_g (lw_at lw_m7 48 rfl) rfl
theorem q1590 : (Jvm.Cond.stringRef "java/util/ImmutableCollections$AbstractImmutableList" (118 : Nat) " Size: ") ∈ lw_tbl := lw_at lw_m7 49 rfl
theorem q1591 : (Jvm.Cond.methodLink "java/util/ImmutableCollections$AbstractImmutableList" (43 : Nat) ({ cls := "java/lang/StringBuilder", name := "toString", desc := "()Ljava/lang/String;" } : Jvm.MethodName)) ∈ lw_all := lw_g (lw_at lw_m7 50 rfl) rfl
theorem q1592 : (Jvm.Cond.methodLink "java/util/ImmutableCollections$AbstractImmutableList" (47 : Nat) ({ cls := "java/lang/IndexOutOfBoundsException", name := "<init>", desc := "(Ljava/lang/String;)V" } : Jvm.MethodName)) ∈ lw_all := lw_g (lw_at lw_m7 51 rfl) rfl
theorem q1600 : (Jvm.Cond.superclass "java/util/ImmutableCollections$AbstractImmutableList" "java/util/ImmutableCollections$AbstractImmutableCollection") ∈ lw_all := lw_g (lw_at lw_m7 59 rfl) rfl
theorem q2712 : (Jvm.Cond.instanceMethod ({ cls := "java/util/ImmutableCollections$AbstractImmutableList", name := "set", desc := "(ILjava/lang/Object;)Ljava/lang/Object;" } : Jvm.MethodName)) ∈ lw_all := lw_g (lw_at lw_m11 211 rfl) rfl
theorem q2713 : (Jvm.Cond.publicMethod ({ cls := "java/util/ImmutableCollections$AbstractImmutableList", name := "set", desc := "(ILjava/lang/Object;)Ljava/lang/Object;" } : Jvm.MethodName)) ∈ lw_tbl := lw_at lw_m11 212 rfl
theorem q2714 : (Jvm.Cond.code ({ cls := "java/util/ImmutableCollections$AbstractImmutableList", name := "set", desc := "(ILjava/lang/Object;)Ljava/lang/Object;" } : Jvm.MethodName) prog_71_method_6_code (3 : Nat) (Option.some (Jvm.ClassFile.FieldType.object "java/lang/Object"))) ∈ lw_all := lw_g (lw_at lw_m11 213 rfl) rfl
theorem q2809 : (Jvm.Cond.instanceMethod ({ cls := "java/util/ImmutableCollections$AbstractImmutableList", name := "subList", desc := "(II)Ljava/util/List;" } : Jvm.MethodName)) ∈ lw_all := lw_g (lw_at lw_m12 68 rfl) rfl
theorem q2810 : (Jvm.Cond.publicMethod ({ cls := "java/util/ImmutableCollections$AbstractImmutableList", name := "subList", desc := "(II)Ljava/util/List;" } : Jvm.MethodName)) ∈ lw_tbl := lw_at lw_m12 69 rfl
theorem q2811 : (Jvm.Cond.code ({ cls := "java/util/ImmutableCollections$AbstractImmutableList", name := "subList", desc := "(II)Ljava/util/List;" } : Jvm.MethodName) prog_71_method_8_code (4 : Nat) (Option.some (Jvm.ClassFile.FieldType.object "java/util/List"))) ∈ lw_all := lw_g (lw_at lw_m12 70 rfl) rfl
theorem q2812 : (Jvm.Cond.methodLink "java/util/ImmutableCollections$AbstractImmutableList" (19 : Nat) ({ cls := "java/util/ImmutableCollections$AbstractImmutableList", name := "subListRangeCheck", desc := "(III)V" } : Jvm.MethodName)) ∈ lw_all := lw_g (lw_at lw_m12 71 rfl) rfl
theorem q2813 : (Jvm.Cond.static ({ cls := "java/util/ImmutableCollections$AbstractImmutableList", name := "subListRangeCheck", desc := "(III)V" } : Jvm.MethodName)) ∈ lw_all := lw_g (lw_at lw_m12 72 rfl) rfl
theorem q2814 : (Jvm.Cond.code ({ cls := "java/util/ImmutableCollections$AbstractImmutableList", name := "subListRangeCheck", desc := "(III)V" } : Jvm.MethodName) prog_71_method_9_code (3 : Nat) (Option.none : Option Jvm.ClassFile.FieldType)) ∈ lw_all := lw_g (lw_at lw_m12 73 rfl) rfl
theorem q2815 : (Jvm.Cond.stringRef "java/util/ImmutableCollections$AbstractImmutableList" (34 : Nat) "fromIndex = ") ∈ lw_tbl := lw_at lw_m12 74 rfl
theorem q2816 : (Jvm.Cond.stringRef "java/util/ImmutableCollections$AbstractImmutableList" (50 : Nat) "toIndex = ") ∈ lw_tbl := lw_at lw_m12 75 rfl
theorem q2817 : (Jvm.Cond.classLink "java/util/ImmutableCollections$AbstractImmutableList" (52 : Nat) "java/lang/IllegalArgumentException") ∈ lw_all := lw_g (lw_at lw_m12 76 rfl) rfl
theorem q2818 : (Jvm.Cond.stringRef "java/util/ImmutableCollections$AbstractImmutableList" (54 : Nat) "fromIndex(") ∈ lw_tbl := lw_at lw_m12 77 rfl
theorem q2819 : (Jvm.Cond.stringRef "java/util/ImmutableCollections$AbstractImmutableList" (56 : Nat) ") > toIndex(") ∈ lw_tbl := lw_at lw_m12 78 rfl
theorem q2820 : (Jvm.Cond.stringRef "java/util/ImmutableCollections$AbstractImmutableList" (58 : Nat) ")") ∈ lw_tbl := lw_at lw_m12 79 rfl
theorem q2821 : (Jvm.Cond.methodLink "java/util/ImmutableCollections$AbstractImmutableList" (60 : Nat) ({ cls := "java/lang/IllegalArgumentException", name := "<init>", desc := "(Ljava/lang/String;)V" } : Jvm.MethodName)) ∈ lw_all := lw_g (lw_at lw_m12 80 rfl) rfl
theorem q2822 : (Jvm.Cond.methodLink "java/util/ImmutableCollections$AbstractImmutableList" (23 : Nat) ({ cls := "java/util/ImmutableCollections$SubList", name := "fromList", desc := "(Ljava/util/ImmutableCollections$AbstractImmutableList;II)Ljava/util/ImmutableCollections$SubList;" } : Jvm.MethodName)) ∈ lw_all := lw_g (lw_at lw_m12 81 rfl) rfl
theorem q2935 : (Jvm.Cond.instanceMethod ({ cls := "java/util/ImmutableCollections$AbstractImmutableList", name := "listIterator", desc := "(I)Ljava/util/ListIterator;" } : Jvm.MethodName)) ∈ lw_all := lw_g (lw_at lw_m12 194 rfl) rfl
theorem q2936 : (Jvm.Cond.publicMethod ({ cls := "java/util/ImmutableCollections$AbstractImmutableList", name := "listIterator", desc := "(I)Ljava/util/ListIterator;" } : Jvm.MethodName)) ∈ lw_tbl := lw_at lw_m12 195 rfl
theorem q2937 : (Jvm.Cond.code ({ cls := "java/util/ImmutableCollections$AbstractImmutableList", name := "listIterator", desc := "(I)Ljava/util/ListIterator;" } : Jvm.MethodName) prog_71_method_12_code (3 : Nat) (Option.some (Jvm.ClassFile.FieldType.object "java/util/ListIterator"))) ∈ lw_all := lw_g (lw_at lw_m12 196 rfl) rfl
theorem q2938 : (Jvm.Cond.methodLink "java/util/ImmutableCollections$AbstractImmutableList" (70 : Nat) ({ cls := "java/util/ImmutableCollections$AbstractImmutableList", name := "outOfBounds", desc := "(I)Ljava/lang/IndexOutOfBoundsException;" } : Jvm.MethodName)) ∈ lw_all := lw_g (lw_at lw_m12 197 rfl) rfl
theorem q2939 : (Jvm.Cond.methodLink "java/util/ImmutableCollections$AbstractImmutableList" (74 : Nat) ({ cls := "java/util/ImmutableCollections$ListItr", name := "<init>", desc := "(Ljava/util/List;II)V" } : Jvm.MethodName)) ∈ lw_all := lw_g (lw_at lw_m12 198 rfl) rfl
theorem q2972 : (Jvm.Cond.instanceMethod ({ cls := "java/util/ImmutableCollections$AbstractImmutableList", name := "listIterator", desc := "()Ljava/util/ListIterator;" } : Jvm.MethodName)) ∈ lw_all := lw_g (lw_at lw_m12 231 rfl) rfl
theorem q2973 : (Jvm.Cond.publicMethod ({ cls := "java/util/ImmutableCollections$AbstractImmutableList", name := "listIterator", desc := "()Ljava/util/ListIterator;" } : Jvm.MethodName)) ∈ lw_tbl := lw_at lw_m12 232 rfl
theorem q2974 : (Jvm.Cond.code ({ cls := "java/util/ImmutableCollections$AbstractImmutableList", name := "listIterator", desc := "()Ljava/util/ListIterator;" } : Jvm.MethodName) prog_71_method_11_code (1 : Nat) (Option.some (Jvm.ClassFile.FieldType.object "java/util/ListIterator"))) ∈ lw_all := lw_g (lw_at lw_m12 233 rfl) rfl
theorem q2975 : (Jvm.Cond.methodLink "java/util/ImmutableCollections$AbstractImmutableList" (66 : Nat) ({ cls := "java/util/ImmutableCollections$AbstractImmutableList", name := "listIterator", desc := "(I)Ljava/util/ListIterator;" } : Jvm.MethodName)) ∈ lw_all := lw_g (lw_at lw_m12 234 rfl) rfl
theorem q3934 : (Jvm.Cond.sameMethod "java/util/ImmutableCollections$AbstractImmutableList" "java/util/ImmutableCollections$AbstractImmutableList" "outOfBounds" "(I)Ljava/lang/IndexOutOfBoundsException;") ∈ lw_all := lw_g (lw_at lw_m16 233 rfl) rfl
theorem q3937 : (Jvm.Cond.sameMethod "java/util/ImmutableCollections$AbstractImmutableList" "java/util/ImmutableCollections$AbstractImmutableList" "listIterator" "(I)Ljava/util/ListIterator;") ∈ lw_all := lw_g (lw_at lw_m16 236 rfl) rfl


/-! java/util/AbstractList -/
set_option maxRecDepth 100000
def RJ7 : String := "java/util/AbstractList"
abbrev cJ7_init : ByteArray := prog_45_method_1_code
def yJ7_init : MethodName := ⟨RJ7, "<init>", "()V"⟩
def dkwJ7_init_0 : List UInt8 := [42, 183, 0, 1, 42, 3, 181, 0, 7, 177]
abbrev dktJ7_init_0 : List UInt8 := dkwJ7_init_0 ++ []
theorem dksJ7_init_0 : cJ7_init.data.toList.drop 0 = dktJ7_init_0 := by decide +kernel
theorem dJ7_init_0 : decode cJ7_init 0 = .ok (.aload_n 0, 1) := dk_42 (dk_at dksJ7_init_0 0 rfl rfl)
theorem dJ7_init_1 : decode cJ7_init 1 = .ok (.invokespecial 1, 3) := dk_183 0 1 (dk_at dksJ7_init_0 1 rfl rfl)
theorem dJ7_init_4 : decode cJ7_init 4 = .ok (.aload_n 0, 1) := dk_42 (dk_at dksJ7_init_0 4 rfl rfl)
theorem dJ7_init_5 : decode cJ7_init 5 = .ok (.iconst 0, 1) := dk_3 (dk_at dksJ7_init_0 5 rfl rfl)
theorem dJ7_init_6 : decode cJ7_init 6 = .ok (.putfield 7, 3) := dk_181 0 7 (dk_at dksJ7_init_0 6 rfl rfl)
theorem dJ7_init_9 : decode cJ7_init 9 = .ok (.return_, 1) := dk_177 (dk_at dksJ7_init_0 9 rfl rfl)
abbrev cJ7_listIterator : ByteArray := prog_45_method_12_code
def yJ7_listIterator : MethodName := ⟨RJ7, "listIterator", "()Ljava/util/ListIterator;"⟩
def dkwJ7_listIterator_0 : List UInt8 := [42, 3, 182, 0, 47, 176]
abbrev dktJ7_listIterator_0 : List UInt8 := dkwJ7_listIterator_0 ++ []
theorem dksJ7_listIterator_0 : cJ7_listIterator.data.toList.drop 0 = dktJ7_listIterator_0 := by decide +kernel
theorem dJ7_listIterator_0 : decode cJ7_listIterator 0 = .ok (.aload_n 0, 1) := dk_42 (dk_at dksJ7_listIterator_0 0 rfl rfl)
theorem dJ7_listIterator_1 : decode cJ7_listIterator 1 = .ok (.iconst 0, 1) := dk_3 (dk_at dksJ7_listIterator_0 1 rfl rfl)
theorem dJ7_listIterator_2 : decode cJ7_listIterator 2 = .ok (.invokevirtual 47, 3) := dk_182 0 47 (dk_at dksJ7_listIterator_0 2 rfl rfl)
theorem dJ7_listIterator_5 : decode cJ7_listIterator 5 = .ok (.areturn, 1) := dk_176 (dk_at dksJ7_listIterator_0 5 rfl rfl)
abbrev cJ7_subListRangeCheck : ByteArray := prog_45_method_15_code
def yJ7_subListRangeCheck : MethodName := ⟨RJ7, "subListRangeCheck", "(III)V"⟩
def dkwJ7_subListRangeCheck_4 : List UInt8 := [182, 0, 112, 18, 130, 182, 0, 108, 182, 0, 115, 183, 0, 132, 191, 177]
abbrev dktJ7_subListRangeCheck_4 : List UInt8 := dkwJ7_subListRangeCheck_4 ++ []
def dkwJ7_subListRangeCheck_3 : List UInt8 := [89, 187, 0, 103, 89, 183, 0, 105, 18, 126, 182, 0, 108, 26, 182, 0, 112, 18, 128, 182, 0, 108, 27]
abbrev dktJ7_subListRangeCheck_3 : List UInt8 := dkwJ7_subListRangeCheck_3 ++ dktJ7_subListRangeCheck_4
def dkwJ7_subListRangeCheck_2 : List UInt8 := [18, 122, 182, 0, 108, 27, 182, 0, 112, 182, 0, 115, 183, 0, 119, 191, 26, 27, 164, 0, 44, 187, 0, 124]
abbrev dktJ7_subListRangeCheck_2 : List UInt8 := dkwJ7_subListRangeCheck_2 ++ dktJ7_subListRangeCheck_3
def dkwJ7_subListRangeCheck_1 : List UInt8 := [182, 0, 115, 183, 0, 119, 191, 27, 28, 164, 0, 30, 187, 0, 101, 89, 187, 0, 103, 89, 183, 0, 105]
abbrev dktJ7_subListRangeCheck_1 : List UInt8 := dkwJ7_subListRangeCheck_1 ++ dktJ7_subListRangeCheck_2
def dkwJ7_subListRangeCheck_0 : List UInt8 := [26, 156, 0, 30, 187, 0, 101, 89, 187, 0, 103, 89, 183, 0, 105, 18, 106, 182, 0, 108, 26, 182, 0, 112]
abbrev dktJ7_subListRangeCheck_0 : List UInt8 := dkwJ7_subListRangeCheck_0 ++ dktJ7_subListRangeCheck_1
theorem dksJ7_subListRangeCheck_0 : cJ7_subListRangeCheck.data.toList.drop 0 = dktJ7_subListRangeCheck_0 := by decide +kernel
theorem dksJ7_subListRangeCheck_1 : cJ7_subListRangeCheck.data.toList.drop 24 = dktJ7_subListRangeCheck_1 := dk_seg dksJ7_subListRangeCheck_0 24 rfl rfl
theorem dksJ7_subListRangeCheck_2 : cJ7_subListRangeCheck.data.toList.drop 47 = dktJ7_subListRangeCheck_2 := dk_seg dksJ7_subListRangeCheck_1 23 rfl rfl
theorem dksJ7_subListRangeCheck_3 : cJ7_subListRangeCheck.data.toList.drop 71 = dktJ7_subListRangeCheck_3 := dk_seg dksJ7_subListRangeCheck_2 24 rfl rfl
theorem dksJ7_subListRangeCheck_4 : cJ7_subListRangeCheck.data.toList.drop 94 = dktJ7_subListRangeCheck_4 := dk_seg dksJ7_subListRangeCheck_3 23 rfl rfl
theorem dJ7_subListRangeCheck_0 : decode cJ7_subListRangeCheck 0 = .ok (.iload_n 0, 1) := dk_26 (dk_at dksJ7_subListRangeCheck_0 0 rfl rfl)
theorem dJ7_subListRangeCheck_1 : decode cJ7_subListRangeCheck 1 = .ok (.ifCond .ge 30, 3) := dk_156 0 30 (dk_at dksJ7_subListRangeCheck_0 1 rfl rfl)
theorem dJ7_subListRangeCheck_4 : decode cJ7_subListRangeCheck 4 = .ok (.new 101, 3) := dk_187 0 101 (dk_at dksJ7_subListRangeCheck_0 4 rfl rfl)
theorem dJ7_subListRangeCheck_7 : decode cJ7_subListRangeCheck 7 = .ok (.dup, 1) := dk_89 (dk_at dksJ7_subListRangeCheck_0 7 rfl rfl)
theorem dJ7_subListRangeCheck_8 : decode cJ7_subListRangeCheck 8 = .ok (.new 103, 3) := dk_187 0 103 (dk_at dksJ7_subListRangeCheck_0 8 rfl rfl)
theorem dJ7_subListRangeCheck_11 : decode cJ7_subListRangeCheck 11 = .ok (.dup, 1) := dk_89 (dk_at dksJ7_subListRangeCheck_0 11 rfl rfl)
theorem dJ7_subListRangeCheck_12 : decode cJ7_subListRangeCheck 12 = .ok (.invokespecial 105, 3) := dk_183 0 105 (dk_at dksJ7_subListRangeCheck_0 12 rfl rfl)
theorem dJ7_subListRangeCheck_15 : decode cJ7_subListRangeCheck 15 = .ok (.ldc 106, 2) := dk_18 106 (dk_at dksJ7_subListRangeCheck_0 15 rfl rfl)
theorem dJ7_subListRangeCheck_17 : decode cJ7_subListRangeCheck 17 = .ok (.invokevirtual 108, 3) := dk_182 0 108 (dk_at dksJ7_subListRangeCheck_0 17 rfl rfl)
theorem dJ7_subListRangeCheck_20 : decode cJ7_subListRangeCheck 20 = .ok (.iload_n 0, 1) := dk_26 (dk_at dksJ7_subListRangeCheck_0 20 rfl rfl)
theorem dJ7_subListRangeCheck_21 : decode cJ7_subListRangeCheck 21 = .ok (.invokevirtual 112, 3) := dk_182 0 112 (dk_at dksJ7_subListRangeCheck_0 21 rfl rfl)
theorem dJ7_subListRangeCheck_24 : decode cJ7_subListRangeCheck 24 = .ok (.invokevirtual 115, 3) := dk_182 0 115 (dk_at dksJ7_subListRangeCheck_1 0 rfl rfl)
theorem dJ7_subListRangeCheck_27 : decode cJ7_subListRangeCheck 27 = .ok (.invokespecial 119, 3) := dk_183 0 119 (dk_at dksJ7_subListRangeCheck_1 3 rfl rfl)
theorem dJ7_subListRangeCheck_30 : decode cJ7_subListRangeCheck 30 = .ok (.athrow, 1) := dk_191 (dk_at dksJ7_subListRangeCheck_1 6 rfl rfl)
theorem dJ7_subListRangeCheck_31 : decode cJ7_subListRangeCheck 31 = .ok (.iload_n 1, 1) := dk_27 (dk_at dksJ7_subListRangeCheck_1 7 rfl rfl)
theorem dJ7_subListRangeCheck_32 : decode cJ7_subListRangeCheck 32 = .ok (.iload_n 2, 1) := dk_28 (dk_at dksJ7_subListRangeCheck_1 8 rfl rfl)
theorem dJ7_subListRangeCheck_33 : decode cJ7_subListRangeCheck 33 = .ok (.if_icmp .le 30, 3) := dk_164 0 30 (dk_at dksJ7_subListRangeCheck_1 9 rfl rfl)
theorem dJ7_subListRangeCheck_36 : decode cJ7_subListRangeCheck 36 = .ok (.new 101, 3) := dk_187 0 101 (dk_at dksJ7_subListRangeCheck_1 12 rfl rfl)
theorem dJ7_subListRangeCheck_39 : decode cJ7_subListRangeCheck 39 = .ok (.dup, 1) := dk_89 (dk_at dksJ7_subListRangeCheck_1 15 rfl rfl)
theorem dJ7_subListRangeCheck_40 : decode cJ7_subListRangeCheck 40 = .ok (.new 103, 3) := dk_187 0 103 (dk_at dksJ7_subListRangeCheck_1 16 rfl rfl)
theorem dJ7_subListRangeCheck_43 : decode cJ7_subListRangeCheck 43 = .ok (.dup, 1) := dk_89 (dk_at dksJ7_subListRangeCheck_1 19 rfl rfl)
theorem dJ7_subListRangeCheck_44 : decode cJ7_subListRangeCheck 44 = .ok (.invokespecial 105, 3) := dk_183 0 105 (dk_at dksJ7_subListRangeCheck_1 20 rfl rfl)
theorem dJ7_subListRangeCheck_47 : decode cJ7_subListRangeCheck 47 = .ok (.ldc 122, 2) := dk_18 122 (dk_at dksJ7_subListRangeCheck_2 0 rfl rfl)
theorem dJ7_subListRangeCheck_49 : decode cJ7_subListRangeCheck 49 = .ok (.invokevirtual 108, 3) := dk_182 0 108 (dk_at dksJ7_subListRangeCheck_2 2 rfl rfl)
theorem dJ7_subListRangeCheck_52 : decode cJ7_subListRangeCheck 52 = .ok (.iload_n 1, 1) := dk_27 (dk_at dksJ7_subListRangeCheck_2 5 rfl rfl)
theorem dJ7_subListRangeCheck_53 : decode cJ7_subListRangeCheck 53 = .ok (.invokevirtual 112, 3) := dk_182 0 112 (dk_at dksJ7_subListRangeCheck_2 6 rfl rfl)
theorem dJ7_subListRangeCheck_56 : decode cJ7_subListRangeCheck 56 = .ok (.invokevirtual 115, 3) := dk_182 0 115 (dk_at dksJ7_subListRangeCheck_2 9 rfl rfl)
theorem dJ7_subListRangeCheck_59 : decode cJ7_subListRangeCheck 59 = .ok (.invokespecial 119, 3) := dk_183 0 119 (dk_at dksJ7_subListRangeCheck_2 12 rfl rfl)
theorem dJ7_subListRangeCheck_62 : decode cJ7_subListRangeCheck 62 = .ok (.athrow, 1) := dk_191 (dk_at dksJ7_subListRangeCheck_2 15 rfl rfl)
theorem dJ7_subListRangeCheck_63 : decode cJ7_subListRangeCheck 63 = .ok (.iload_n 0, 1) := dk_26 (dk_at dksJ7_subListRangeCheck_2 16 rfl rfl)
theorem dJ7_subListRangeCheck_64 : decode cJ7_subListRangeCheck 64 = .ok (.iload_n 1, 1) := dk_27 (dk_at dksJ7_subListRangeCheck_2 17 rfl rfl)
theorem dJ7_subListRangeCheck_65 : decode cJ7_subListRangeCheck 65 = .ok (.if_icmp .le 44, 3) := dk_164 0 44 (dk_at dksJ7_subListRangeCheck_2 18 rfl rfl)
theorem dJ7_subListRangeCheck_68 : decode cJ7_subListRangeCheck 68 = .ok (.new 124, 3) := dk_187 0 124 (dk_at dksJ7_subListRangeCheck_2 21 rfl rfl)
theorem dJ7_subListRangeCheck_71 : decode cJ7_subListRangeCheck 71 = .ok (.dup, 1) := dk_89 (dk_at dksJ7_subListRangeCheck_3 0 rfl rfl)
theorem dJ7_subListRangeCheck_72 : decode cJ7_subListRangeCheck 72 = .ok (.new 103, 3) := dk_187 0 103 (dk_at dksJ7_subListRangeCheck_3 1 rfl rfl)
theorem dJ7_subListRangeCheck_75 : decode cJ7_subListRangeCheck 75 = .ok (.dup, 1) := dk_89 (dk_at dksJ7_subListRangeCheck_3 4 rfl rfl)
theorem dJ7_subListRangeCheck_76 : decode cJ7_subListRangeCheck 76 = .ok (.invokespecial 105, 3) := dk_183 0 105 (dk_at dksJ7_subListRangeCheck_3 5 rfl rfl)
theorem dJ7_subListRangeCheck_79 : decode cJ7_subListRangeCheck 79 = .ok (.ldc 126, 2) := dk_18 126 (dk_at dksJ7_subListRangeCheck_3 8 rfl rfl)
theorem dJ7_subListRangeCheck_81 : decode cJ7_subListRangeCheck 81 = .ok (.invokevirtual 108, 3) := dk_182 0 108 (dk_at dksJ7_subListRangeCheck_3 10 rfl rfl)
theorem dJ7_subListRangeCheck_84 : decode cJ7_subListRangeCheck 84 = .ok (.iload_n 0, 1) := dk_26 (dk_at dksJ7_subListRangeCheck_3 13 rfl rfl)
theorem dJ7_subListRangeCheck_85 : decode cJ7_subListRangeCheck 85 = .ok (.invokevirtual 112, 3) := dk_182 0 112 (dk_at dksJ7_subListRangeCheck_3 14 rfl rfl)
theorem dJ7_subListRangeCheck_88 : decode cJ7_subListRangeCheck 88 = .ok (.ldc 128, 2) := dk_18 128 (dk_at dksJ7_subListRangeCheck_3 17 rfl rfl)
theorem dJ7_subListRangeCheck_90 : decode cJ7_subListRangeCheck 90 = .ok (.invokevirtual 108, 3) := dk_182 0 108 (dk_at dksJ7_subListRangeCheck_3 19 rfl rfl)
theorem dJ7_subListRangeCheck_93 : decode cJ7_subListRangeCheck 93 = .ok (.iload_n 1, 1) := dk_27 (dk_at dksJ7_subListRangeCheck_3 22 rfl rfl)
theorem dJ7_subListRangeCheck_94 : decode cJ7_subListRangeCheck 94 = .ok (.invokevirtual 112, 3) := dk_182 0 112 (dk_at dksJ7_subListRangeCheck_4 0 rfl rfl)
theorem dJ7_subListRangeCheck_97 : decode cJ7_subListRangeCheck 97 = .ok (.ldc 130, 2) := dk_18 130 (dk_at dksJ7_subListRangeCheck_4 3 rfl rfl)
theorem dJ7_subListRangeCheck_99 : decode cJ7_subListRangeCheck 99 = .ok (.invokevirtual 108, 3) := dk_182 0 108 (dk_at dksJ7_subListRangeCheck_4 5 rfl rfl)
theorem dJ7_subListRangeCheck_102 : decode cJ7_subListRangeCheck 102 = .ok (.invokevirtual 115, 3) := dk_182 0 115 (dk_at dksJ7_subListRangeCheck_4 8 rfl rfl)
theorem dJ7_subListRangeCheck_105 : decode cJ7_subListRangeCheck 105 = .ok (.invokespecial 132, 3) := dk_183 0 132 (dk_at dksJ7_subListRangeCheck_4 11 rfl rfl)
theorem dJ7_subListRangeCheck_108 : decode cJ7_subListRangeCheck 108 = .ok (.athrow, 1) := dk_191 (dk_at dksJ7_subListRangeCheck_4 14 rfl rfl)
theorem dJ7_subListRangeCheck_109 : decode cJ7_subListRangeCheck 109 = .ok (.return_, 1) := dk_177 (dk_at dksJ7_subListRangeCheck_4 15 rfl rfl)
theorem q113 : (Jvm.Cond.initialized "java/util/AbstractList") ∈ lw_all := lw_g (lw_at lw_m1 12 rfl) rfl
theorem q246 : (Jvm.Cond.instanceMethod ({ cls := "java/util/AbstractList", name := "<init>", desc := "()V" } : Jvm.MethodName)) ∈ lw_all := lw_g (lw_at lw_m1 145 rfl) rfl
theorem q247 : (Jvm.Cond.code ({ cls := "java/util/AbstractList", name := "<init>", desc := "()V" } : Jvm.MethodName) prog_45_method_1_code (1 : Nat) (Option.none : Option Jvm.ClassFile.FieldType)) ∈ lw_all := lw_g (lw_at lw_m1 146 rfl) rfl
theorem q248 : (Jvm.Cond.methodLink "java/util/AbstractList" (1 : Nat) ({ cls := "java/util/AbstractCollection", name := "<init>", desc := "()V" } : Jvm.MethodName)) ∈ lw_all := lw_g (lw_at lw_m1 147 rfl) rfl
theorem q258 : (Jvm.Cond.fieldLink "java/util/AbstractList" (7 : Nat) "java/util/AbstractList" "modCount" "I") ∈ lw_all := lw_g (lw_at lw_m1 157 rfl) rfl
theorem q280 : (Jvm.Cond.soleField "java/util/AbstractList" "modCount") ∈ lw_all := lw_g (lw_at lw_m1 179 rfl) rfl
theorem q665 : (Jvm.Cond.declares ({ cls := "java/util/AbstractList", name := "listIterator", desc := "()Ljava/util/ListIterator;" } : Jvm.MethodName)) ∈ lw_tbl := lw_at lw_m3 84 rfl
theorem q668 : (Jvm.Cond.instanceMethod ({ cls := "java/util/AbstractList", name := "listIterator", desc := "()Ljava/util/ListIterator;" } : Jvm.MethodName)) ∈ lw_all := lw_g (lw_at lw_m3 87 rfl) rfl
theorem q669 : (Jvm.Cond.code ({ cls := "java/util/AbstractList", name := "listIterator", desc := "()Ljava/util/ListIterator;" } : Jvm.MethodName) prog_45_method_12_code (1 : Nat) (Option.some (Jvm.ClassFile.FieldType.object "java/util/ListIterator"))) ∈ lw_all := lw_g (lw_at lw_m3 88 rfl) rfl
theorem q670 : (Jvm.Cond.methodLink "java/util/AbstractList" (47 : Nat) ({ cls := "java/util/AbstractList", name := "listIterator", desc := "(I)Ljava/util/ListIterator;" } : Jvm.MethodName)) ∈ lw_all := lw_g (lw_at lw_m3 89 rfl) rfl
theorem q671 : (Jvm.Cond.instanceMethod ({ cls := "java/util/AbstractList", name := "listIterator", desc := "(I)Ljava/util/ListIterator;" } : Jvm.MethodName)) ∈ lw_all := lw_g (lw_at lw_m3 90 rfl) rfl
theorem q672 : (Jvm.Cond.sameMethod "java/util/AbstractList" "java/util/AbstractList" "listIterator" "(I)Ljava/util/ListIterator;") ∈ lw_all := lw_g (lw_at lw_m3 91 rfl) rfl
theorem q1160 : (Jvm.Cond.declares ({ cls := "java/util/AbstractList", name := "listIterator", desc := "(I)Ljava/util/ListIterator;" } : Jvm.MethodName)) ∈ lw_tbl := lw_at lw_m5 99 rfl
theorem q1251 : (Jvm.Cond.sameMethod "java/util/AbstractList" "java/util/AbstractCollection" "size" "()I") ∈ lw_all := lw_g (lw_at lw_m5 190 rfl) rfl
theorem q1379 : (Jvm.Cond.declares ({ cls := "java/util/AbstractList", name := "get", desc := "(I)Ljava/lang/Object;" } : Jvm.MethodName)) ∈ lw_tbl := lw_at lw_m6 78 rfl
theorem q1380 : (Jvm.Cond.sameMethod "java/util/AbstractList" "java/util/AbstractList" "get" "(I)Ljava/lang/Object;") ∈ lw_all := lw_g (lw_at lw_m6 79 rfl) rfl
theorem q2457 : (Jvm.Cond.instanceMethod ({ cls := "java/util/AbstractList", name := "remove", desc := "(I)Ljava/lang/Object;" } : Jvm.MethodName)) ∈ lw_all := lw_g (lw_at lw_m10 196 rfl) rfl
theorem q2458 : (Jvm.Cond.sameMethod "java/util/AbstractList" "java/util/AbstractList" "remove" "(I)Ljava/lang/Object;") ∈ lw_all := lw_g (lw_at lw_m10 197 rfl) rfl
theorem q2484 : (Jvm.Cond.declares ({ cls := "java/util/AbstractList", name := "remove", desc := "(I)Ljava/lang/Object;" } : Jvm.MethodName)) ∈ lw_tbl := lw_at lw_m10 223 rfl
theorem q2625 : (Jvm.Cond.static ({ cls := "java/util/AbstractList", name := "subListRangeCheck", desc := "(III)V" } : Jvm.MethodName)) ∈ lw_all := lw_g (lw_at lw_m11 124 rfl) rfl
theorem q2626 : (Jvm.Cond.code ({ cls := "java/util/AbstractList", name := "subListRangeCheck", desc := "(III)V" } : Jvm.MethodName) prog_45_method_15_code (3 : Nat) (Option.none : Option Jvm.ClassFile.FieldType)) ∈ lw_all := lw_g (lw_at lw_m11 125 rfl) rfl
theorem q2627 : (Jvm.Cond.classLink "java/util/AbstractList" (101 : Nat) "java/lang/IndexOutOfBoundsException") ∈ lw_all := lw_g (lw_at lw_m11 126 rfl) rfl
theorem q2628 : (Jvm.Cond.classLink "java/util/AbstractList" (103 : Nat) "java/lang/StringBuilder") ∈ lw_all := lw_g (lw_at lw_m11 127 rfl) rfl
theorem q2629 : (Jvm.Cond.methodLink "java/util/AbstractList" (105 : Nat) ({ cls := "java/lang/StringBuilder", name := "<init>", desc := "()V" } : Jvm.MethodName)) ∈ lw_all := lw_g (lw_at lw_m11 128 rfl) rfl
theorem q2630 : (Jvm.Cond.stringRef "java/util/AbstractList" (106 : Nat) "fromIndex = ") ∈ lw_tbl := lw_at lw_m11 129 rfl
theorem q2631 : (Jvm.Cond.methodLink "java/util/AbstractList" (108 : Nat) ({ cls := "java/lang/StringBuilder", name := "append", desc := "(Ljava/lang/String;)Ljava/lang/StringBuilder;" } : Jvm.MethodName)) ∈ lw_all := lw_g (lw_at lw_m11 130 rfl) rfl
theorem q2632 : (Jvm.Cond.methodLink "java/util/AbstractList" (112 : Nat) ({ cls := "java/lang/StringBuilder", name := "append", desc := "(I)Ljava/lang/StringBuilder;" } : Jvm.MethodName)) ∈ lw_all := lw_g (lw_at lw_m11 131 rfl) rfl
theorem q2633 : (Jvm.Cond.methodLink "java/util/AbstractList" (115 : Nat) ({ cls := "java/lang/StringBuilder", name := "toString", desc := "()Ljava/lang/String;" } : Jvm.MethodName)) ∈ lw_all := lw_g (lw_at lw_m11 132 rfl) rfl
theorem q2634 : (Jvm.Cond.methodLink "java/util/AbstractList" (119 : Nat) ({ cls := "java/lang/IndexOutOfBoundsException", name := "<init>", desc := "(Ljava/lang/String;)V" } : Jvm.MethodName)) ∈ lw_all := lw_g (lw_at lw_m11 133 rfl) rfl
theorem q2635 : (Jvm.Cond.stringRef "java/util/AbstractList" (122 : Nat) "toIndex = ") ∈ lw_tbl := lw_at lw_m11 134 rfl
theorem q2636 : (Jvm.Cond.classLink "java/util/AbstractList" (124 : Nat) "java/lang/IllegalArgumentException") ∈ lw_all := lw_g (lw_at lw_m11 135 rfl) rfl
theorem q2637 : (Jvm.Cond.stringRef "java/util/AbstractList" (126 : Nat) "fromIndex(") ∈ lw_tbl := lw_at lw_m11 136 rfl
theorem q2638 : (Jvm.Cond.stringRef "java/util/AbstractList" (128 : Nat) ") > toIndex(") ∈ lw_tbl := lw_at lw_m11 137 rfl
theorem q2639 : (Jvm.Cond.stringRef "java/util/AbstractList" (130 : Nat) ")") ∈ lw_tbl := lw_at lw_m11 138 rfl
theorem q2640 : (Jvm.Cond.methodLink "java/util/AbstractList" (132 : Nat) ({ cls := "java/lang/IllegalArgumentException", name := "<init>", desc := "(Ljava/lang/String;)V" } : Jvm.MethodName)) ∈ lw_all := lw_g (lw_at lw_m11 139 rfl) rfl
theorem q2683 : (Jvm.Cond.instanceMethod ({ cls := "java/util/AbstractList", name := "set", desc := "(ILjava/lang/Object;)Ljava/lang/Object;" } : Jvm.MethodName)) ∈ lw_all := lw_g (lw_at lw_m11 182 rfl) rfl
theorem q2684 : (Jvm.Cond.sameMethod "java/util/AbstractList" "java/util/AbstractList" "set" "(ILjava/lang/Object;)Ljava/lang/Object;") ∈ lw_all := lw_g (lw_at lw_m11 183 rfl) rfl
theorem q2694 : (Jvm.Cond.declares ({ cls := "java/util/AbstractList", name := "set", desc := "(ILjava/lang/Object;)Ljava/lang/Object;" } : Jvm.MethodName)) ∈ lw_tbl := lw_at lw_m11 193 rfl
theorem q2857 : (Jvm.Cond.instanceMethod ({ cls := "java/util/AbstractList", name := "subList", desc := "(II)Ljava/util/List;" } : Jvm.MethodName)) ∈ lw_all := lw_g (lw_at lw_m12 116 rfl) rfl
theorem q2858 : (Jvm.Cond.publicMethod ({ cls := "java/util/AbstractList", name := "subList", desc := "(II)Ljava/util/List;" } : Jvm.MethodName)) ∈ lw_tbl := lw_at lw_m12 117 rfl
theorem q2859 : (Jvm.Cond.code ({ cls := "java/util/AbstractList", name := "subList", desc := "(II)Ljava/util/List;" } : Jvm.MethodName) prog_45_method_14_code (3 : Nat) (Option.some (Jvm.ClassFile.FieldType.object "java/util/List"))) ∈ lw_all := lw_g (lw_at lw_m12 118 rfl) rfl
theorem q2860 : (Jvm.Cond.methodLink "java/util/AbstractList" (13 : Nat) ({ cls := "java/util/AbstractList", name := "size", desc := "()I" } : Jvm.MethodName)) ∈ lw_all := lw_g (lw_at lw_m12 119 rfl) rfl
theorem q2861 : (Jvm.Cond.methodLink "java/util/AbstractList" (87 : Nat) ({ cls := "java/util/AbstractList", name := "subListRangeCheck", desc := "(III)V" } : Jvm.MethodName)) ∈ lw_all := lw_g (lw_at lw_m12 120 rfl) rfl
theorem q2862 : (Jvm.Cond.classLink "java/util/AbstractList" (91 : Nat) "java/util/RandomAccess") ∈ lw_all := lw_g (lw_at lw_m12 121 rfl) rfl
theorem q2863 : (Jvm.Cond.classLink "java/util/AbstractList" (93 : Nat) "java/util/AbstractList$RandomAccessSubList") ∈ lw_all := lw_g (lw_at lw_m12 122 rfl) rfl
theorem q2864 : (Jvm.Cond.methodLink "java/util/AbstractList" (95 : Nat) ({ cls := "java/util/AbstractList$RandomAccessSubList", name := "<init>", desc := "(Ljava/util/AbstractList;II)V" } : Jvm.MethodName)) ∈ lw_all := lw_g (lw_at lw_m12 123 rfl) rfl
theorem q2870 : (Jvm.Cond.classLink "java/util/AbstractList" (98 : Nat) "java/util/AbstractList$SubList") ∈ lw_all := lw_g (lw_at lw_m12 129 rfl) rfl
theorem q2871 : (Jvm.Cond.methodLink "java/util/AbstractList" (100 : Nat) ({ cls := "java/util/AbstractList$SubList", name := "<init>", desc := "(Ljava/util/AbstractList;II)V" } : Jvm.MethodName)) ∈ lw_all := lw_g (lw_at lw_m12 130 rfl) rfl
theorem q2886 : (Jvm.Cond.publicMethod ({ cls := "java/util/AbstractList", name := "listIterator", desc := "()Ljava/util/ListIterator;" } : Jvm.MethodName)) ∈ lw_tbl := lw_at lw_m12 145 rfl


/-! java/util/AbstractSequentialList -/
set_option maxRecDepth 100000
def RJ9 : String := "java/util/AbstractSequentialList"
abbrev cJ9_init : ByteArray := prog_51_method_1_code
def yJ9_init : MethodName := ⟨RJ9, "<init>", "()V"⟩
theorem dJ9_init_0 : decode cJ9_init 0 = .ok (.aload_n 0, 1) := by decide +kernel
theorem dJ9_init_1 : decode cJ9_init 1 = .ok (.invokespecial 1, 3) := by decide +kernel
theorem dJ9_init_4 : decode cJ9_init 4 = .ok (.return_, 1) := by decide +kernel
abbrev cJ9_iterator : ByteArray := prog_51_method_7_code
def yJ9_iterator : MethodName := ⟨RJ9, "iterator", "()Ljava/util/Iterator;"⟩
theorem dJ9_iterator_0 : decode cJ9_iterator 0 = .ok (.aload_n 0, 1) := by decide +kernel
theorem dJ9_iterator_1 : decode cJ9_iterator 1 = .ok (.invokevirtual 65, 3) := by decide +kernel
theorem dJ9_iterator_4 : decode cJ9_iterator 4 = .ok (.areturn, 1) := by decide +kernel
theorem q115 : (Jvm.Cond.initialized "java/util/AbstractSequentialList") ∈ lw_all := lw_g (lw_at lw_m1 14 rfl) rfl
theorem q289 : (Jvm.Cond.instanceMethod ({ cls := "java/util/AbstractSequentialList", name := "<init>", desc := "()V" } : Jvm.MethodName)) ∈ lw_all := lw_g (lw_at lw_m1 188 rfl) rfl
theorem q290 : (Jvm.Cond.code ({ cls := "java/util/AbstractSequentialList", name := "<init>", desc := "()V" } : Jvm.MethodName) prog_51_method_1_code (1 : Nat) (Option.none : Option Jvm.ClassFile.FieldType)) ∈ lw_all := lw_g (lw_at lw_m1 189 rfl) rfl
theorem q291 : (Jvm.Cond.methodLink "java/util/AbstractSequentialList" (1 : Nat) ({ cls := "java/util/AbstractList", name := "<init>", desc := "()V" } : Jvm.MethodName)) ∈ lw_all := lw_g (lw_at lw_m1 190 rfl) rfl
theorem q1235 : (Jvm.Cond.instanceMethod ({ cls := "java/util/AbstractSequentialList", name := "iterator", desc := "()Ljava/util/Iterator;" } : Jvm.MethodName)) ∈ lw_all := lw_g (lw_at lw_m5 174 rfl) rfl
theorem q1236 : (Jvm.Cond.code ({ cls := "java/util/AbstractSequentialList", name := "iterator", desc := "()Ljava/util/Iterator;" } : Jvm.MethodName) prog_51_method_7_code (1 : Nat) (Option.some (Jvm.ClassFile.FieldType.object "java/util/Iterator"))) ∈ lw_all := lw_g (lw_at lw_m5 175 rfl) rfl
theorem q1237 : (Jvm.Cond.methodLink "java/util/AbstractSequentialList" (65 : Nat) ({ cls := "java/util/AbstractSequentialList", name := "listIterator", desc := "()Ljava/util/ListIterator;" } : Jvm.MethodName)) ∈ lw_all := lw_g (lw_at lw_m5 176 rfl) rfl
theorem q1238 : (Jvm.Cond.sameMethod "java/util/AbstractSequentialList" "java/util/AbstractList" "listIterator" "()Ljava/util/ListIterator;") ∈ lw_all := lw_g (lw_at lw_m5 177 rfl) rfl
theorem q2353 : (Jvm.Cond.declares ({ cls := "java/util/AbstractSequentialList", name := "iterator", desc := "()Ljava/util/Iterator;" } : Jvm.MethodName)) ∈ lw_tbl := lw_at lw_m10 92 rfl


/-! java/util/Arrays -/
set_option maxRecDepth 100000
def RJ13 : String := "java/util/Arrays"
abbrev cJ13_copyOf : ByteArray := prog_59_method_119_code
def yJ13_copyOf : MethodName := ⟨RJ13, "copyOf", "([Ljava/lang/Object;I)[Ljava/lang/Object;"⟩
def dkwJ13_copyOf_0 : List UInt8 := [42, 27, 42, 182, 0, 86, 184, 1, 44, 176]
abbrev dktJ13_copyOf_0 : List UInt8 := dkwJ13_copyOf_0 ++ []
theorem dksJ13_copyOf_0 : cJ13_copyOf.data.toList.drop 0 = dktJ13_copyOf_0 := by decide +kernel
theorem dJ13_copyOf_0 : decode cJ13_copyOf 0 = .ok (.aload_n 0, 1) := dk_42 (dk_at dksJ13_copyOf_0 0 rfl rfl)
theorem dJ13_copyOf_1 : decode cJ13_copyOf 1 = .ok (.iload_n 1, 1) := dk_27 (dk_at dksJ13_copyOf_0 1 rfl rfl)
theorem dJ13_copyOf_2 : decode cJ13_copyOf 2 = .ok (.aload_n 0, 1) := dk_42 (dk_at dksJ13_copyOf_0 2 rfl rfl)
theorem dJ13_copyOf_3 : decode cJ13_copyOf 3 = .ok (.invokevirtual 86, 3) := dk_182 0 86 (dk_at dksJ13_copyOf_0 3 rfl rfl)
theorem dJ13_copyOf_6 : decode cJ13_copyOf 6 = .ok (.invokestatic 300, 3) := dk_184 1 44 (dk_at dksJ13_copyOf_0 6 rfl rfl)
theorem dJ13_copyOf_9 : decode cJ13_copyOf 9 = .ok (.areturn, 1) := dk_176 (dk_at dksJ13_copyOf_0 9 rfl rfl)
abbrev cJ13_copyOf_2 : ByteArray := prog_59_method_120_code
def yJ13_copyOf_2 : MethodName := ⟨RJ13, "copyOf", "([Ljava/lang/Object;ILjava/lang/Class;)[Ljava/lang/Object;"⟩
def dkwJ13_copyOf_2_1 : List UInt8 := [78, 42, 3, 45, 3, 42, 190, 27, 184, 1, 48, 184, 0, 150, 45, 176]
abbrev dktJ13_copyOf_2_1 : List UInt8 := dkwJ13_copyOf_2_1 ++ []
def dkwJ13_copyOf_2_0 : List UInt8 := [44, 18, 110, 166, 0, 10, 27, 189, 0, 2, 167, 0, 14, 44, 182, 0, 90, 27, 184, 0, 95, 192, 0, 110]
abbrev dktJ13_copyOf_2_0 : List UInt8 := dkwJ13_copyOf_2_0 ++ dktJ13_copyOf_2_1
theorem dksJ13_copyOf_2_0 : cJ13_copyOf_2.data.toList.drop 0 = dktJ13_copyOf_2_0 := by decide +kernel
theorem dksJ13_copyOf_2_1 : cJ13_copyOf_2.data.toList.drop 24 = dktJ13_copyOf_2_1 := dk_seg dksJ13_copyOf_2_0 24 rfl rfl
theorem dJ13_copyOf_2_0 : decode cJ13_copyOf_2 0 = .ok (.aload_n 2, 1) := dk_44 (dk_at dksJ13_copyOf_2_0 0 rfl rfl)
theorem dJ13_copyOf_2_1 : decode cJ13_copyOf_2 1 = .ok (.ldc 110, 2) := dk_18 110 (dk_at dksJ13_copyOf_2_0 1 rfl rfl)
theorem dJ13_copyOf_2_3 : decode cJ13_copyOf_2 3 = .ok (.if_acmp .ne 10, 3) := dk_166 0 10 (dk_at dksJ13_copyOf_2_0 3 rfl rfl)
theorem dJ13_copyOf_2_6 : decode cJ13_copyOf_2 6 = .ok (.iload_n 1, 1) := dk_27 (dk_at dksJ13_copyOf_2_0 6 rfl rfl)
theorem dJ13_copyOf_2_7 : decode cJ13_copyOf_2 7 = .ok (.anewarray 2, 3) := dk_189 0 2 (dk_at dksJ13_copyOf_2_0 7 rfl rfl)
theorem dJ13_copyOf_2_10 : decode cJ13_copyOf_2 10 = .ok (.goto 14, 3) := dk_167 0 14 (dk_at dksJ13_copyOf_2_0 10 rfl rfl)
theorem dJ13_copyOf_2_13 : decode cJ13_copyOf_2 13 = .ok (.aload_n 2, 1) := dk_44 (dk_at dksJ13_copyOf_2_0 13 rfl rfl)
theorem dJ13_copyOf_2_14 : decode cJ13_copyOf_2 14 = .ok (.invokevirtual 90, 3) := dk_182 0 90 (dk_at dksJ13_copyOf_2_0 14 rfl rfl)
theorem dJ13_copyOf_2_17 : decode cJ13_copyOf_2 17 = .ok (.iload_n 1, 1) := dk_27 (dk_at dksJ13_copyOf_2_0 17 rfl rfl)
theorem dJ13_copyOf_2_18 : decode cJ13_copyOf_2 18 = .ok (.invokestatic 95, 3) := dk_184 0 95 (dk_at dksJ13_copyOf_2_0 18 rfl rfl)
theorem dJ13_copyOf_2_21 : decode cJ13_copyOf_2 21 = .ok (.checkcast 110, 3) := dk_192 0 110 (dk_at dksJ13_copyOf_2_0 21 rfl rfl)
theorem dJ13_copyOf_2_24 : decode cJ13_copyOf_2 24 = .ok (.astore_n 3, 1) := dk_78 (dk_at dksJ13_copyOf_2_1 0 rfl rfl)
theorem dJ13_copyOf_2_25 : decode cJ13_copyOf_2 25 = .ok (.aload_n 0, 1) := dk_42 (dk_at dksJ13_copyOf_2_1 1 rfl rfl)
theorem dJ13_copyOf_2_26 : decode cJ13_copyOf_2 26 = .ok (.iconst 0, 1) := dk_3 (dk_at dksJ13_copyOf_2_1 2 rfl rfl)
theorem dJ13_copyOf_2_27 : decode cJ13_copyOf_2 27 = .ok (.aload_n 3, 1) := dk_45 (dk_at dksJ13_copyOf_2_1 3 rfl rfl)
theorem dJ13_copyOf_2_28 : decode cJ13_copyOf_2 28 = .ok (.iconst 0, 1) := dk_3 (dk_at dksJ13_copyOf_2_1 4 rfl rfl)
theorem dJ13_copyOf_2_29 : decode cJ13_copyOf_2 29 = .ok (.aload_n 0, 1) := dk_42 (dk_at dksJ13_copyOf_2_1 5 rfl rfl)
theorem dJ13_copyOf_2_30 : decode cJ13_copyOf_2 30 = .ok (.arraylength, 1) := dk_190 (dk_at dksJ13_copyOf_2_1 6 rfl rfl)
theorem dJ13_copyOf_2_31 : decode cJ13_copyOf_2 31 = .ok (.iload_n 1, 1) := dk_27 (dk_at dksJ13_copyOf_2_1 7 rfl rfl)
theorem dJ13_copyOf_2_32 : decode cJ13_copyOf_2 32 = .ok (.invokestatic 304, 3) := dk_184 1 48 (dk_at dksJ13_copyOf_2_1 8 rfl rfl)
theorem dJ13_copyOf_2_35 : decode cJ13_copyOf_2 35 = .ok (.invokestatic 150, 3) := dk_184 0 150 (dk_at dksJ13_copyOf_2_1 11 rfl rfl)
theorem dJ13_copyOf_2_38 : decode cJ13_copyOf_2 38 = .ok (.aload_n 3, 1) := dk_45 (dk_at dksJ13_copyOf_2_1 14 rfl rfl)
theorem dJ13_copyOf_2_39 : decode cJ13_copyOf_2 39 = .ok (.areturn, 1) := dk_176 (dk_at dksJ13_copyOf_2_1 15 rfl rfl)
abbrev cJ13_copyOf_4 : ByteArray := prog_59_method_124_code
def yJ13_copyOf_4 : MethodName := ⟨RJ13, "copyOf", "([JI)[J"⟩
def dkwJ13_copyOf_4_1 : List UInt8 := [27, 184, 1, 48, 184, 0, 150, 44, 176]
abbrev dktJ13_copyOf_4_1 : List UInt8 := dkwJ13_copyOf_4_1 ++ []
def dkwJ13_copyOf_4_0 : List UInt8 := [27, 42, 190, 160, 0, 11, 42, 182, 1, 63, 192, 1, 64, 176, 27, 188, 11, 77, 42, 3, 44, 3, 42, 190]
abbrev dktJ13_copyOf_4_0 : List UInt8 := dkwJ13_copyOf_4_0 ++ dktJ13_copyOf_4_1
theorem dksJ13_copyOf_4_0 : cJ13_copyOf_4.data.toList.drop 0 = dktJ13_copyOf_4_0 := by decide +kernel
theorem dksJ13_copyOf_4_1 : cJ13_copyOf_4.data.toList.drop 24 = dktJ13_copyOf_4_1 := dk_seg dksJ13_copyOf_4_0 24 rfl rfl
theorem dJ13_copyOf_4_0 : decode cJ13_copyOf_4 0 = .ok (.iload_n 1, 1) := dk_27 (dk_at dksJ13_copyOf_4_0 0 rfl rfl)
theorem dJ13_copyOf_4_1 : decode cJ13_copyOf_4 1 = .ok (.aload_n 0, 1) := dk_42 (dk_at dksJ13_copyOf_4_0 1 rfl rfl)
theorem dJ13_copyOf_4_2 : decode cJ13_copyOf_4 2 = .ok (.arraylength, 1) := dk_190 (dk_at dksJ13_copyOf_4_0 2 rfl rfl)
theorem dJ13_copyOf_4_3 : decode cJ13_copyOf_4 3 = .ok (.if_icmp .ne 11, 3) := dk_160 0 11 (dk_at dksJ13_copyOf_4_0 3 rfl rfl)
theorem dJ13_copyOf_4_6 : decode cJ13_copyOf_4 6 = .ok (.aload_n 0, 1) := dk_42 (dk_at dksJ13_copyOf_4_0 6 rfl rfl)
theorem dJ13_copyOf_4_7 : decode cJ13_copyOf_4 7 = .ok (.invokevirtual 319, 3) := dk_182 1 63 (dk_at dksJ13_copyOf_4_0 7 rfl rfl)
theorem dJ13_copyOf_4_10 : decode cJ13_copyOf_4 10 = .ok (.checkcast 320, 3) := dk_192 1 64 (dk_at dksJ13_copyOf_4_0 10 rfl rfl)
theorem dJ13_copyOf_4_13 : decode cJ13_copyOf_4 13 = .ok (.areturn, 1) := dk_176 (dk_at dksJ13_copyOf_4_0 13 rfl rfl)
theorem dJ13_copyOf_4_14 : decode cJ13_copyOf_4 14 = .ok (.iload_n 1, 1) := dk_27 (dk_at dksJ13_copyOf_4_0 14 rfl rfl)
theorem dJ13_copyOf_4_15 : decode cJ13_copyOf_4 15 = .ok (.newarray .long, 2) := dk_188_11 (dk_at dksJ13_copyOf_4_0 15 rfl rfl)
theorem dJ13_copyOf_4_17 : decode cJ13_copyOf_4 17 = .ok (.astore_n 2, 1) := dk_77 (dk_at dksJ13_copyOf_4_0 17 rfl rfl)
theorem dJ13_copyOf_4_18 : decode cJ13_copyOf_4 18 = .ok (.aload_n 0, 1) := dk_42 (dk_at dksJ13_copyOf_4_0 18 rfl rfl)
theorem dJ13_copyOf_4_19 : decode cJ13_copyOf_4 19 = .ok (.iconst 0, 1) := dk_3 (dk_at dksJ13_copyOf_4_0 19 rfl rfl)
theorem dJ13_copyOf_4_20 : decode cJ13_copyOf_4 20 = .ok (.aload_n 2, 1) := dk_44 (dk_at dksJ13_copyOf_4_0 20 rfl rfl)
theorem dJ13_copyOf_4_21 : decode cJ13_copyOf_4 21 = .ok (.iconst 0, 1) := dk_3 (dk_at dksJ13_copyOf_4_0 21 rfl rfl)
theorem dJ13_copyOf_4_22 : decode cJ13_copyOf_4 22 = .ok (.aload_n 0, 1) := dk_42 (dk_at dksJ13_copyOf_4_0 22 rfl rfl)
theorem dJ13_copyOf_4_23 : decode cJ13_copyOf_4 23 = .ok (.arraylength, 1) := dk_190 (dk_at dksJ13_copyOf_4_0 23 rfl rfl)
theorem dJ13_copyOf_4_24 : decode cJ13_copyOf_4 24 = .ok (.iload_n 1, 1) := dk_27 (dk_at dksJ13_copyOf_4_1 0 rfl rfl)
theorem dJ13_copyOf_4_25 : decode cJ13_copyOf_4 25 = .ok (.invokestatic 304, 3) := dk_184 1 48 (dk_at dksJ13_copyOf_4_1 1 rfl rfl)
theorem dJ13_copyOf_4_28 : decode cJ13_copyOf_4 28 = .ok (.invokestatic 150, 3) := dk_184 0 150 (dk_at dksJ13_copyOf_4_1 4 rfl rfl)
theorem dJ13_copyOf_4_31 : decode cJ13_copyOf_4 31 = .ok (.aload_n 2, 1) := dk_44 (dk_at dksJ13_copyOf_4_1 7 rfl rfl)
theorem dJ13_copyOf_4_32 : decode cJ13_copyOf_4 32 = .ok (.areturn, 1) := dk_176 (dk_at dksJ13_copyOf_4_1 8 rfl rfl)
theorem q120 : (Jvm.Cond.initialized "java/util/Arrays") ∈ lw_all := lw_g (lw_at lw_m1 19 rfl) rfl
theorem q381 : (Jvm.Cond.static ({ cls := "java/util/Arrays", name := "copyOf", desc := "([Ljava/lang/Object;I)[Ljava/lang/Object;" } : Jvm.MethodName)) ∈ lw_all := lw_g (lw_at lw_m2 40 rfl) rfl
theorem q382 : (Jvm.Cond.code ({ cls := "java/util/Arrays", name := "copyOf", desc := "([Ljava/lang/Object;I)[Ljava/lang/Object;" } : Jvm.MethodName) prog_59_method_119_code (2 : Nat) (Option.some (Jvm.ClassFile.FieldType.array (Jvm.ClassFile.FieldType.object "java/lang/Object")))) ∈ lw_all := lw_g (lw_at lw_m2 41 rfl) rfl
theorem q383 : (Jvm.Cond.methodLink "java/util/Arrays" (86 : Nat) ({ cls := "java/lang/Object", name := "getClass", desc := "()Ljava/lang/Class;" } : Jvm.MethodName)) ∈ lw_all := lw_g (lw_at lw_m2 42 rfl) rfl
theorem q432 : (Jvm.Cond.methodLink "java/util/Arrays" (300 : Nat) ({ cls := "java/util/Arrays", name := "copyOf", desc := "([Ljava/lang/Object;ILjava/lang/Class;)[Ljava/lang/Object;" } : Jvm.MethodName)) ∈ lw_all := lw_g (lw_at lw_m2 91 rfl) rfl
theorem q433 : (Jvm.Cond.static ({ cls := "java/util/Arrays", name := "copyOf", desc := "([Ljava/lang/Object;ILjava/lang/Class;)[Ljava/lang/Object;" } : Jvm.MethodName)) ∈ lw_all := lw_g (lw_at lw_m2 92 rfl) rfl
theorem q434 : (Jvm.Cond.code ({ cls := "java/util/Arrays", name := "copyOf", desc := "([Ljava/lang/Object;ILjava/lang/Class;)[Ljava/lang/Object;" } : Jvm.MethodName) prog_59_method_120_code (4 : Nat) (Option.some (Jvm.ClassFile.FieldType.array (Jvm.ClassFile.FieldType.object "java/lang/Object")))) ∈ lw_all := lw_g (lw_at lw_m2 93 rfl) rfl
theorem q435 : (Jvm.Cond.classLink "java/util/Arrays" (110 : Nat) "[Ljava/lang/Object;") ∈ lw_all := lw_g (lw_at lw_m2 94 rfl) rfl
theorem q437 : (Jvm.Cond.classLink "java/util/Arrays" (2 : Nat) "java/lang/Object") ∈ lw_all := lw_g (lw_at lw_m2 96 rfl) rfl
theorem q438 : (Jvm.Cond.methodLink "java/util/Arrays" (304 : Nat) ({ cls := "java/lang/Math", name := "min", desc := "(II)I" } : Jvm.MethodName)) ∈ lw_all := lw_g (lw_at lw_m2 97 rfl) rfl
theorem q786 : (Jvm.Cond.static ({ cls := "java/util/Arrays", name := "copyOf", desc := "([BI)[B" } : Jvm.MethodName)) ∈ lw_all := lw_g (lw_at lw_m3 205 rfl) rfl
theorem q787 : (Jvm.Cond.code ({ cls := "java/util/Arrays", name := "copyOf", desc := "([BI)[B" } : Jvm.MethodName) prog_59_method_121_code (3 : Nat) (Option.some (Jvm.ClassFile.FieldType.array Jvm.ClassFile.FieldType.byte))) ∈ lw_all := lw_g (lw_at lw_m3 206 rfl) rfl
theorem q788 : (Jvm.Cond.methodLink "java/util/Arrays" (310 : Nat) ({ cls := "[B", name := "clone", desc := "()Ljava/lang/Object;" } : Jvm.MethodName)) ∈ lw_all := lw_g (lw_at lw_m3 207 rfl) rfl
theorem q794 : (Jvm.Cond.classLink "java/util/Arrays" (311 : Nat) "[B") ∈ lw_all := lw_g (lw_at lw_m3 213 rfl) rfl
theorem q923 : (Jvm.Cond.static ({ cls := "java/util/Arrays", name := "copyOfRange", desc := "([BII)[B" } : Jvm.MethodName)) ∈ lw_all := lw_g (lw_at lw_m4 102 rfl) rfl
theorem q924 : (Jvm.Cond.code ({ cls := "java/util/Arrays", name := "copyOfRange", desc := "([BII)[B" } : Jvm.MethodName) prog_59_method_132_code (3 : Nat) (Option.some (Jvm.ClassFile.FieldType.array Jvm.ClassFile.FieldType.byte))) ∈ lw_all := lw_g (lw_at lw_m4 103 rfl) rfl
theorem q925 : (Jvm.Cond.methodLink "java/util/Arrays" (339 : Nat) ({ cls := "java/util/Arrays", name := "copyOfRangeByte", desc := "([BII)[B" } : Jvm.MethodName)) ∈ lw_all := lw_g (lw_at lw_m4 104 rfl) rfl
theorem q926 : (Jvm.Cond.static ({ cls := "java/util/Arrays", name := "copyOfRangeByte", desc := "([BII)[B" } : Jvm.MethodName)) ∈ lw_all := lw_g (lw_at lw_m4 105 rfl) rfl
theorem q927 : (Jvm.Cond.code ({ cls := "java/util/Arrays", name := "copyOfRangeByte", desc := "([BII)[B" } : Jvm.MethodName) prog_59_method_133_code (5 : Nat) (Option.some (Jvm.ClassFile.FieldType.array Jvm.ClassFile.FieldType.byte))) ∈ lw_all := lw_g (lw_at lw_m4 106 rfl) rfl
theorem q928 : (Jvm.Cond.methodLink "java/util/Arrays" (343 : Nat) ({ cls := "java/util/Arrays", name := "checkLength", desc := "(II)V" } : Jvm.MethodName)) ∈ lw_all := lw_g (lw_at lw_m4 107 rfl) rfl
theorem q929 : (Jvm.Cond.static ({ cls := "java/util/Arrays", name := "checkLength", desc := "(II)V" } : Jvm.MethodName)) ∈ lw_all := lw_g (lw_at lw_m4 108 rfl) rfl
theorem q930 : (Jvm.Cond.code ({ cls := "java/util/Arrays", name := "checkLength", desc := "(II)V" } : Jvm.MethodName) prog_59_method_131_code (2 : Nat) (Option.none : Option Jvm.ClassFile.FieldType)) ∈ lw_all := lw_g (lw_at lw_m4 109 rfl) rfl
theorem q931 : (Jvm.Cond.classLink "java/util/Arrays" (43 : Nat) "java/lang/IllegalArgumentException") ∈ lw_all := lw_g (lw_at lw_m4 110 rfl) rfl
theorem q940 : (Jvm.Cond.classLink "java/util/Arrays" (45 : Nat) "java/lang/StringBuilder") ∈ lw_all := lw_g (lw_at lw_m4 119 rfl) rfl
theorem q941 : (Jvm.Cond.methodLink "java/util/Arrays" (47 : Nat) ({ cls := "java/lang/StringBuilder", name := "<init>", desc := "()V" } : Jvm.MethodName)) ∈ lw_all := lw_g (lw_at lw_m4 120 rfl) rfl
theorem q942 : (Jvm.Cond.methodLink "java/util/Arrays" (54 : Nat) ({ cls := "java/lang/StringBuilder", name := "append", desc := "(I)Ljava/lang/StringBuilder;" } : Jvm.MethodName)) ∈ lw_all := lw_g (lw_at lw_m4 121 rfl) rfl
theorem q943 : (Jvm.Cond.stringRef "java/util/Arrays" (337 : Nat) " > ") ∈ lw_tbl := lw_at lw_m4 122 rfl
theorem q944 : (Jvm.Cond.methodLink "java/util/Arrays" (50 : Nat) ({ cls := "java/lang/StringBuilder", name := "append", desc := "(Ljava/lang/String;)Ljava/lang/StringBuilder;" } : Jvm.MethodName)) ∈ lw_all := lw_g (lw_at lw_m4 123 rfl) rfl
theorem q945 : (Jvm.Cond.methodLink "java/util/Arrays" (61 : Nat) ({ cls := "java/lang/StringBuilder", name := "toString", desc := "()Ljava/lang/String;" } : Jvm.MethodName)) ∈ lw_all := lw_g (lw_at lw_m4 124 rfl) rfl
theorem q946 : (Jvm.Cond.methodLink "java/util/Arrays" (65 : Nat) ({ cls := "java/lang/IllegalArgumentException", name := "<init>", desc := "(Ljava/lang/String;)V" } : Jvm.MethodName)) ∈ lw_all := lw_g (lw_at lw_m4 125 rfl) rfl
theorem q1660 : (Jvm.Cond.static ({ cls := "java/util/Arrays", name := "copyOfRange", desc := "([Ljava/lang/Object;IILjava/lang/Class;)[Ljava/lang/Object;" } : Jvm.MethodName)) ∈ lw_all := lw_g (lw_at lw_m7 119 rfl) rfl
theorem q1661 : (Jvm.Cond.code ({ cls := "java/util/Arrays", name := "copyOfRange", desc := "([Ljava/lang/Object;IILjava/lang/Class;)[Ljava/lang/Object;" } : Jvm.MethodName) prog_59_method_130_code (6 : Nat) (Option.some (Jvm.ClassFile.FieldType.array (Jvm.ClassFile.FieldType.object "java/lang/Object")))) ∈ lw_all := lw_g (lw_at lw_m7 120 rfl) rfl
theorem q1676 : (Jvm.Cond.static ({ cls := "java/util/Arrays", name := "copyOfRange", desc := "([Ljava/lang/Object;II)[Ljava/lang/Object;" } : Jvm.MethodName)) ∈ lw_all := lw_g (lw_at lw_m7 135 rfl) rfl
theorem q1677 : (Jvm.Cond.code ({ cls := "java/util/Arrays", name := "copyOfRange", desc := "([Ljava/lang/Object;II)[Ljava/lang/Object;" } : Jvm.MethodName) prog_59_method_129_code (3 : Nat) (Option.some (Jvm.ClassFile.FieldType.array (Jvm.ClassFile.FieldType.object "java/lang/Object")))) ∈ lw_all := lw_g (lw_at lw_m7 136 rfl) rfl
theorem q1678 : (Jvm.Cond.methodLink "java/util/Arrays" (334 : Nat) ({ cls := "java/util/Arrays", name := "copyOfRange", desc := "([Ljava/lang/Object;IILjava/lang/Class;)[Ljava/lang/Object;" } : Jvm.MethodName)) ∈ lw_all := lw_g (lw_at lw_m7 137 rfl) rfl
theorem q3362 : (Jvm.Cond.static ({ cls := "java/util/Arrays", name := "copyOf", desc := "([JI)[J" } : Jvm.MethodName)) ∈ lw_all := lw_g (lw_at lw_m14 141 rfl) rfl
theorem q3363 : (Jvm.Cond.code ({ cls := "java/util/Arrays", name := "copyOf", desc := "([JI)[J" } : Jvm.MethodName) prog_59_method_124_code (3 : Nat) (Option.some (Jvm.ClassFile.FieldType.array Jvm.ClassFile.FieldType.long))) ∈ lw_all := lw_g (lw_at lw_m14 142 rfl) rfl
theorem q3364 : (Jvm.Cond.methodLink "java/util/Arrays" (319 : Nat) ({ cls := "[J", name := "clone", desc := "()Ljava/lang/Object;" } : Jvm.MethodName)) ∈ lw_all := lw_g (lw_at lw_m14 143 rfl) rfl
theorem q3365 : (Jvm.Cond.classLink "java/util/Arrays" (320 : Nat) "[J") ∈ lw_all := lw_g (lw_at lw_m14 144 rfl) rfl


/-! java/util/ArrayDeque -/
set_option maxRecDepth 100000
abbrev cJ14_init : ByteArray := prog_52_method_3_code
def yJ14_init : MethodName := ⟨RJ14, "<init>", "()V"⟩
def dkwJ14_init_0 : List UInt8 := [42, 183, 0, 42, 42, 16, 17, 189, 0, 47, 181, 0, 3, 177]
abbrev dktJ14_init_0 : List UInt8 := dkwJ14_init_0 ++ []
theorem dksJ14_init_0 : cJ14_init.data.toList.drop 0 = dktJ14_init_0 := by decide +kernel
theorem dJ14_init_0 : decode cJ14_init 0 = .ok (.aload_n 0, 1) := dk_42 (dk_at dksJ14_init_0 0 rfl rfl)
theorem dJ14_init_1 : decode cJ14_init 1 = .ok (.invokespecial 42, 3) := dk_183 0 42 (dk_at dksJ14_init_0 1 rfl rfl)
theorem dJ14_init_4 : decode cJ14_init 4 = .ok (.aload_n 0, 1) := dk_42 (dk_at dksJ14_init_0 4 rfl rfl)
theorem dJ14_init_5 : decode cJ14_init 5 = .ok (.bipush 17, 2) := dk_16 17 (dk_at dksJ14_init_0 5 rfl rfl)
theorem dJ14_init_7 : decode cJ14_init 7 = .ok (.anewarray 47, 3) := dk_189 0 47 (dk_at dksJ14_init_0 7 rfl rfl)
theorem dJ14_init_10 : decode cJ14_init 10 = .ok (.putfield 3, 3) := dk_181 0 3 (dk_at dksJ14_init_0 10 rfl rfl)
theorem dJ14_init_13 : decode cJ14_init 13 = .ok (.return_, 1) := dk_177 (dk_at dksJ14_init_0 13 rfl rfl)
abbrev cJ14_size : ByteArray := prog_52_method_37_code
def yJ14_size : MethodName := ⟨RJ14, "size", "()I"⟩
def dkwJ14_size_0 : List UInt8 := [42, 180, 0, 20, 42, 180, 0, 24, 42, 180, 0, 3, 190, 184, 0, 127, 172]
abbrev dktJ14_size_0 : List UInt8 := dkwJ14_size_0 ++ []
theorem dksJ14_size_0 : cJ14_size.data.toList.drop 0 = dktJ14_size_0 := by decide +kernel
theorem dJ14_size_0 : decode cJ14_size 0 = .ok (.aload_n 0, 1) := dk_42 (dk_at dksJ14_size_0 0 rfl rfl)
theorem dJ14_size_1 : decode cJ14_size 1 = .ok (.getfield 20, 3) := dk_180 0 20 (dk_at dksJ14_size_0 1 rfl rfl)
theorem dJ14_size_4 : decode cJ14_size 4 = .ok (.aload_n 0, 1) := dk_42 (dk_at dksJ14_size_0 4 rfl rfl)
theorem dJ14_size_5 : decode cJ14_size 5 = .ok (.getfield 24, 3) := dk_180 0 24 (dk_at dksJ14_size_0 5 rfl rfl)
theorem dJ14_size_8 : decode cJ14_size 8 = .ok (.aload_n 0, 1) := dk_42 (dk_at dksJ14_size_0 8 rfl rfl)
theorem dJ14_size_9 : decode cJ14_size 9 = .ok (.getfield 3, 3) := dk_180 0 3 (dk_at dksJ14_size_0 9 rfl rfl)
theorem dJ14_size_12 : decode cJ14_size 12 = .ok (.arraylength, 1) := dk_190 (dk_at dksJ14_size_0 12 rfl rfl)
theorem dJ14_size_13 : decode cJ14_size 13 = .ok (.invokestatic 127, 3) := dk_184 0 127 (dk_at dksJ14_size_0 13 rfl rfl)
theorem dJ14_size_16 : decode cJ14_size 16 = .ok (.ireturn, 1) := dk_172 (dk_at dksJ14_size_0 16 rfl rfl)
abbrev cJ14_sub : ByteArray := prog_52_method_9_code
def yJ14_sub : MethodName := ⟨RJ14, "sub", "(III)I"⟩
def dkwJ14_sub_0 : List UInt8 := [26, 27, 100, 89, 59, 156, 0, 7, 26, 28, 96, 59, 26, 172]
abbrev dktJ14_sub_0 : List UInt8 := dkwJ14_sub_0 ++ []
theorem dksJ14_sub_0 : cJ14_sub.data.toList.drop 0 = dktJ14_sub_0 := by decide +kernel
theorem dJ14_sub_0 : decode cJ14_sub 0 = .ok (.iload_n 0, 1) := dk_26 (dk_at dksJ14_sub_0 0 rfl rfl)
theorem dJ14_sub_1 : decode cJ14_sub 1 = .ok (.iload_n 1, 1) := dk_27 (dk_at dksJ14_sub_0 1 rfl rfl)
theorem dJ14_sub_2 : decode cJ14_sub 2 = .ok (.isub, 1) := dk_100 (dk_at dksJ14_sub_0 2 rfl rfl)
theorem dJ14_sub_3 : decode cJ14_sub 3 = .ok (.dup, 1) := dk_89 (dk_at dksJ14_sub_0 3 rfl rfl)
theorem dJ14_sub_4 : decode cJ14_sub 4 = .ok (.istore_n 0, 1) := dk_59 (dk_at dksJ14_sub_0 4 rfl rfl)
theorem dJ14_sub_5 : decode cJ14_sub 5 = .ok (.ifCond .ge 7, 3) := dk_156 0 7 (dk_at dksJ14_sub_0 5 rfl rfl)
theorem dJ14_sub_8 : decode cJ14_sub 8 = .ok (.iload_n 0, 1) := dk_26 (dk_at dksJ14_sub_0 8 rfl rfl)
theorem dJ14_sub_9 : decode cJ14_sub 9 = .ok (.iload_n 2, 1) := dk_28 (dk_at dksJ14_sub_0 9 rfl rfl)
theorem dJ14_sub_10 : decode cJ14_sub 10 = .ok (.iadd, 1) := dk_96 (dk_at dksJ14_sub_0 10 rfl rfl)
theorem dJ14_sub_11 : decode cJ14_sub 11 = .ok (.istore_n 0, 1) := dk_59 (dk_at dksJ14_sub_0 11 rfl rfl)
theorem dJ14_sub_12 : decode cJ14_sub 12 = .ok (.iload_n 0, 1) := dk_26 (dk_at dksJ14_sub_0 12 rfl rfl)
theorem dJ14_sub_13 : decode cJ14_sub 13 = .ok (.ireturn, 1) := dk_172 (dk_at dksJ14_sub_0 13 rfl rfl)
abbrev cJ14_inc : ByteArray := prog_52_method_6_code
def yJ14_inc : MethodName := ⟨RJ14, "inc", "(II)I"⟩
def dkwJ14_inc_0 : List UInt8 := [132, 0, 1, 26, 27, 161, 0, 5, 3, 59, 26, 172]
abbrev dktJ14_inc_0 : List UInt8 := dkwJ14_inc_0 ++ []
theorem dksJ14_inc_0 : cJ14_inc.data.toList.drop 0 = dktJ14_inc_0 := by decide +kernel
theorem dJ14_inc_0 : decode cJ14_inc 0 = .ok (.iinc 0 1, 3) := dk_132 0 1 (dk_at dksJ14_inc_0 0 rfl rfl)
theorem dJ14_inc_3 : decode cJ14_inc 3 = .ok (.iload_n 0, 1) := dk_26 (dk_at dksJ14_inc_0 3 rfl rfl)
theorem dJ14_inc_4 : decode cJ14_inc 4 = .ok (.iload_n 1, 1) := dk_27 (dk_at dksJ14_inc_0 4 rfl rfl)
theorem dJ14_inc_5 : decode cJ14_inc 5 = .ok (.if_icmp .lt 5, 3) := dk_161 0 5 (dk_at dksJ14_inc_0 5 rfl rfl)
theorem dJ14_inc_8 : decode cJ14_inc 8 = .ok (.iconst 0, 1) := dk_3 (dk_at dksJ14_inc_0 8 rfl rfl)
theorem dJ14_inc_9 : decode cJ14_inc 9 = .ok (.istore_n 0, 1) := dk_59 (dk_at dksJ14_inc_0 9 rfl rfl)
theorem dJ14_inc_10 : decode cJ14_inc 10 = .ok (.iload_n 0, 1) := dk_26 (dk_at dksJ14_inc_0 10 rfl rfl)
theorem dJ14_inc_11 : decode cJ14_inc 11 = .ok (.ireturn, 1) := dk_172 (dk_at dksJ14_inc_0 11 rfl rfl)
abbrev cJ14_removeFirst : ByteArray := prog_52_method_18_code
def yJ14_removeFirst : MethodName := ⟨RJ14, "removeFirst", "()Ljava/lang/Object;"⟩
def dkwJ14_removeFirst_0 : List UInt8 := [42, 182, 0, 93, 76, 43, 199, 0, 11, 187, 0, 97, 89, 183, 0, 99, 191, 43, 176]
abbrev dktJ14_removeFirst_0 : List UInt8 := dkwJ14_removeFirst_0 ++ []
theorem dksJ14_removeFirst_0 : cJ14_removeFirst.data.toList.drop 0 = dktJ14_removeFirst_0 := by decide +kernel
theorem dJ14_removeFirst_0 : decode cJ14_removeFirst 0 = .ok (.aload_n 0, 1) := dk_42 (dk_at dksJ14_removeFirst_0 0 rfl rfl)
theorem dJ14_removeFirst_1 : decode cJ14_removeFirst 1 = .ok (.invokevirtual 93, 3) := dk_182 0 93 (dk_at dksJ14_removeFirst_0 1 rfl rfl)
theorem dJ14_removeFirst_4 : decode cJ14_removeFirst 4 = .ok (.astore_n 1, 1) := dk_76 (dk_at dksJ14_removeFirst_0 4 rfl rfl)
theorem dJ14_removeFirst_5 : decode cJ14_removeFirst 5 = .ok (.aload_n 1, 1) := dk_43 (dk_at dksJ14_removeFirst_0 5 rfl rfl)
theorem dJ14_removeFirst_6 : decode cJ14_removeFirst 6 = .ok (.ifnonnull 11, 3) := dk_199 0 11 (dk_at dksJ14_removeFirst_0 6 rfl rfl)
theorem dJ14_removeFirst_9 : decode cJ14_removeFirst 9 = .ok (.new 97, 3) := dk_187 0 97 (dk_at dksJ14_removeFirst_0 9 rfl rfl)
theorem dJ14_removeFirst_12 : decode cJ14_removeFirst 12 = .ok (.dup, 1) := dk_89 (dk_at dksJ14_removeFirst_0 12 rfl rfl)
theorem dJ14_removeFirst_13 : decode cJ14_removeFirst 13 = .ok (.invokespecial 99, 3) := dk_183 0 99 (dk_at dksJ14_removeFirst_0 13 rfl rfl)
theorem dJ14_removeFirst_16 : decode cJ14_removeFirst 16 = .ok (.athrow, 1) := dk_191 (dk_at dksJ14_removeFirst_0 16 rfl rfl)
theorem dJ14_removeFirst_17 : decode cJ14_removeFirst 17 = .ok (.aload_n 1, 1) := dk_43 (dk_at dksJ14_removeFirst_0 17 rfl rfl)
theorem dJ14_removeFirst_18 : decode cJ14_removeFirst 18 = .ok (.areturn, 1) := dk_176 (dk_at dksJ14_removeFirst_0 18 rfl rfl)
abbrev cJ14_pollFirst : ByteArray := prog_52_method_20_code
def yJ14_pollFirst : MethodName := ⟨RJ14, "pollFirst", "()Ljava/lang/Object;"⟩
def dkwJ14_pollFirst_1 : List UInt8 := [42, 28, 43, 190, 184, 0, 74, 181, 0, 24, 45, 176]
abbrev dktJ14_pollFirst_1 : List UInt8 := dkwJ14_pollFirst_1 ++ []
def dkwJ14_pollFirst_0 : List UInt8 := [42, 180, 0, 3, 89, 76, 42, 180, 0, 24, 89, 61, 184, 0, 103, 78, 45, 198, 0, 17, 43, 28, 1, 83]
abbrev dktJ14_pollFirst_0 : List UInt8 := dkwJ14_pollFirst_0 ++ dktJ14_pollFirst_1
theorem dksJ14_pollFirst_0 : cJ14_pollFirst.data.toList.drop 0 = dktJ14_pollFirst_0 := by decide +kernel
theorem dksJ14_pollFirst_1 : cJ14_pollFirst.data.toList.drop 24 = dktJ14_pollFirst_1 := dk_seg dksJ14_pollFirst_0 24 rfl rfl
theorem dJ14_pollFirst_0 : decode cJ14_pollFirst 0 = .ok (.aload_n 0, 1) := dk_42 (dk_at dksJ14_pollFirst_0 0 rfl rfl)
theorem dJ14_pollFirst_1 : decode cJ14_pollFirst 1 = .ok (.getfield 3, 3) := dk_180 0 3 (dk_at dksJ14_pollFirst_0 1 rfl rfl)
theorem dJ14_pollFirst_4 : decode cJ14_pollFirst 4 = .ok (.dup, 1) := dk_89 (dk_at dksJ14_pollFirst_0 4 rfl rfl)
theorem dJ14_pollFirst_5 : decode cJ14_pollFirst 5 = .ok (.astore_n 1, 1) := dk_76 (dk_at dksJ14_pollFirst_0 5 rfl rfl)
theorem dJ14_pollFirst_6 : decode cJ14_pollFirst 6 = .ok (.aload_n 0, 1) := dk_42 (dk_at dksJ14_pollFirst_0 6 rfl rfl)
theorem dJ14_pollFirst_7 : decode cJ14_pollFirst 7 = .ok (.getfield 24, 3) := dk_180 0 24 (dk_at dksJ14_pollFirst_0 7 rfl rfl)
theorem dJ14_pollFirst_10 : decode cJ14_pollFirst 10 = .ok (.dup, 1) := dk_89 (dk_at dksJ14_pollFirst_0 10 rfl rfl)
theorem dJ14_pollFirst_11 : decode cJ14_pollFirst 11 = .ok (.istore_n 2, 1) := dk_61 (dk_at dksJ14_pollFirst_0 11 rfl rfl)
theorem dJ14_pollFirst_12 : decode cJ14_pollFirst 12 = .ok (.invokestatic 103, 3) := dk_184 0 103 (dk_at dksJ14_pollFirst_0 12 rfl rfl)
theorem dJ14_pollFirst_15 : decode cJ14_pollFirst 15 = .ok (.astore_n 3, 1) := dk_78 (dk_at dksJ14_pollFirst_0 15 rfl rfl)
theorem dJ14_pollFirst_16 : decode cJ14_pollFirst 16 = .ok (.aload_n 3, 1) := dk_45 (dk_at dksJ14_pollFirst_0 16 rfl rfl)
theorem dJ14_pollFirst_17 : decode cJ14_pollFirst 17 = .ok (.ifnull 17, 3) := dk_198 0 17 (dk_at dksJ14_pollFirst_0 17 rfl rfl)
theorem dJ14_pollFirst_20 : decode cJ14_pollFirst 20 = .ok (.aload_n 1, 1) := dk_43 (dk_at dksJ14_pollFirst_0 20 rfl rfl)
theorem dJ14_pollFirst_21 : decode cJ14_pollFirst 21 = .ok (.iload_n 2, 1) := dk_28 (dk_at dksJ14_pollFirst_0 21 rfl rfl)
theorem dJ14_pollFirst_22 : decode cJ14_pollFirst 22 = .ok (.aconst_null, 1) := dk_1 (dk_at dksJ14_pollFirst_0 22 rfl rfl)
theorem dJ14_pollFirst_23 : decode cJ14_pollFirst 23 = .ok (.aastore, 1) := dk_83 (dk_at dksJ14_pollFirst_0 23 rfl rfl)
theorem dJ14_pollFirst_24 : decode cJ14_pollFirst 24 = .ok (.aload_n 0, 1) := dk_42 (dk_at dksJ14_pollFirst_1 0 rfl rfl)
theorem dJ14_pollFirst_25 : decode cJ14_pollFirst 25 = .ok (.iload_n 2, 1) := dk_28 (dk_at dksJ14_pollFirst_1 1 rfl rfl)
theorem dJ14_pollFirst_26 : decode cJ14_pollFirst 26 = .ok (.aload_n 1, 1) := dk_43 (dk_at dksJ14_pollFirst_1 2 rfl rfl)
theorem dJ14_pollFirst_27 : decode cJ14_pollFirst 27 = .ok (.arraylength, 1) := dk_190 (dk_at dksJ14_pollFirst_1 3 rfl rfl)
theorem dJ14_pollFirst_28 : decode cJ14_pollFirst 28 = .ok (.invokestatic 74, 3) := dk_184 0 74 (dk_at dksJ14_pollFirst_1 4 rfl rfl)
theorem dJ14_pollFirst_31 : decode cJ14_pollFirst 31 = .ok (.putfield 24, 3) := dk_181 0 24 (dk_at dksJ14_pollFirst_1 7 rfl rfl)
theorem dJ14_pollFirst_34 : decode cJ14_pollFirst 34 = .ok (.aload_n 3, 1) := dk_45 (dk_at dksJ14_pollFirst_1 10 rfl rfl)
theorem dJ14_pollFirst_35 : decode cJ14_pollFirst 35 = .ok (.areturn, 1) := dk_176 (dk_at dksJ14_pollFirst_1 11 rfl rfl)
abbrev cJ14_elementAt : ByteArray := prog_52_method_10_code
def yJ14_elementAt : MethodName := ⟨RJ14, "elementAt", "([Ljava/lang/Object;I)Ljava/lang/Object;"⟩
def dkwJ14_elementAt_0 : List UInt8 := [42, 27, 50, 176]
abbrev dktJ14_elementAt_0 : List UInt8 := dkwJ14_elementAt_0 ++ []
theorem dksJ14_elementAt_0 : cJ14_elementAt.data.toList.drop 0 = dktJ14_elementAt_0 := by decide +kernel
theorem dJ14_elementAt_0 : decode cJ14_elementAt 0 = .ok (.aload_n 0, 1) := dk_42 (dk_at dksJ14_elementAt_0 0 rfl rfl)
theorem dJ14_elementAt_1 : decode cJ14_elementAt 1 = .ok (.iload_n 1, 1) := dk_27 (dk_at dksJ14_elementAt_0 1 rfl rfl)
theorem dJ14_elementAt_2 : decode cJ14_elementAt 2 = .ok (.aaload, 1) := dk_50 (dk_at dksJ14_elementAt_0 2 rfl rfl)
theorem dJ14_elementAt_3 : decode cJ14_elementAt 3 = .ok (.areturn, 1) := dk_176 (dk_at dksJ14_elementAt_0 3 rfl rfl)
abbrev cJ14_addLast : ByteArray := prog_52_method_13_code
def yJ14_addLast : MethodName := ⟨RJ14, "addLast", "(Ljava/lang/Object;)V"⟩
def dkwJ14_addLast_2 : List UInt8 := [182, 0, 71, 177]
abbrev dktJ14_addLast_2 : List UInt8 := dkwJ14_addLast_2 ++ []
def dkwJ14_addLast_1 : List UInt8 := [42, 180, 0, 24, 42, 42, 180, 0, 20, 44, 190, 184, 0, 74, 90, 181, 0, 20, 160, 0, 8, 42, 4]
abbrev dktJ14_addLast_1 : List UInt8 := dkwJ14_addLast_1 ++ dktJ14_addLast_2
def dkwJ14_addLast_0 : List UInt8 := [43, 199, 0, 11, 187, 0, 65, 89, 183, 0, 67, 191, 42, 180, 0, 3, 77, 44, 42, 180, 0, 20, 43, 83]
abbrev dktJ14_addLast_0 : List UInt8 := dkwJ14_addLast_0 ++ dktJ14_addLast_1
theorem dksJ14_addLast_0 : cJ14_addLast.data.toList.drop 0 = dktJ14_addLast_0 := by decide +kernel
theorem dksJ14_addLast_1 : cJ14_addLast.data.toList.drop 24 = dktJ14_addLast_1 := dk_seg dksJ14_addLast_0 24 rfl rfl
theorem dksJ14_addLast_2 : cJ14_addLast.data.toList.drop 47 = dktJ14_addLast_2 := dk_seg dksJ14_addLast_1 23 rfl rfl
theorem dJ14_addLast_0 : decode cJ14_addLast 0 = .ok (.aload_n 1, 1) := dk_43 (dk_at dksJ14_addLast_0 0 rfl rfl)
theorem dJ14_addLast_1 : decode cJ14_addLast 1 = .ok (.ifnonnull 11, 3) := dk_199 0 11 (dk_at dksJ14_addLast_0 1 rfl rfl)
theorem dJ14_addLast_4 : decode cJ14_addLast 4 = .ok (.new 65, 3) := dk_187 0 65 (dk_at dksJ14_addLast_0 4 rfl rfl)
theorem dJ14_addLast_7 : decode cJ14_addLast 7 = .ok (.dup, 1) := dk_89 (dk_at dksJ14_addLast_0 7 rfl rfl)
theorem dJ14_addLast_8 : decode cJ14_addLast 8 = .ok (.invokespecial 67, 3) := dk_183 0 67 (dk_at dksJ14_addLast_0 8 rfl rfl)
theorem dJ14_addLast_11 : decode cJ14_addLast 11 = .ok (.athrow, 1) := dk_191 (dk_at dksJ14_addLast_0 11 rfl rfl)
theorem dJ14_addLast_12 : decode cJ14_addLast 12 = .ok (.aload_n 0, 1) := dk_42 (dk_at dksJ14_addLast_0 12 rfl rfl)
theorem dJ14_addLast_13 : decode cJ14_addLast 13 = .ok (.getfield 3, 3) := dk_180 0 3 (dk_at dksJ14_addLast_0 13 rfl rfl)
theorem dJ14_addLast_16 : decode cJ14_addLast 16 = .ok (.astore_n 2, 1) := dk_77 (dk_at dksJ14_addLast_0 16 rfl rfl)
theorem dJ14_addLast_17 : decode cJ14_addLast 17 = .ok (.aload_n 2, 1) := dk_44 (dk_at dksJ14_addLast_0 17 rfl rfl)
theorem dJ14_addLast_18 : decode cJ14_addLast 18 = .ok (.aload_n 0, 1) := dk_42 (dk_at dksJ14_addLast_0 18 rfl rfl)
theorem dJ14_addLast_19 : decode cJ14_addLast 19 = .ok (.getfield 20, 3) := dk_180 0 20 (dk_at dksJ14_addLast_0 19 rfl rfl)
theorem dJ14_addLast_22 : decode cJ14_addLast 22 = .ok (.aload_n 1, 1) := dk_43 (dk_at dksJ14_addLast_0 22 rfl rfl)
theorem dJ14_addLast_23 : decode cJ14_addLast 23 = .ok (.aastore, 1) := dk_83 (dk_at dksJ14_addLast_0 23 rfl rfl)
theorem dJ14_addLast_24 : decode cJ14_addLast 24 = .ok (.aload_n 0, 1) := dk_42 (dk_at dksJ14_addLast_1 0 rfl rfl)
theorem dJ14_addLast_25 : decode cJ14_addLast 25 = .ok (.getfield 24, 3) := dk_180 0 24 (dk_at dksJ14_addLast_1 1 rfl rfl)
theorem dJ14_addLast_28 : decode cJ14_addLast 28 = .ok (.aload_n 0, 1) := dk_42 (dk_at dksJ14_addLast_1 4 rfl rfl)
theorem dJ14_addLast_29 : decode cJ14_addLast 29 = .ok (.aload_n 0, 1) := dk_42 (dk_at dksJ14_addLast_1 5 rfl rfl)
theorem dJ14_addLast_30 : decode cJ14_addLast 30 = .ok (.getfield 20, 3) := dk_180 0 20 (dk_at dksJ14_addLast_1 6 rfl rfl)
theorem dJ14_addLast_33 : decode cJ14_addLast 33 = .ok (.aload_n 2, 1) := dk_44 (dk_at dksJ14_addLast_1 9 rfl rfl)
theorem dJ14_addLast_34 : decode cJ14_addLast 34 = .ok (.arraylength, 1) := dk_190 (dk_at dksJ14_addLast_1 10 rfl rfl)
theorem dJ14_addLast_35 : decode cJ14_addLast 35 = .ok (.invokestatic 74, 3) := dk_184 0 74 (dk_at dksJ14_addLast_1 11 rfl rfl)
theorem dJ14_addLast_38 : decode cJ14_addLast 38 = .ok (.dup_x1, 1) := dk_90 (dk_at dksJ14_addLast_1 14 rfl rfl)
theorem dJ14_addLast_39 : decode cJ14_addLast 39 = .ok (.putfield 20, 3) := dk_181 0 20 (dk_at dksJ14_addLast_1 15 rfl rfl)
theorem dJ14_addLast_42 : decode cJ14_addLast 42 = .ok (.if_icmp .ne 8, 3) := dk_160 0 8 (dk_at dksJ14_addLast_1 18 rfl rfl)
theorem dJ14_addLast_45 : decode cJ14_addLast 45 = .ok (.aload_n 0, 1) := dk_42 (dk_at dksJ14_addLast_1 21 rfl rfl)
theorem dJ14_addLast_46 : decode cJ14_addLast 46 = .ok (.iconst 1, 1) := dk_4 (dk_at dksJ14_addLast_1 22 rfl rfl)
theorem dJ14_addLast_47 : decode cJ14_addLast 47 = .ok (.invokevirtual 71, 3) := dk_182 0 71 (dk_at dksJ14_addLast_2 0 rfl rfl)
theorem dJ14_addLast_50 : decode cJ14_addLast 50 = .ok (.return_, 1) := dk_177 (dk_at dksJ14_addLast_2 3 rfl rfl)
abbrev cJ14_dec : ByteArray := prog_52_method_7_code
def yJ14_dec : MethodName := ⟨RJ14, "dec", "(II)I"⟩
def dkwJ14_dec_0 : List UInt8 := [132, 0, 255, 26, 156, 0, 7, 27, 4, 100, 59, 26, 172]
abbrev dktJ14_dec_0 : List UInt8 := dkwJ14_dec_0 ++ []
theorem dksJ14_dec_0 : cJ14_dec.data.toList.drop 0 = dktJ14_dec_0 := by decide +kernel
theorem dJ14_dec_0 : decode cJ14_dec 0 = .ok (.iinc 0 (-1), 3) := dk_132 0 255 (dk_at dksJ14_dec_0 0 rfl rfl)
theorem dJ14_dec_3 : decode cJ14_dec 3 = .ok (.iload_n 0, 1) := dk_26 (dk_at dksJ14_dec_0 3 rfl rfl)
theorem dJ14_dec_4 : decode cJ14_dec 4 = .ok (.ifCond .ge 7, 3) := dk_156 0 7 (dk_at dksJ14_dec_0 4 rfl rfl)
theorem dJ14_dec_7 : decode cJ14_dec 7 = .ok (.iload_n 1, 1) := dk_27 (dk_at dksJ14_dec_0 7 rfl rfl)
theorem dJ14_dec_8 : decode cJ14_dec 8 = .ok (.iconst 1, 1) := dk_4 (dk_at dksJ14_dec_0 8 rfl rfl)
theorem dJ14_dec_9 : decode cJ14_dec 9 = .ok (.isub, 1) := dk_100 (dk_at dksJ14_dec_0 9 rfl rfl)
theorem dJ14_dec_10 : decode cJ14_dec 10 = .ok (.istore_n 0, 1) := dk_59 (dk_at dksJ14_dec_0 10 rfl rfl)
theorem dJ14_dec_11 : decode cJ14_dec 11 = .ok (.iload_n 0, 1) := dk_26 (dk_at dksJ14_dec_0 11 rfl rfl)
theorem dJ14_dec_12 : decode cJ14_dec 12 = .ok (.ireturn, 1) := dk_172 (dk_at dksJ14_dec_0 12 rfl rfl)
abbrev cJ14_isEmpty : ByteArray := prog_52_method_38_code
def yJ14_isEmpty : MethodName := ⟨RJ14, "isEmpty", "()Z"⟩
def dkwJ14_isEmpty_0 : List UInt8 := [42, 180, 0, 24, 42, 180, 0, 20, 160, 0, 7, 4, 167, 0, 4, 3, 172]
abbrev dktJ14_isEmpty_0 : List UInt8 := dkwJ14_isEmpty_0 ++ []
theorem dksJ14_isEmpty_0 : cJ14_isEmpty.data.toList.drop 0 = dktJ14_isEmpty_0 := by decide +kernel
theorem dJ14_isEmpty_0 : decode cJ14_isEmpty 0 = .ok (.aload_n 0, 1) := dk_42 (dk_at dksJ14_isEmpty_0 0 rfl rfl)
theorem dJ14_isEmpty_1 : decode cJ14_isEmpty 1 = .ok (.getfield 24, 3) := dk_180 0 24 (dk_at dksJ14_isEmpty_0 1 rfl rfl)
theorem dJ14_isEmpty_4 : decode cJ14_isEmpty 4 = .ok (.aload_n 0, 1) := dk_42 (dk_at dksJ14_isEmpty_0 4 rfl rfl)
theorem dJ14_isEmpty_5 : decode cJ14_isEmpty 5 = .ok (.getfield 20, 3) := dk_180 0 20 (dk_at dksJ14_isEmpty_0 5 rfl rfl)
theorem dJ14_isEmpty_8 : decode cJ14_isEmpty 8 = .ok (.if_icmp .ne 7, 3) := dk_160 0 7 (dk_at dksJ14_isEmpty_0 8 rfl rfl)
theorem dJ14_isEmpty_11 : decode cJ14_isEmpty 11 = .ok (.iconst 1, 1) := dk_4 (dk_at dksJ14_isEmpty_0 11 rfl rfl)
theorem dJ14_isEmpty_12 : decode cJ14_isEmpty 12 = .ok (.goto 4, 3) := dk_167 0 4 (dk_at dksJ14_isEmpty_0 12 rfl rfl)
theorem dJ14_isEmpty_15 : decode cJ14_isEmpty 15 = .ok (.iconst 0, 1) := dk_3 (dk_at dksJ14_isEmpty_0 15 rfl rfl)
theorem dJ14_isEmpty_16 : decode cJ14_isEmpty 16 = .ok (.ireturn, 1) := dk_172 (dk_at dksJ14_isEmpty_0 16 rfl rfl)
abbrev cJ14_removeLast : ByteArray := prog_52_method_19_code
def yJ14_removeLast : MethodName := ⟨RJ14, "removeLast", "()Ljava/lang/Object;"⟩
def dkwJ14_removeLast_0 : List UInt8 := [42, 182, 0, 100, 76, 43, 199, 0, 11, 187, 0, 97, 89, 183, 0, 99, 191, 43, 176]
abbrev dktJ14_removeLast_0 : List UInt8 := dkwJ14_removeLast_0 ++ []
theorem dksJ14_removeLast_0 : cJ14_removeLast.data.toList.drop 0 = dktJ14_removeLast_0 := by decide +kernel
theorem dJ14_removeLast_0 : decode cJ14_removeLast 0 = .ok (.aload_n 0, 1) := dk_42 (dk_at dksJ14_removeLast_0 0 rfl rfl)
theorem dJ14_removeLast_1 : decode cJ14_removeLast 1 = .ok (.invokevirtual 100, 3) := dk_182 0 100 (dk_at dksJ14_removeLast_0 1 rfl rfl)
theorem dJ14_removeLast_4 : decode cJ14_removeLast 4 = .ok (.astore_n 1, 1) := dk_76 (dk_at dksJ14_removeLast_0 4 rfl rfl)
theorem dJ14_removeLast_5 : decode cJ14_removeLast 5 = .ok (.aload_n 1, 1) := dk_43 (dk_at dksJ14_removeLast_0 5 rfl rfl)
theorem dJ14_removeLast_6 : decode cJ14_removeLast 6 = .ok (.ifnonnull 11, 3) := dk_199 0 11 (dk_at dksJ14_removeLast_0 6 rfl rfl)
theorem dJ14_removeLast_9 : decode cJ14_removeLast 9 = .ok (.new 97, 3) := dk_187 0 97 (dk_at dksJ14_removeLast_0 9 rfl rfl)
theorem dJ14_removeLast_12 : decode cJ14_removeLast 12 = .ok (.dup, 1) := dk_89 (dk_at dksJ14_removeLast_0 12 rfl rfl)
theorem dJ14_removeLast_13 : decode cJ14_removeLast 13 = .ok (.invokespecial 99, 3) := dk_183 0 99 (dk_at dksJ14_removeLast_0 13 rfl rfl)
theorem dJ14_removeLast_16 : decode cJ14_removeLast 16 = .ok (.athrow, 1) := dk_191 (dk_at dksJ14_removeLast_0 16 rfl rfl)
theorem dJ14_removeLast_17 : decode cJ14_removeLast 17 = .ok (.aload_n 1, 1) := dk_43 (dk_at dksJ14_removeLast_0 17 rfl rfl)
theorem dJ14_removeLast_18 : decode cJ14_removeLast 18 = .ok (.areturn, 1) := dk_176 (dk_at dksJ14_removeLast_0 18 rfl rfl)
abbrev cJ14_pollLast : ByteArray := prog_52_method_21_code
def yJ14_pollLast : MethodName := ⟨RJ14, "pollLast", "()Ljava/lang/Object;"⟩
def dkwJ14_pollLast_1 : List UInt8 := [198, 0, 12, 43, 42, 28, 90, 181, 0, 20, 1, 83, 45, 176]
abbrev dktJ14_pollLast_1 : List UInt8 := dkwJ14_pollLast_1 ++ []
def dkwJ14_pollLast_0 : List UInt8 := [42, 180, 0, 3, 89, 76, 42, 180, 0, 20, 43, 190, 184, 0, 68, 89, 61, 184, 0, 103, 78, 45]
abbrev dktJ14_pollLast_0 : List UInt8 := dkwJ14_pollLast_0 ++ dktJ14_pollLast_1
theorem dksJ14_pollLast_0 : cJ14_pollLast.data.toList.drop 0 = dktJ14_pollLast_0 := by decide +kernel
theorem dksJ14_pollLast_1 : cJ14_pollLast.data.toList.drop 22 = dktJ14_pollLast_1 := dk_seg dksJ14_pollLast_0 22 rfl rfl
theorem dJ14_pollLast_0 : decode cJ14_pollLast 0 = .ok (.aload_n 0, 1) := dk_42 (dk_at dksJ14_pollLast_0 0 rfl rfl)
theorem dJ14_pollLast_1 : decode cJ14_pollLast 1 = .ok (.getfield 3, 3) := dk_180 0 3 (dk_at dksJ14_pollLast_0 1 rfl rfl)
theorem dJ14_pollLast_4 : decode cJ14_pollLast 4 = .ok (.dup, 1) := dk_89 (dk_at dksJ14_pollLast_0 4 rfl rfl)
theorem dJ14_pollLast_5 : decode cJ14_pollLast 5 = .ok (.astore_n 1, 1) := dk_76 (dk_at dksJ14_pollLast_0 5 rfl rfl)
theorem dJ14_pollLast_6 : decode cJ14_pollLast 6 = .ok (.aload_n 0, 1) := dk_42 (dk_at dksJ14_pollLast_0 6 rfl rfl)
theorem dJ14_pollLast_7 : decode cJ14_pollLast 7 = .ok (.getfield 20, 3) := dk_180 0 20 (dk_at dksJ14_pollLast_0 7 rfl rfl)
theorem dJ14_pollLast_10 : decode cJ14_pollLast 10 = .ok (.aload_n 1, 1) := dk_43 (dk_at dksJ14_pollLast_0 10 rfl rfl)
theorem dJ14_pollLast_11 : decode cJ14_pollLast 11 = .ok (.arraylength, 1) := dk_190 (dk_at dksJ14_pollLast_0 11 rfl rfl)
theorem dJ14_pollLast_12 : decode cJ14_pollLast 12 = .ok (.invokestatic 68, 3) := dk_184 0 68 (dk_at dksJ14_pollLast_0 12 rfl rfl)
theorem dJ14_pollLast_15 : decode cJ14_pollLast 15 = .ok (.dup, 1) := dk_89 (dk_at dksJ14_pollLast_0 15 rfl rfl)
theorem dJ14_pollLast_16 : decode cJ14_pollLast 16 = .ok (.istore_n 2, 1) := dk_61 (dk_at dksJ14_pollLast_0 16 rfl rfl)
theorem dJ14_pollLast_17 : decode cJ14_pollLast 17 = .ok (.invokestatic 103, 3) := dk_184 0 103 (dk_at dksJ14_pollLast_0 17 rfl rfl)
theorem dJ14_pollLast_20 : decode cJ14_pollLast 20 = .ok (.astore_n 3, 1) := dk_78 (dk_at dksJ14_pollLast_0 20 rfl rfl)
theorem dJ14_pollLast_21 : decode cJ14_pollLast 21 = .ok (.aload_n 3, 1) := dk_45 (dk_at dksJ14_pollLast_0 21 rfl rfl)
theorem dJ14_pollLast_22 : decode cJ14_pollLast 22 = .ok (.ifnull 12, 3) := dk_198 0 12 (dk_at dksJ14_pollLast_1 0 rfl rfl)
theorem dJ14_pollLast_25 : decode cJ14_pollLast 25 = .ok (.aload_n 1, 1) := dk_43 (dk_at dksJ14_pollLast_1 3 rfl rfl)
theorem dJ14_pollLast_26 : decode cJ14_pollLast 26 = .ok (.aload_n 0, 1) := dk_42 (dk_at dksJ14_pollLast_1 4 rfl rfl)
theorem dJ14_pollLast_27 : decode cJ14_pollLast 27 = .ok (.iload_n 2, 1) := dk_28 (dk_at dksJ14_pollLast_1 5 rfl rfl)
theorem dJ14_pollLast_28 : decode cJ14_pollLast 28 = .ok (.dup_x1, 1) := dk_90 (dk_at dksJ14_pollLast_1 6 rfl rfl)
theorem dJ14_pollLast_29 : decode cJ14_pollLast 29 = .ok (.putfield 20, 3) := dk_181 0 20 (dk_at dksJ14_pollLast_1 7 rfl rfl)
theorem dJ14_pollLast_32 : decode cJ14_pollLast 32 = .ok (.aconst_null, 1) := dk_1 (dk_at dksJ14_pollLast_1 10 rfl rfl)
theorem dJ14_pollLast_33 : decode cJ14_pollLast 33 = .ok (.aastore, 1) := dk_83 (dk_at dksJ14_pollLast_1 11 rfl rfl)
theorem dJ14_pollLast_34 : decode cJ14_pollLast 34 = .ok (.aload_n 3, 1) := dk_45 (dk_at dksJ14_pollLast_1 12 rfl rfl)
theorem dJ14_pollLast_35 : decode cJ14_pollLast 35 = .ok (.areturn, 1) := dk_176 (dk_at dksJ14_pollLast_1 13 rfl rfl)
theorem q122 : (Jvm.Cond.initialized "java/util/ArrayDeque") ∈ lw_all := lw_g (lw_at lw_m1 21 rfl) rfl
theorem q412 : (Jvm.Cond.selects "java/util/ArrayDeque" ({ cls := "java/lang/Object", name := "getClass", desc := "()Ljava/lang/Class;" } : Jvm.MethodName) ({ cls := "java/lang/Object", name := "getClass", desc := "()Ljava/lang/Class;" } : Jvm.MethodName)) ∈ lw_all := lw_g (lw_at lw_m2 71 rfl) rfl
theorem q470 : (Jvm.Cond.instantiable "java/util/ArrayDeque" (3 : Nat)) ∈ lw_all := lw_g (lw_at lw_m2 129 rfl) rfl
theorem q472 : (Jvm.Cond.instanceMethod ({ cls := "java/util/ArrayDeque", name := "<init>", desc := "()V" } : Jvm.MethodName)) ∈ lw_all := lw_g (lw_at lw_m2 131 rfl) rfl
theorem q473 : (Jvm.Cond.code ({ cls := "java/util/ArrayDeque", name := "<init>", desc := "()V" } : Jvm.MethodName) prog_52_method_3_code (1 : Nat) (Option.none : Option Jvm.ClassFile.FieldType)) ∈ lw_all := lw_g (lw_at lw_m2 132 rfl) rfl
theorem q474 : (Jvm.Cond.methodLink "java/util/ArrayDeque" (42 : Nat) ({ cls := "java/util/AbstractCollection", name := "<init>", desc := "()V" } : Jvm.MethodName)) ∈ lw_all := lw_g (lw_at lw_m2 133 rfl) rfl
theorem q475 : (Jvm.Cond.classLink "java/util/ArrayDeque" (47 : Nat) "java/lang/Object") ∈ lw_all := lw_g (lw_at lw_m2 134 rfl) rfl
theorem q476 : (Jvm.Cond.fieldLink "java/util/ArrayDeque" (3 : Nat) "java/util/ArrayDeque" "elements" "[Ljava/lang/Object;") ∈ lw_all := lw_g (lw_at lw_m2 135 rfl) rfl
theorem q479 : (Jvm.Cond.fieldLink "java/util/ArrayDeque" (24 : Nat) "java/util/ArrayDeque" "head" "I") ∈ lw_all := lw_g (lw_at lw_m2 138 rfl) rfl
theorem q480 : (Jvm.Cond.fieldLink "java/util/ArrayDeque" (20 : Nat) "java/util/ArrayDeque" "tail" "I") ∈ lw_all := lw_g (lw_at lw_m2 139 rfl) rfl
theorem q481 : (Jvm.Cond.lays "java/util/ArrayDeque" "java/util/ArrayDeque" "elements" "[Ljava/lang/Object;") ∈ lw_all := lw_g (lw_at lw_m2 140 rfl) rfl
theorem q482 : (Jvm.Cond.soleField "java/util/ArrayDeque" "elements") ∈ lw_all := lw_g (lw_at lw_m2 141 rfl) rfl
theorem q483 : (Jvm.Cond.lays "java/util/ArrayDeque" "java/util/ArrayDeque" "head" "I") ∈ lw_all := lw_g (lw_at lw_m2 142 rfl) rfl
theorem q484 : (Jvm.Cond.soleField "java/util/ArrayDeque" "head") ∈ lw_all := lw_g (lw_at lw_m2 143 rfl) rfl
theorem q485 : (Jvm.Cond.lays "java/util/ArrayDeque" "java/util/ArrayDeque" "tail" "I") ∈ lw_all := lw_g (lw_at lw_m2 144 rfl) rfl
theorem q486 : (Jvm.Cond.soleField "java/util/ArrayDeque" "tail") ∈ lw_all := lw_g (lw_at lw_m2 145 rfl) rfl
theorem q487 : (Jvm.Cond.superclass "java/util/ArrayDeque" "java/util/AbstractCollection") ∈ lw_all := lw_g (lw_at lw_m2 146 rfl) rfl
theorem q634 : (Jvm.Cond.selects "java/util/ArrayDeque" ({ cls := "java/util/AbstractCollection", name := "size", desc := "()I" } : Jvm.MethodName) ({ cls := "java/util/ArrayDeque", name := "size", desc := "()I" } : Jvm.MethodName)) ∈ lw_all := lw_g (lw_at lw_m3 53 rfl) rfl
theorem q635 : (Jvm.Cond.instanceMethod ({ cls := "java/util/ArrayDeque", name := "size", desc := "()I" } : Jvm.MethodName)) ∈ lw_all := lw_g (lw_at lw_m3 54 rfl) rfl
theorem q636 : (Jvm.Cond.code ({ cls := "java/util/ArrayDeque", name := "size", desc := "()I" } : Jvm.MethodName) prog_52_method_37_code (1 : Nat) (Option.some Jvm.ClassFile.FieldType.int)) ∈ lw_all := lw_g (lw_at lw_m3 55 rfl) rfl
theorem q637 : (Jvm.Cond.methodLink "java/util/ArrayDeque" (127 : Nat) ({ cls := "java/util/ArrayDeque", name := "sub", desc := "(III)I" } : Jvm.MethodName)) ∈ lw_all := lw_g (lw_at lw_m3 56 rfl) rfl
theorem q638 : (Jvm.Cond.static ({ cls := "java/util/ArrayDeque", name := "sub", desc := "(III)I" } : Jvm.MethodName)) ∈ lw_all := lw_g (lw_at lw_m3 57 rfl) rfl
theorem q639 : (Jvm.Cond.code ({ cls := "java/util/ArrayDeque", name := "sub", desc := "(III)I" } : Jvm.MethodName) prog_52_method_9_code (3 : Nat) (Option.some Jvm.ClassFile.FieldType.int)) ∈ lw_all := lw_g (lw_at lw_m3 58 rfl) rfl
theorem q1162 : (Jvm.Cond.selects "java/util/ArrayDeque" ({ cls := "java/util/AbstractCollection", name := "iterator", desc := "()Ljava/util/Iterator;" } : Jvm.MethodName) ({ cls := "java/util/ArrayDeque", name := "iterator", desc := "()Ljava/util/Iterator;" } : Jvm.MethodName)) ∈ lw_all := lw_g (lw_at lw_m5 101 rfl) rfl
theorem q1163 : (Jvm.Cond.instanceMethod ({ cls := "java/util/ArrayDeque", name := "iterator", desc := "()Ljava/util/Iterator;" } : Jvm.MethodName)) ∈ lw_all := lw_g (lw_at lw_m5 102 rfl) rfl
theorem q1164 : (Jvm.Cond.code ({ cls := "java/util/ArrayDeque", name := "iterator", desc := "()Ljava/util/Iterator;" } : Jvm.MethodName) prog_52_method_39_code (1 : Nat) (Option.some (Jvm.ClassFile.FieldType.object "java/util/Iterator"))) ∈ lw_all := lw_g (lw_at lw_m5 103 rfl) rfl
theorem q1165 : (Jvm.Cond.classLink "java/util/ArrayDeque" (131 : Nat) "java/util/ArrayDeque$DeqIterator") ∈ lw_all := lw_g (lw_at lw_m5 104 rfl) rfl
theorem q1167 : (Jvm.Cond.methodLink "java/util/ArrayDeque" (133 : Nat) ({ cls := "java/util/ArrayDeque$DeqIterator", name := "<init>", desc := "(Ljava/util/ArrayDeque;)V" } : Jvm.MethodName)) ∈ lw_all := lw_g (lw_at lw_m5 106 rfl) rfl
theorem q1629 : (Jvm.Cond.static ({ cls := "java/util/ArrayDeque", name := "nonNullElementAt", desc := "([Ljava/lang/Object;I)Ljava/lang/Object;" } : Jvm.MethodName)) ∈ lw_all := lw_g (lw_at lw_m7 88 rfl) rfl
theorem q1630 : (Jvm.Cond.code ({ cls := "java/util/ArrayDeque", name := "nonNullElementAt", desc := "([Ljava/lang/Object;I)Ljava/lang/Object;" } : Jvm.MethodName) prog_52_method_11_code (3 : Nat) (Option.some (Jvm.ClassFile.FieldType.object "java/lang/Object"))) ∈ lw_all := lw_g (lw_at lw_m7 89 rfl) rfl
theorem q1632 : (Jvm.Cond.static ({ cls := "java/util/ArrayDeque", name := "inc", desc := "(II)I" } : Jvm.MethodName)) ∈ lw_all := lw_g (lw_at lw_m7 91 rfl) rfl
theorem q1633 : (Jvm.Cond.code ({ cls := "java/util/ArrayDeque", name := "inc", desc := "(II)I" } : Jvm.MethodName) prog_52_method_6_code (2 : Nat) (Option.some Jvm.ClassFile.FieldType.int)) ∈ lw_all := lw_g (lw_at lw_m7 92 rfl) rfl
theorem q1648 : (Jvm.Cond.castable "java/util/ArrayDeque" "java/util/Collection") ∈ lw_tbl := lw_at lw_m7 107 rfl
theorem q1649 : (Jvm.Cond.selects "java/util/ArrayDeque" ({ cls := "java/util/Collection", name := "toArray", desc := "()[Ljava/lang/Object;" } : Jvm.MethodName) ({ cls := "java/util/ArrayDeque", name := "toArray", desc := "()[Ljava/lang/Object;" } : Jvm.MethodName)) ∈ lw_all := lw_g (lw_at lw_m7 108 rfl) rfl
theorem q1650 : (Jvm.Cond.unhidden "java/util/ArrayDeque" "toArray" "()[Ljava/lang/Object;") ∈ lw_tbl := lw_at lw_m7 109 rfl
theorem q1651 : (Jvm.Cond.instanceMethod ({ cls := "java/util/ArrayDeque", name := "toArray", desc := "()[Ljava/lang/Object;" } : Jvm.MethodName)) ∈ lw_all := lw_g (lw_at lw_m7 110 rfl) rfl
theorem q1652 : (Jvm.Cond.publicMethod ({ cls := "java/util/ArrayDeque", name := "toArray", desc := "()[Ljava/lang/Object;" } : Jvm.MethodName)) ∈ lw_tbl := lw_at lw_m7 111 rfl
theorem q1653 : (Jvm.Cond.code ({ cls := "java/util/ArrayDeque", name := "toArray", desc := "()[Ljava/lang/Object;" } : Jvm.MethodName) prog_52_method_55_code (1 : Nat) (Option.some (Jvm.ClassFile.FieldType.array (Jvm.ClassFile.FieldType.object "java/lang/Object")))) ∈ lw_all := lw_g (lw_at lw_m7 112 rfl) rfl
theorem q1654 : (Jvm.Cond.classLink "java/util/ArrayDeque" (188 : Nat) "[Ljava/lang/Object;") ∈ lw_all := lw_g (lw_at lw_m7 113 rfl) rfl
theorem q1655 : (Jvm.Cond.methodLink "java/util/ArrayDeque" (189 : Nat) ({ cls := "java/util/ArrayDeque", name := "toArray", desc := "(Ljava/lang/Class;)[Ljava/lang/Object;" } : Jvm.MethodName)) ∈ lw_all := lw_g (lw_at lw_m7 114 rfl) rfl
theorem q1656 : (Jvm.Cond.privateMethod ({ cls := "java/util/ArrayDeque", name := "toArray", desc := "(Ljava/lang/Class;)[Ljava/lang/Object;" } : Jvm.MethodName)) ∈ lw_tbl := lw_at lw_m7 115 rfl
theorem q1657 : (Jvm.Cond.instanceMethod ({ cls := "java/util/ArrayDeque", name := "toArray", desc := "(Ljava/lang/Class;)[Ljava/lang/Object;" } : Jvm.MethodName)) ∈ lw_all := lw_g (lw_at lw_m7 116 rfl) rfl
theorem q1658 : (Jvm.Cond.code ({ cls := "java/util/ArrayDeque", name := "toArray", desc := "(Ljava/lang/Class;)[Ljava/lang/Object;" } : Jvm.MethodName) prog_52_method_56_code (7 : Nat) (Option.some (Jvm.ClassFile.FieldType.array (Jvm.ClassFile.FieldType.object "java/lang/Object")))) ∈ lw_all := lw_g (lw_at lw_m7 117 rfl) rfl
theorem q1659 : (Jvm.Cond.methodLink "java/util/ArrayDeque" (193 : Nat) ({ cls := "java/util/Arrays", name := "copyOfRange", desc := "([Ljava/lang/Object;IILjava/lang/Class;)[Ljava/lang/Object;" } : Jvm.MethodName)) ∈ lw_all := lw_g (lw_at lw_m7 118 rfl) rfl
theorem q1662 : (Jvm.Cond.methodLink "java/util/ArrayDeque" (27 : Nat) ({ cls := "java/lang/System", name := "arraycopy", desc := "(Ljava/lang/Object;ILjava/lang/Object;II)V" } : Jvm.MethodName)) ∈ lw_all := lw_g (lw_at lw_m7 121 rfl) rfl
theorem q1762 : (Jvm.Cond.instanceMethod ({ cls := "java/util/ArrayDeque", name := "removeFirst", desc := "()Ljava/lang/Object;" } : Jvm.MethodName)) ∈ lw_all := lw_g (lw_at lw_m7 221 rfl) rfl
theorem q1763 : (Jvm.Cond.selects "java/util/ArrayDeque" ({ cls := "java/util/ArrayDeque", name := "removeFirst", desc := "()Ljava/lang/Object;" } : Jvm.MethodName) ({ cls := "java/util/ArrayDeque", name := "removeFirst", desc := "()Ljava/lang/Object;" } : Jvm.MethodName)) ∈ lw_all := lw_g (lw_at lw_m7 222 rfl) rfl
theorem q1764 : (Jvm.Cond.code ({ cls := "java/util/ArrayDeque", name := "removeFirst", desc := "()Ljava/lang/Object;" } : Jvm.MethodName) prog_52_method_18_code (2 : Nat) (Option.some (Jvm.ClassFile.FieldType.object "java/lang/Object"))) ∈ lw_all := lw_g (lw_at lw_m7 223 rfl) rfl
theorem q1765 : (Jvm.Cond.methodLink "java/util/ArrayDeque" (93 : Nat) ({ cls := "java/util/ArrayDeque", name := "pollFirst", desc := "()Ljava/lang/Object;" } : Jvm.MethodName)) ∈ lw_all := lw_g (lw_at lw_m7 224 rfl) rfl
theorem q1766 : (Jvm.Cond.instanceMethod ({ cls := "java/util/ArrayDeque", name := "pollFirst", desc := "()Ljava/lang/Object;" } : Jvm.MethodName)) ∈ lw_all := lw_g (lw_at lw_m7 225 rfl) rfl
theorem q1767 : (Jvm.Cond.selects "java/util/ArrayDeque" ({ cls := "java/util/ArrayDeque", name := "pollFirst", desc := "()Ljava/lang/Object;" } : Jvm.MethodName) ({ cls := "java/util/ArrayDeque", name := "pollFirst", desc := "()Ljava/lang/Object;" } : Jvm.MethodName)) ∈ lw_all := lw_g (lw_at lw_m7 226 rfl) rfl
theorem q1768 : (Jvm.Cond.code ({ cls := "java/util/ArrayDeque", name := "pollFirst", desc := "()Ljava/lang/Object;" } : Jvm.MethodName) prog_52_method_20_code (4 : Nat) (Option.some (Jvm.ClassFile.FieldType.object "java/lang/Object"))) ∈ lw_all := lw_g (lw_at lw_m7 227 rfl) rfl
theorem q1769 : (Jvm.Cond.methodLink "java/util/ArrayDeque" (103 : Nat) ({ cls := "java/util/ArrayDeque", name := "elementAt", desc := "([Ljava/lang/Object;I)Ljava/lang/Object;" } : Jvm.MethodName)) ∈ lw_all := lw_g (lw_at lw_m7 228 rfl) rfl
theorem q1770 : (Jvm.Cond.static ({ cls := "java/util/ArrayDeque", name := "elementAt", desc := "([Ljava/lang/Object;I)Ljava/lang/Object;" } : Jvm.MethodName)) ∈ lw_all := lw_g (lw_at lw_m7 229 rfl) rfl
theorem q1771 : (Jvm.Cond.code ({ cls := "java/util/ArrayDeque", name := "elementAt", desc := "([Ljava/lang/Object;I)Ljava/lang/Object;" } : Jvm.MethodName) prog_52_method_10_code (2 : Nat) (Option.some (Jvm.ClassFile.FieldType.object "java/lang/Object"))) ∈ lw_all := lw_g (lw_at lw_m7 230 rfl) rfl
theorem q1772 : (Jvm.Cond.methodLink "java/util/ArrayDeque" (74 : Nat) ({ cls := "java/util/ArrayDeque", name := "inc", desc := "(II)I" } : Jvm.MethodName)) ∈ lw_all := lw_g (lw_at lw_m7 231 rfl) rfl
theorem q1773 : (Jvm.Cond.classLink "java/util/ArrayDeque" (97 : Nat) "java/util/NoSuchElementException") ∈ lw_all := lw_g (lw_at lw_m7 232 rfl) rfl
theorem q1774 : (Jvm.Cond.methodLink "java/util/ArrayDeque" (99 : Nat) ({ cls := "java/util/NoSuchElementException", name := "<init>", desc := "()V" } : Jvm.MethodName)) ∈ lw_all := lw_g (lw_at lw_m7 233 rfl) rfl
theorem q1776 : (Jvm.Cond.instanceMethod ({ cls := "java/util/ArrayDeque", name := "addLast", desc := "(Ljava/lang/Object;)V" } : Jvm.MethodName)) ∈ lw_all := lw_g (lw_at lw_m7 235 rfl) rfl
theorem q1777 : (Jvm.Cond.selects "java/util/ArrayDeque" ({ cls := "java/util/ArrayDeque", name := "addLast", desc := "(Ljava/lang/Object;)V" } : Jvm.MethodName) ({ cls := "java/util/ArrayDeque", name := "addLast", desc := "(Ljava/lang/Object;)V" } : Jvm.MethodName)) ∈ lw_all := lw_g (lw_at lw_m7 236 rfl) rfl
theorem q1778 : (Jvm.Cond.code ({ cls := "java/util/ArrayDeque", name := "addLast", desc := "(Ljava/lang/Object;)V" } : Jvm.MethodName) prog_52_method_13_code (3 : Nat) (Option.none : Option Jvm.ClassFile.FieldType)) ∈ lw_all := lw_g (lw_at lw_m7 237 rfl) rfl
theorem q1779 : (Jvm.Cond.methodLink "java/util/ArrayDeque" (71 : Nat) ({ cls := "java/util/ArrayDeque", name := "grow", desc := "(I)V" } : Jvm.MethodName)) ∈ lw_all := lw_g (lw_at lw_m7 238 rfl) rfl
theorem q1780 : (Jvm.Cond.privateMethod ({ cls := "java/util/ArrayDeque", name := "grow", desc := "(I)V" } : Jvm.MethodName)) ∈ lw_tbl := lw_at lw_m7 239 rfl
theorem q1781 : (Jvm.Cond.instanceMethod ({ cls := "java/util/ArrayDeque", name := "grow", desc := "(I)V" } : Jvm.MethodName)) ∈ lw_all := lw_g (lw_at lw_m8 0 rfl) rfl
theorem q1782 : (Jvm.Cond.code ({ cls := "java/util/ArrayDeque", name := "grow", desc := "(I)V" } : Jvm.MethodName) prog_52_method_1_code (9 : Nat) (Option.none : Option Jvm.ClassFile.FieldType)) ∈ lw_all := lw_g (lw_at lw_m8 1 rfl) rfl
theorem q1783 : (Jvm.Cond.constant "java/util/ArrayDeque" (9 : Nat) (2147483639 : Int32)) ∈ lw_all := lw_g (lw_at lw_m8 2 rfl) rfl
theorem q1784 : (Jvm.Cond.methodLink "java/util/ArrayDeque" (10 : Nat) ({ cls := "java/util/ArrayDeque", name := "newCapacity", desc := "(II)I" } : Jvm.MethodName)) ∈ lw_all := lw_g (lw_at lw_m8 3 rfl) rfl
theorem q1785 : (Jvm.Cond.privateMethod ({ cls := "java/util/ArrayDeque", name := "newCapacity", desc := "(II)I" } : Jvm.MethodName)) ∈ lw_tbl := lw_at lw_m8 4 rfl
theorem q1786 : (Jvm.Cond.instanceMethod ({ cls := "java/util/ArrayDeque", name := "newCapacity", desc := "(II)I" } : Jvm.MethodName)) ∈ lw_all := lw_g (lw_at lw_m8 5 rfl) rfl
theorem q1787 : (Jvm.Cond.code ({ cls := "java/util/ArrayDeque", name := "newCapacity", desc := "(II)I" } : Jvm.MethodName) prog_52_method_2_code (5 : Nat) (Option.some Jvm.ClassFile.FieldType.int)) ∈ lw_all := lw_g (lw_at lw_m8 6 rfl) rfl
theorem q1788 : (Jvm.Cond.classLink "java/util/ArrayDeque" (33 : Nat) "java/lang/IllegalStateException") ∈ lw_all := lw_g (lw_at lw_m8 7 rfl) rfl
theorem q1797 : (Jvm.Cond.stringRef "java/util/ArrayDeque" (35 : Nat) "Sorry, deque too big") ∈ lw_tbl := lw_at lw_m8 16 rfl
theorem q1798 : (Jvm.Cond.methodLink "java/util/ArrayDeque" (37 : Nat) ({ cls := "java/lang/IllegalStateException", name := "<init>", desc := "(Ljava/lang/String;)V" } : Jvm.MethodName)) ∈ lw_all := lw_g (lw_at lw_m8 17 rfl) rfl
theorem q1804 : (Jvm.Cond.constant "java/util/ArrayDeque" (41 : Nat) (2147483647 : Int32)) ∈ lw_all := lw_g (lw_at lw_m8 23 rfl) rfl
theorem q1805 : (Jvm.Cond.methodLink "java/util/ArrayDeque" (14 : Nat) ({ cls := "java/util/Arrays", name := "copyOf", desc := "([Ljava/lang/Object;I)[Ljava/lang/Object;" } : Jvm.MethodName)) ∈ lw_all := lw_g (lw_at lw_m8 24 rfl) rfl
theorem q1839 : (Jvm.Cond.selects "java/util/ArrayDeque" ({ cls := "java/util/Collection", name := "size", desc := "()I" } : Jvm.MethodName) ({ cls := "java/util/ArrayDeque", name := "size", desc := "()I" } : Jvm.MethodName)) ∈ lw_all := lw_g (lw_at lw_m8 58 rfl) rfl
theorem q1840 : (Jvm.Cond.unhidden "java/util/ArrayDeque" "size" "()I") ∈ lw_tbl := lw_at lw_m8 59 rfl
theorem q1841 : (Jvm.Cond.publicMethod ({ cls := "java/util/ArrayDeque", name := "size", desc := "()I" } : Jvm.MethodName)) ∈ lw_tbl := lw_at lw_m8 60 rfl
theorem q2558 : (Jvm.Cond.instanceMethod ({ cls := "java/util/ArrayDeque", name := "delete", desc := "(I)Z" } : Jvm.MethodName)) ∈ lw_all := lw_g (lw_at lw_m11 57 rfl) rfl
theorem q2559 : (Jvm.Cond.selects "java/util/ArrayDeque" ({ cls := "java/util/ArrayDeque", name := "delete", desc := "(I)Z" } : Jvm.MethodName) ({ cls := "java/util/ArrayDeque", name := "delete", desc := "(I)Z" } : Jvm.MethodName)) ∈ lw_all := lw_g (lw_at lw_m11 58 rfl) rfl
theorem q2560 : (Jvm.Cond.code ({ cls := "java/util/ArrayDeque", name := "delete", desc := "(I)Z" } : Jvm.MethodName) prog_52_method_36_code (8 : Nat) (Option.some Jvm.ClassFile.FieldType.boolean)) ∈ lw_all := lw_g (lw_at lw_m11 59 rfl) rfl
theorem q2561 : (Jvm.Cond.methodLink "java/util/ArrayDeque" (68 : Nat) ({ cls := "java/util/ArrayDeque", name := "dec", desc := "(II)I" } : Jvm.MethodName)) ∈ lw_all := lw_g (lw_at lw_m11 60 rfl) rfl
theorem q2562 : (Jvm.Cond.static ({ cls := "java/util/ArrayDeque", name := "dec", desc := "(II)I" } : Jvm.MethodName)) ∈ lw_all := lw_g (lw_at lw_m11 61 rfl) rfl
theorem q2563 : (Jvm.Cond.code ({ cls := "java/util/ArrayDeque", name := "dec", desc := "(II)I" } : Jvm.MethodName) prog_52_method_7_code (2 : Nat) (Option.some Jvm.ClassFile.FieldType.int)) ∈ lw_all := lw_g (lw_at lw_m11 62 rfl) rfl
theorem q3475 : (Jvm.Cond.instanceMethod ({ cls := "java/util/ArrayDeque", name := "isEmpty", desc := "()Z" } : Jvm.MethodName)) ∈ lw_all := lw_g (lw_at lw_m15 14 rfl) rfl
theorem q3476 : (Jvm.Cond.selects "java/util/ArrayDeque" ({ cls := "java/util/ArrayDeque", name := "isEmpty", desc := "()Z" } : Jvm.MethodName) ({ cls := "java/util/ArrayDeque", name := "isEmpty", desc := "()Z" } : Jvm.MethodName)) ∈ lw_all := lw_g (lw_at lw_m15 15 rfl) rfl
theorem q3477 : (Jvm.Cond.code ({ cls := "java/util/ArrayDeque", name := "isEmpty", desc := "()Z" } : Jvm.MethodName) prog_52_method_38_code (1 : Nat) (Option.some Jvm.ClassFile.FieldType.boolean)) ∈ lw_all := lw_g (lw_at lw_m15 16 rfl) rfl
theorem q3479 : (Jvm.Cond.instanceMethod ({ cls := "java/util/ArrayDeque", name := "removeLast", desc := "()Ljava/lang/Object;" } : Jvm.MethodName)) ∈ lw_all := lw_g (lw_at lw_m15 18 rfl) rfl
theorem q3480 : (Jvm.Cond.selects "java/util/ArrayDeque" ({ cls := "java/util/ArrayDeque", name := "removeLast", desc := "()Ljava/lang/Object;" } : Jvm.MethodName) ({ cls := "java/util/ArrayDeque", name := "removeLast", desc := "()Ljava/lang/Object;" } : Jvm.MethodName)) ∈ lw_all := lw_g (lw_at lw_m15 19 rfl) rfl
theorem q3481 : (Jvm.Cond.code ({ cls := "java/util/ArrayDeque", name := "removeLast", desc := "()Ljava/lang/Object;" } : Jvm.MethodName) prog_52_method_19_code (2 : Nat) (Option.some (Jvm.ClassFile.FieldType.object "java/lang/Object"))) ∈ lw_all := lw_g (lw_at lw_m15 20 rfl) rfl
theorem q3482 : (Jvm.Cond.methodLink "java/util/ArrayDeque" (100 : Nat) ({ cls := "java/util/ArrayDeque", name := "pollLast", desc := "()Ljava/lang/Object;" } : Jvm.MethodName)) ∈ lw_all := lw_g (lw_at lw_m15 21 rfl) rfl
theorem q3483 : (Jvm.Cond.instanceMethod ({ cls := "java/util/ArrayDeque", name := "pollLast", desc := "()Ljava/lang/Object;" } : Jvm.MethodName)) ∈ lw_all := lw_g (lw_at lw_m15 22 rfl) rfl
theorem q3484 : (Jvm.Cond.selects "java/util/ArrayDeque" ({ cls := "java/util/ArrayDeque", name := "pollLast", desc := "()Ljava/lang/Object;" } : Jvm.MethodName) ({ cls := "java/util/ArrayDeque", name := "pollLast", desc := "()Ljava/lang/Object;" } : Jvm.MethodName)) ∈ lw_all := lw_g (lw_at lw_m15 23 rfl) rfl
theorem q3485 : (Jvm.Cond.code ({ cls := "java/util/ArrayDeque", name := "pollLast", desc := "()Ljava/lang/Object;" } : Jvm.MethodName) prog_52_method_21_code (4 : Nat) (Option.some (Jvm.ClassFile.FieldType.object "java/lang/Object"))) ∈ lw_all := lw_g (lw_at lw_m15 24 rfl) rfl
theorem q3924 : (Jvm.Cond.selects "java/util/ArrayDeque" ({ cls := "java/util/ArrayDeque", name := "size", desc := "()I" } : Jvm.MethodName) ({ cls := "java/util/ArrayDeque", name := "size", desc := "()I" } : Jvm.MethodName)) ∈ lw_all := lw_g (lw_at lw_m16 223 rfl) rfl
theorem q3956 : (Jvm.Cond.castable "java/util/ArrayDeque" "java/lang/Object") ∈ lw_tbl := lw_at lw_m17 15 rfl


/-! java/lang/Number -/
set_option maxRecDepth 100000
def RJ27 : String := "java/lang/Number"
abbrev cJ27_init : ByteArray := prog_33_method_1_code
def yJ27_init : MethodName := ⟨RJ27, "<init>", "()V"⟩
theorem dJ27_init_0 : decode cJ27_init 0 = .ok (.aload_n 0, 1) := by decide +kernel
theorem dJ27_init_1 : decode cJ27_init 1 = .ok (.invokespecial 1, 3) := by decide +kernel
theorem dJ27_init_4 : decode cJ27_init 4 = .ok (.return_, 1) := by decide +kernel
theorem q139 : (Jvm.Cond.initialized "java/lang/Number") ∈ lw_all := lw_g (lw_at lw_m1 38 rfl) rfl
theorem q2197 : (Jvm.Cond.instanceMethod ({ cls := "java/lang/Number", name := "<init>", desc := "()V" } : Jvm.MethodName)) ∈ lw_all := lw_g (lw_at lw_m9 176 rfl) rfl
theorem q2198 : (Jvm.Cond.code ({ cls := "java/lang/Number", name := "<init>", desc := "()V" } : Jvm.MethodName) prog_33_method_1_code (1 : Nat) (Option.none : Option Jvm.ClassFile.FieldType)) ∈ lw_all := lw_g (lw_at lw_m9 177 rfl) rfl
theorem q2199 : (Jvm.Cond.methodLink "java/lang/Number" (1 : Nat) ({ cls := "java/lang/Object", name := "<init>", desc := "()V" } : Jvm.MethodName)) ∈ lw_all := lw_g (lw_at lw_m9 178 rfl) rfl


/-! java/lang/Integer -/
set_option maxRecDepth 100000
abbrev cJ28_valueOf : ByteArray := prog_27_method_22_code
def yJ28_valueOf : MethodName := ⟨RJ28, "valueOf", "(I)Ljava/lang/Integer;"⟩
def dkwJ28_valueOf_1 : List UInt8 := [187, 0, 1, 89, 26, 183, 0, 199, 176]
abbrev dktJ28_valueOf_1 : List UInt8 := dkwJ28_valueOf_1 ++ []
def dkwJ28_valueOf_0 : List UInt8 := [26, 16, 128, 161, 0, 20, 26, 178, 0, 191, 163, 0, 13, 178, 0, 195, 26, 17, 0, 128, 96, 50, 176]
abbrev dktJ28_valueOf_0 : List UInt8 := dkwJ28_valueOf_0 ++ dktJ28_valueOf_1
theorem dksJ28_valueOf_0 : cJ28_valueOf.data.toList.drop 0 = dktJ28_valueOf_0 := by decide +kernel
theorem dksJ28_valueOf_1 : cJ28_valueOf.data.toList.drop 23 = dktJ28_valueOf_1 := dk_seg dksJ28_valueOf_0 23 rfl rfl
theorem dJ28_valueOf_0 : decode cJ28_valueOf 0 = .ok (.iload_n 0, 1) := dk_26 (dk_at dksJ28_valueOf_0 0 rfl rfl)
theorem dJ28_valueOf_1 : decode cJ28_valueOf 1 = .ok (.bipush (-128), 2) := dk_16 128 (dk_at dksJ28_valueOf_0 1 rfl rfl)
theorem dJ28_valueOf_3 : decode cJ28_valueOf 3 = .ok (.if_icmp .lt 20, 3) := dk_161 0 20 (dk_at dksJ28_valueOf_0 3 rfl rfl)
theorem dJ28_valueOf_6 : decode cJ28_valueOf 6 = .ok (.iload_n 0, 1) := dk_26 (dk_at dksJ28_valueOf_0 6 rfl rfl)
theorem dJ28_valueOf_7 : decode cJ28_valueOf 7 = .ok (.getstatic 191, 3) := dk_178 0 191 (dk_at dksJ28_valueOf_0 7 rfl rfl)
theorem dJ28_valueOf_10 : decode cJ28_valueOf 10 = .ok (.if_icmp .gt 13, 3) := dk_163 0 13 (dk_at dksJ28_valueOf_0 10 rfl rfl)
theorem dJ28_valueOf_13 : decode cJ28_valueOf 13 = .ok (.getstatic 195, 3) := dk_178 0 195 (dk_at dksJ28_valueOf_0 13 rfl rfl)
theorem dJ28_valueOf_16 : decode cJ28_valueOf 16 = .ok (.iload_n 0, 1) := dk_26 (dk_at dksJ28_valueOf_0 16 rfl rfl)
theorem dJ28_valueOf_17 : decode cJ28_valueOf 17 = .ok (.sipush 128, 3) := dk_17 0 128 (dk_at dksJ28_valueOf_0 17 rfl rfl)
theorem dJ28_valueOf_20 : decode cJ28_valueOf 20 = .ok (.iadd, 1) := dk_96 (dk_at dksJ28_valueOf_0 20 rfl rfl)
theorem dJ28_valueOf_21 : decode cJ28_valueOf 21 = .ok (.aaload, 1) := dk_50 (dk_at dksJ28_valueOf_0 21 rfl rfl)
theorem dJ28_valueOf_22 : decode cJ28_valueOf 22 = .ok (.areturn, 1) := dk_176 (dk_at dksJ28_valueOf_0 22 rfl rfl)
theorem dJ28_valueOf_23 : decode cJ28_valueOf 23 = .ok (.new 1, 3) := dk_187 0 1 (dk_at dksJ28_valueOf_1 0 rfl rfl)
theorem dJ28_valueOf_26 : decode cJ28_valueOf 26 = .ok (.dup, 1) := dk_89 (dk_at dksJ28_valueOf_1 3 rfl rfl)
theorem dJ28_valueOf_27 : decode cJ28_valueOf 27 = .ok (.iload_n 0, 1) := dk_26 (dk_at dksJ28_valueOf_1 4 rfl rfl)
theorem dJ28_valueOf_28 : decode cJ28_valueOf 28 = .ok (.invokespecial 199, 3) := dk_183 0 199 (dk_at dksJ28_valueOf_1 5 rfl rfl)
theorem dJ28_valueOf_31 : decode cJ28_valueOf 31 = .ok (.areturn, 1) := dk_176 (dk_at dksJ28_valueOf_1 8 rfl rfl)
abbrev cJ28_init : ByteArray := prog_27_method_23_code
def yJ28_init : MethodName := ⟨RJ28, "<init>", "(I)V"⟩
def dkwJ28_init_0 : List UInt8 := [42, 183, 0, 202, 42, 27, 181, 0, 205, 177]
abbrev dktJ28_init_0 : List UInt8 := dkwJ28_init_0 ++ []
theorem dksJ28_init_0 : cJ28_init.data.toList.drop 0 = dktJ28_init_0 := by decide +kernel
theorem dJ28_init_0 : decode cJ28_init 0 = .ok (.aload_n 0, 1) := dk_42 (dk_at dksJ28_init_0 0 rfl rfl)
theorem dJ28_init_1 : decode cJ28_init 1 = .ok (.invokespecial 202, 3) := dk_183 0 202 (dk_at dksJ28_init_0 1 rfl rfl)
theorem dJ28_init_4 : decode cJ28_init 4 = .ok (.aload_n 0, 1) := dk_42 (dk_at dksJ28_init_0 4 rfl rfl)
theorem dJ28_init_5 : decode cJ28_init 5 = .ok (.iload_n 1, 1) := dk_27 (dk_at dksJ28_init_0 5 rfl rfl)
theorem dJ28_init_6 : decode cJ28_init 6 = .ok (.putfield 205, 3) := dk_181 0 205 (dk_at dksJ28_init_0 6 rfl rfl)
theorem dJ28_init_9 : decode cJ28_init 9 = .ok (.return_, 1) := dk_177 (dk_at dksJ28_init_0 9 rfl rfl)
abbrev cJ28_intValue : ByteArray := prog_27_method_27_code
def yJ28_intValue : MethodName := ⟨RJ28, "intValue", "()I"⟩
theorem dJ28_intValue_0 : decode cJ28_intValue 0 = .ok (.aload_n 0, 1) := by decide +kernel
theorem dJ28_intValue_1 : decode cJ28_intValue 1 = .ok (.getfield 205, 3) := by decide +kernel
theorem dJ28_intValue_4 : decode cJ28_intValue 4 = .ok (.ireturn, 1) := by decide +kernel
abbrev cJ28_numberOfTrailingZeros : ByteArray := prog_27_method_48_code
def yJ28_numberOfTrailingZeros : MethodName := ⟨RJ28, "numberOfTrailingZeros", "(I)I"⟩
def dkwJ28_numberOfTrailingZeros_3 : List UInt8 := [5, 124, 59, 27, 26, 4, 124, 96, 172]
abbrev dktJ28_numberOfTrailingZeros_3 : List UInt8 := dkwJ28_numberOfTrailingZeros_3 ++ []
def dkwJ28_numberOfTrailingZeros_2 : List UInt8 := [124, 59, 26, 16, 16, 164, 0, 10, 132, 1, 4, 26, 7, 124, 59, 26, 7, 164, 0, 10, 132, 1, 2, 26]
abbrev dktJ28_numberOfTrailingZeros_2 : List UInt8 := dkwJ28_numberOfTrailingZeros_2 ++ dktJ28_numberOfTrailingZeros_3
def dkwJ28_numberOfTrailingZeros_1 : List UInt8 := [164, 0, 11, 132, 1, 16, 26, 16, 16, 124, 59, 26, 17, 1, 0, 164, 0, 11, 132, 1, 8, 26, 16, 8]
abbrev dktJ28_numberOfTrailingZeros_1 : List UInt8 := dkwJ28_numberOfTrailingZeros_1 ++ dktJ28_numberOfTrailingZeros_2
def dkwJ28_numberOfTrailingZeros_0 : List UInt8 := [26, 2, 130, 26, 4, 100, 126, 59, 26, 157, 0, 8, 26, 16, 32, 126, 172, 4, 60, 26, 19, 1, 8]
abbrev dktJ28_numberOfTrailingZeros_0 : List UInt8 := dkwJ28_numberOfTrailingZeros_0 ++ dktJ28_numberOfTrailingZeros_1
theorem dksJ28_numberOfTrailingZeros_0 : cJ28_numberOfTrailingZeros.data.toList.drop 0 = dktJ28_numberOfTrailingZeros_0 := by decide +kernel
theorem dksJ28_numberOfTrailingZeros_1 : cJ28_numberOfTrailingZeros.data.toList.drop 23 = dktJ28_numberOfTrailingZeros_1 := dk_seg dksJ28_numberOfTrailingZeros_0 23 rfl rfl
theorem dksJ28_numberOfTrailingZeros_2 : cJ28_numberOfTrailingZeros.data.toList.drop 47 = dktJ28_numberOfTrailingZeros_2 := dk_seg dksJ28_numberOfTrailingZeros_1 24 rfl rfl
theorem dksJ28_numberOfTrailingZeros_3 : cJ28_numberOfTrailingZeros.data.toList.drop 71 = dktJ28_numberOfTrailingZeros_3 := dk_seg dksJ28_numberOfTrailingZeros_2 24 rfl rfl
theorem dJ28_numberOfTrailingZeros_0 : decode cJ28_numberOfTrailingZeros 0 = .ok (.iload_n 0, 1) := dk_26 (dk_at dksJ28_numberOfTrailingZeros_0 0 rfl rfl)
theorem dJ28_numberOfTrailingZeros_1 : decode cJ28_numberOfTrailingZeros 1 = .ok (.iconst (-1), 1) := dk_2 (dk_at dksJ28_numberOfTrailingZeros_0 1 rfl rfl)
theorem dJ28_numberOfTrailingZeros_2 : decode cJ28_numberOfTrailingZeros 2 = .ok (.ixor, 1) := dk_130 (dk_at dksJ28_numberOfTrailingZeros_0 2 rfl rfl)
theorem dJ28_numberOfTrailingZeros_3 : decode cJ28_numberOfTrailingZeros 3 = .ok (.iload_n 0, 1) := dk_26 (dk_at dksJ28_numberOfTrailingZeros_0 3 rfl rfl)
theorem dJ28_numberOfTrailingZeros_4 : decode cJ28_numberOfTrailingZeros 4 = .ok (.iconst 1, 1) := dk_4 (dk_at dksJ28_numberOfTrailingZeros_0 4 rfl rfl)
theorem dJ28_numberOfTrailingZeros_5 : decode cJ28_numberOfTrailingZeros 5 = .ok (.isub, 1) := dk_100 (dk_at dksJ28_numberOfTrailingZeros_0 5 rfl rfl)
theorem dJ28_numberOfTrailingZeros_6 : decode cJ28_numberOfTrailingZeros 6 = .ok (.iand, 1) := dk_126 (dk_at dksJ28_numberOfTrailingZeros_0 6 rfl rfl)
theorem dJ28_numberOfTrailingZeros_7 : decode cJ28_numberOfTrailingZeros 7 = .ok (.istore_n 0, 1) := dk_59 (dk_at dksJ28_numberOfTrailingZeros_0 7 rfl rfl)
theorem dJ28_numberOfTrailingZeros_8 : decode cJ28_numberOfTrailingZeros 8 = .ok (.iload_n 0, 1) := dk_26 (dk_at dksJ28_numberOfTrailingZeros_0 8 rfl rfl)
theorem dJ28_numberOfTrailingZeros_9 : decode cJ28_numberOfTrailingZeros 9 = .ok (.ifCond .gt 8, 3) := dk_157 0 8 (dk_at dksJ28_numberOfTrailingZeros_0 9 rfl rfl)
theorem dJ28_numberOfTrailingZeros_12 : decode cJ28_numberOfTrailingZeros 12 = .ok (.iload_n 0, 1) := dk_26 (dk_at dksJ28_numberOfTrailingZeros_0 12 rfl rfl)
theorem dJ28_numberOfTrailingZeros_13 : decode cJ28_numberOfTrailingZeros 13 = .ok (.bipush 32, 2) := dk_16 32 (dk_at dksJ28_numberOfTrailingZeros_0 13 rfl rfl)
theorem dJ28_numberOfTrailingZeros_15 : decode cJ28_numberOfTrailingZeros 15 = .ok (.iand, 1) := dk_126 (dk_at dksJ28_numberOfTrailingZeros_0 15 rfl rfl)
theorem dJ28_numberOfTrailingZeros_16 : decode cJ28_numberOfTrailingZeros 16 = .ok (.ireturn, 1) := dk_172 (dk_at dksJ28_numberOfTrailingZeros_0 16 rfl rfl)
theorem dJ28_numberOfTrailingZeros_17 : decode cJ28_numberOfTrailingZeros 17 = .ok (.iconst 1, 1) := dk_4 (dk_at dksJ28_numberOfTrailingZeros_0 17 rfl rfl)
theorem dJ28_numberOfTrailingZeros_18 : decode cJ28_numberOfTrailingZeros 18 = .ok (.istore_n 1, 1) := dk_60 (dk_at dksJ28_numberOfTrailingZeros_0 18 rfl rfl)
theorem dJ28_numberOfTrailingZeros_19 : decode cJ28_numberOfTrailingZeros 19 = .ok (.iload_n 0, 1) := dk_26 (dk_at dksJ28_numberOfTrailingZeros_0 19 rfl rfl)
theorem dJ28_numberOfTrailingZeros_20 : decode cJ28_numberOfTrailingZeros 20 = .ok (.ldc_w 264, 3) := dk_19 1 8 (dk_at dksJ28_numberOfTrailingZeros_0 20 rfl rfl)
theorem dJ28_numberOfTrailingZeros_23 : decode cJ28_numberOfTrailingZeros 23 = .ok (.if_icmp .le 11, 3) := dk_164 0 11 (dk_at dksJ28_numberOfTrailingZeros_1 0 rfl rfl)
theorem dJ28_numberOfTrailingZeros_26 : decode cJ28_numberOfTrailingZeros 26 = .ok (.iinc 1 16, 3) := dk_132 1 16 (dk_at dksJ28_numberOfTrailingZeros_1 3 rfl rfl)
theorem dJ28_numberOfTrailingZeros_29 : decode cJ28_numberOfTrailingZeros 29 = .ok (.iload_n 0, 1) := dk_26 (dk_at dksJ28_numberOfTrailingZeros_1 6 rfl rfl)
theorem dJ28_numberOfTrailingZeros_30 : decode cJ28_numberOfTrailingZeros 30 = .ok (.bipush 16, 2) := dk_16 16 (dk_at dksJ28_numberOfTrailingZeros_1 7 rfl rfl)
theorem dJ28_numberOfTrailingZeros_32 : decode cJ28_numberOfTrailingZeros 32 = .ok (.iushr, 1) := dk_124 (dk_at dksJ28_numberOfTrailingZeros_1 9 rfl rfl)
theorem dJ28_numberOfTrailingZeros_33 : decode cJ28_numberOfTrailingZeros 33 = .ok (.istore_n 0, 1) := dk_59 (dk_at dksJ28_numberOfTrailingZeros_1 10 rfl rfl)
theorem dJ28_numberOfTrailingZeros_34 : decode cJ28_numberOfTrailingZeros 34 = .ok (.iload_n 0, 1) := dk_26 (dk_at dksJ28_numberOfTrailingZeros_1 11 rfl rfl)
theorem dJ28_numberOfTrailingZeros_35 : decode cJ28_numberOfTrailingZeros 35 = .ok (.sipush 256, 3) := dk_17 1 0 (dk_at dksJ28_numberOfTrailingZeros_1 12 rfl rfl)
theorem dJ28_numberOfTrailingZeros_38 : decode cJ28_numberOfTrailingZeros 38 = .ok (.if_icmp .le 11, 3) := dk_164 0 11 (dk_at dksJ28_numberOfTrailingZeros_1 15 rfl rfl)
theorem dJ28_numberOfTrailingZeros_41 : decode cJ28_numberOfTrailingZeros 41 = .ok (.iinc 1 8, 3) := dk_132 1 8 (dk_at dksJ28_numberOfTrailingZeros_1 18 rfl rfl)
theorem dJ28_numberOfTrailingZeros_44 : decode cJ28_numberOfTrailingZeros 44 = .ok (.iload_n 0, 1) := dk_26 (dk_at dksJ28_numberOfTrailingZeros_1 21 rfl rfl)
theorem dJ28_numberOfTrailingZeros_45 : decode cJ28_numberOfTrailingZeros 45 = .ok (.bipush 8, 2) := dk_16 8 (dk_at dksJ28_numberOfTrailingZeros_1 22 rfl rfl)
theorem dJ28_numberOfTrailingZeros_47 : decode cJ28_numberOfTrailingZeros 47 = .ok (.iushr, 1) := dk_124 (dk_at dksJ28_numberOfTrailingZeros_2 0 rfl rfl)
theorem dJ28_numberOfTrailingZeros_48 : decode cJ28_numberOfTrailingZeros 48 = .ok (.istore_n 0, 1) := dk_59 (dk_at dksJ28_numberOfTrailingZeros_2 1 rfl rfl)
theorem dJ28_numberOfTrailingZeros_49 : decode cJ28_numberOfTrailingZeros 49 = .ok (.iload_n 0, 1) := dk_26 (dk_at dksJ28_numberOfTrailingZeros_2 2 rfl rfl)
theorem dJ28_numberOfTrailingZeros_50 : decode cJ28_numberOfTrailingZeros 50 = .ok (.bipush 16, 2) := dk_16 16 (dk_at dksJ28_numberOfTrailingZeros_2 3 rfl rfl)
theorem dJ28_numberOfTrailingZeros_52 : decode cJ28_numberOfTrailingZeros 52 = .ok (.if_icmp .le 10, 3) := dk_164 0 10 (dk_at dksJ28_numberOfTrailingZeros_2 5 rfl rfl)
theorem dJ28_numberOfTrailingZeros_55 : decode cJ28_numberOfTrailingZeros 55 = .ok (.iinc 1 4, 3) := dk_132 1 4 (dk_at dksJ28_numberOfTrailingZeros_2 8 rfl rfl)
theorem dJ28_numberOfTrailingZeros_58 : decode cJ28_numberOfTrailingZeros 58 = .ok (.iload_n 0, 1) := dk_26 (dk_at dksJ28_numberOfTrailingZeros_2 11 rfl rfl)
theorem dJ28_numberOfTrailingZeros_59 : decode cJ28_numberOfTrailingZeros 59 = .ok (.iconst 4, 1) := dk_7 (dk_at dksJ28_numberOfTrailingZeros_2 12 rfl rfl)
theorem dJ28_numberOfTrailingZeros_60 : decode cJ28_numberOfTrailingZeros 60 = .ok (.iushr, 1) := dk_124 (dk_at dksJ28_numberOfTrailingZeros_2 13 rfl rfl)
theorem dJ28_numberOfTrailingZeros_61 : decode cJ28_numberOfTrailingZeros 61 = .ok (.istore_n 0, 1) := dk_59 (dk_at dksJ28_numberOfTrailingZeros_2 14 rfl rfl)
theorem dJ28_numberOfTrailingZeros_62 : decode cJ28_numberOfTrailingZeros 62 = .ok (.iload_n 0, 1) := dk_26 (dk_at dksJ28_numberOfTrailingZeros_2 15 rfl rfl)
theorem dJ28_numberOfTrailingZeros_63 : decode cJ28_numberOfTrailingZeros 63 = .ok (.iconst 4, 1) := dk_7 (dk_at dksJ28_numberOfTrailingZeros_2 16 rfl rfl)
theorem dJ28_numberOfTrailingZeros_64 : decode cJ28_numberOfTrailingZeros 64 = .ok (.if_icmp .le 10, 3) := dk_164 0 10 (dk_at dksJ28_numberOfTrailingZeros_2 17 rfl rfl)
theorem dJ28_numberOfTrailingZeros_67 : decode cJ28_numberOfTrailingZeros 67 = .ok (.iinc 1 2, 3) := dk_132 1 2 (dk_at dksJ28_numberOfTrailingZeros_2 20 rfl rfl)
theorem dJ28_numberOfTrailingZeros_70 : decode cJ28_numberOfTrailingZeros 70 = .ok (.iload_n 0, 1) := dk_26 (dk_at dksJ28_numberOfTrailingZeros_2 23 rfl rfl)
theorem dJ28_numberOfTrailingZeros_71 : decode cJ28_numberOfTrailingZeros 71 = .ok (.iconst 2, 1) := dk_5 (dk_at dksJ28_numberOfTrailingZeros_3 0 rfl rfl)
theorem dJ28_numberOfTrailingZeros_72 : decode cJ28_numberOfTrailingZeros 72 = .ok (.iushr, 1) := dk_124 (dk_at dksJ28_numberOfTrailingZeros_3 1 rfl rfl)
theorem dJ28_numberOfTrailingZeros_73 : decode cJ28_numberOfTrailingZeros 73 = .ok (.istore_n 0, 1) := dk_59 (dk_at dksJ28_numberOfTrailingZeros_3 2 rfl rfl)
theorem dJ28_numberOfTrailingZeros_74 : decode cJ28_numberOfTrailingZeros 74 = .ok (.iload_n 1, 1) := dk_27 (dk_at dksJ28_numberOfTrailingZeros_3 3 rfl rfl)
theorem dJ28_numberOfTrailingZeros_75 : decode cJ28_numberOfTrailingZeros 75 = .ok (.iload_n 0, 1) := dk_26 (dk_at dksJ28_numberOfTrailingZeros_3 4 rfl rfl)
theorem dJ28_numberOfTrailingZeros_76 : decode cJ28_numberOfTrailingZeros 76 = .ok (.iconst 1, 1) := dk_4 (dk_at dksJ28_numberOfTrailingZeros_3 5 rfl rfl)
theorem dJ28_numberOfTrailingZeros_77 : decode cJ28_numberOfTrailingZeros 77 = .ok (.iushr, 1) := dk_124 (dk_at dksJ28_numberOfTrailingZeros_3 6 rfl rfl)
theorem dJ28_numberOfTrailingZeros_78 : decode cJ28_numberOfTrailingZeros 78 = .ok (.iadd, 1) := dk_96 (dk_at dksJ28_numberOfTrailingZeros_3 7 rfl rfl)
theorem dJ28_numberOfTrailingZeros_79 : decode cJ28_numberOfTrailingZeros 79 = .ok (.ireturn, 1) := dk_172 (dk_at dksJ28_numberOfTrailingZeros_3 8 rfl rfl)
theorem q140 : (Jvm.Cond.initialized "java/lang/Integer") ∈ lw_all := lw_g (lw_at lw_m1 39 rfl) rfl
theorem q403 : (Jvm.Cond.selects "java/lang/Integer" ({ cls := "java/lang/Object", name := "getClass", desc := "()Ljava/lang/Class;" } : Jvm.MethodName) ({ cls := "java/lang/Object", name := "getClass", desc := "()Ljava/lang/Class;" } : Jvm.MethodName)) ∈ lw_all := lw_g (lw_at lw_m2 62 rfl) rfl
theorem q877 : (Jvm.Cond.static ({ cls := "java/lang/Integer", name := "stringSize", desc := "(I)I" } : Jvm.MethodName)) ∈ lw_all := lw_g (lw_at lw_m4 56 rfl) rfl
theorem q878 : (Jvm.Cond.code ({ cls := "java/lang/Integer", name := "stringSize", desc := "(I)I" } : Jvm.MethodName) prog_27_method_13_code (4 : Nat) (Option.some Jvm.ClassFile.FieldType.int)) ∈ lw_all := lw_g (lw_at lw_m4 57 rfl) rfl
theorem q880 : (Jvm.Cond.static ({ cls := "java/lang/Integer", name := "getChars", desc := "(II[B)I" } : Jvm.MethodName)) ∈ lw_all := lw_g (lw_at lw_m4 59 rfl) rfl
theorem q881 : (Jvm.Cond.code ({ cls := "java/lang/Integer", name := "getChars", desc := "(II[B)I" } : Jvm.MethodName) prog_27_method_12_code (7 : Nat) (Option.some Jvm.ClassFile.FieldType.int)) ∈ lw_all := lw_g (lw_at lw_m4 60 rfl) rfl
theorem q882 : (Jvm.Cond.fieldLink "java/lang/Integer" (83 : Nat) "java/lang/Integer" "DigitOnes" "[B") ∈ lw_all := lw_g (lw_at lw_m4 61 rfl) rfl
theorem q883 : (Jvm.Cond.laysStatic "java/lang/Integer" "DigitOnes" "[B") ∈ lw_tbl := lw_at lw_m4 62 rfl
theorem q884 : (Jvm.Cond.fieldLink "java/lang/Integer" (87 : Nat) "java/lang/Integer" "DigitTens" "[B") ∈ lw_all := lw_g (lw_at lw_m4 63 rfl) rfl
theorem q885 : (Jvm.Cond.laysStatic "java/lang/Integer" "DigitTens" "[B") ∈ lw_tbl := lw_at lw_m4 64 rfl
theorem q2185 : (Jvm.Cond.static ({ cls := "java/lang/Integer", name := "valueOf", desc := "(I)Ljava/lang/Integer;" } : Jvm.MethodName)) ∈ lw_all := lw_g (lw_at lw_m9 164 rfl) rfl
theorem q2186 : (Jvm.Cond.code ({ cls := "java/lang/Integer", name := "valueOf", desc := "(I)Ljava/lang/Integer;" } : Jvm.MethodName) prog_27_method_22_code (1 : Nat) (Option.some (Jvm.ClassFile.FieldType.object "java/lang/Integer"))) ∈ lw_all := lw_g (lw_at lw_m9 165 rfl) rfl
theorem q2187 : (Jvm.Cond.fieldLink "java/lang/Integer" (191 : Nat) "java/lang/Integer$IntegerCache" "high" "I") ∈ lw_all := lw_g (lw_at lw_m9 166 rfl) rfl
theorem q2189 : (Jvm.Cond.fieldLink "java/lang/Integer" (195 : Nat) "java/lang/Integer$IntegerCache" "cache" "[Ljava/lang/Integer;") ∈ lw_all := lw_g (lw_at lw_m9 168 rfl) rfl
theorem q2191 : (Jvm.Cond.classLink "java/lang/Integer" (1 : Nat) "java/lang/Integer") ∈ lw_all := lw_g (lw_at lw_m9 170 rfl) rfl
theorem q2192 : (Jvm.Cond.instantiable "java/lang/Integer" (1 : Nat)) ∈ lw_all := lw_g (lw_at lw_m9 171 rfl) rfl
theorem q2193 : (Jvm.Cond.methodLink "java/lang/Integer" (199 : Nat) ({ cls := "java/lang/Integer", name := "<init>", desc := "(I)V" } : Jvm.MethodName)) ∈ lw_all := lw_g (lw_at lw_m9 172 rfl) rfl
theorem q2194 : (Jvm.Cond.instanceMethod ({ cls := "java/lang/Integer", name := "<init>", desc := "(I)V" } : Jvm.MethodName)) ∈ lw_all := lw_g (lw_at lw_m9 173 rfl) rfl
theorem q2195 : (Jvm.Cond.code ({ cls := "java/lang/Integer", name := "<init>", desc := "(I)V" } : Jvm.MethodName) prog_27_method_23_code (2 : Nat) (Option.none : Option Jvm.ClassFile.FieldType)) ∈ lw_all := lw_g (lw_at lw_m9 174 rfl) rfl
theorem q2196 : (Jvm.Cond.methodLink "java/lang/Integer" (202 : Nat) ({ cls := "java/lang/Number", name := "<init>", desc := "()V" } : Jvm.MethodName)) ∈ lw_all := lw_g (lw_at lw_m9 175 rfl) rfl
theorem q2200 : (Jvm.Cond.fieldLink "java/lang/Integer" (205 : Nat) "java/lang/Integer" "value" "I") ∈ lw_all := lw_g (lw_at lw_m9 179 rfl) rfl
theorem q2201 : (Jvm.Cond.laysFinal "java/lang/Integer" "java/lang/Integer" "value" "I") ∈ lw_all := lw_g (lw_at lw_m9 180 rfl) rfl
theorem q2202 : (Jvm.Cond.soleField "java/lang/Integer" "value") ∈ lw_all := lw_g (lw_at lw_m9 181 rfl) rfl
theorem q2203 : (Jvm.Cond.superclass "java/lang/Integer" "java/lang/Number") ∈ lw_all := lw_g (lw_at lw_m9 182 rfl) rfl
theorem q2256 : (Jvm.Cond.instanceMethod ({ cls := "java/lang/Integer", name := "intValue", desc := "()I" } : Jvm.MethodName)) ∈ lw_all := lw_g (lw_at lw_m9 235 rfl) rfl
theorem q2257 : (Jvm.Cond.selects "java/lang/Integer" ({ cls := "java/lang/Integer", name := "intValue", desc := "()I" } : Jvm.MethodName) ({ cls := "java/lang/Integer", name := "intValue", desc := "()I" } : Jvm.MethodName)) ∈ lw_all := lw_g (lw_at lw_m9 236 rfl) rfl
theorem q2258 : (Jvm.Cond.code ({ cls := "java/lang/Integer", name := "intValue", desc := "()I" } : Jvm.MethodName) prog_27_method_27_code (1 : Nat) (Option.some Jvm.ClassFile.FieldType.int)) ∈ lw_all := lw_g (lw_at lw_m9 237 rfl) rfl
theorem q3408 : (Jvm.Cond.static ({ cls := "java/lang/Integer", name := "numberOfTrailingZeros", desc := "(I)I" } : Jvm.MethodName)) ∈ lw_all := lw_g (lw_at lw_m14 187 rfl) rfl
theorem q3409 : (Jvm.Cond.code ({ cls := "java/lang/Integer", name := "numberOfTrailingZeros", desc := "(I)I" } : Jvm.MethodName) prog_27_method_48_code (2 : Nat) (Option.some Jvm.ClassFile.FieldType.int)) ∈ lw_all := lw_g (lw_at lw_m14 188 rfl) rfl
theorem q3410 : (Jvm.Cond.constant "java/lang/Integer" (264 : Nat) (65536 : Int32)) ∈ lw_all := lw_g (lw_at lw_m14 189 rfl) rfl
theorem q3968 : (Jvm.Cond.castable "java/lang/Integer" "java/lang/Object") ∈ lw_tbl := lw_at lw_m17 27 rfl


/-! java/util/LinkedList$ListItr -/
set_option maxRecDepth 100000
abbrev cJ35_init : ByteArray := prog_78_method_1_code
def yJ35_init : MethodName := ⟨RJ35, "<init>", "(Ljava/util/LinkedList;I)V"⟩
def dkwJ35_init_1 : List UInt8 := [180, 0, 22, 160, 0, 7, 1, 167, 0, 8, 43, 28, 182, 0, 25, 181, 0, 29, 42, 28, 181, 0, 33, 177]
abbrev dktJ35_init_1 : List UInt8 := dkwJ35_init_1 ++ []
def dkwJ35_init_0 : List UInt8 := [42, 43, 181, 0, 1, 42, 183, 0, 7, 42, 42, 180, 0, 1, 180, 0, 13, 181, 0, 19, 42, 28, 43]
abbrev dktJ35_init_0 : List UInt8 := dkwJ35_init_0 ++ dktJ35_init_1
theorem dksJ35_init_0 : cJ35_init.data.toList.drop 0 = dktJ35_init_0 := by decide +kernel
theorem dksJ35_init_1 : cJ35_init.data.toList.drop 23 = dktJ35_init_1 := dk_seg dksJ35_init_0 23 rfl rfl
theorem dJ35_init_0 : decode cJ35_init 0 = .ok (.aload_n 0, 1) := dk_42 (dk_at dksJ35_init_0 0 rfl rfl)
theorem dJ35_init_1 : decode cJ35_init 1 = .ok (.aload_n 1, 1) := dk_43 (dk_at dksJ35_init_0 1 rfl rfl)
theorem dJ35_init_2 : decode cJ35_init 2 = .ok (.putfield 1, 3) := dk_181 0 1 (dk_at dksJ35_init_0 2 rfl rfl)
theorem dJ35_init_5 : decode cJ35_init 5 = .ok (.aload_n 0, 1) := dk_42 (dk_at dksJ35_init_0 5 rfl rfl)
theorem dJ35_init_6 : decode cJ35_init 6 = .ok (.invokespecial 7, 3) := dk_183 0 7 (dk_at dksJ35_init_0 6 rfl rfl)
theorem dJ35_init_9 : decode cJ35_init 9 = .ok (.aload_n 0, 1) := dk_42 (dk_at dksJ35_init_0 9 rfl rfl)
theorem dJ35_init_10 : decode cJ35_init 10 = .ok (.aload_n 0, 1) := dk_42 (dk_at dksJ35_init_0 10 rfl rfl)
theorem dJ35_init_11 : decode cJ35_init 11 = .ok (.getfield 1, 3) := dk_180 0 1 (dk_at dksJ35_init_0 11 rfl rfl)
theorem dJ35_init_14 : decode cJ35_init 14 = .ok (.getfield 13, 3) := dk_180 0 13 (dk_at dksJ35_init_0 14 rfl rfl)
theorem dJ35_init_17 : decode cJ35_init 17 = .ok (.putfield 19, 3) := dk_181 0 19 (dk_at dksJ35_init_0 17 rfl rfl)
theorem dJ35_init_20 : decode cJ35_init 20 = .ok (.aload_n 0, 1) := dk_42 (dk_at dksJ35_init_0 20 rfl rfl)
theorem dJ35_init_21 : decode cJ35_init 21 = .ok (.iload_n 2, 1) := dk_28 (dk_at dksJ35_init_0 21 rfl rfl)
theorem dJ35_init_22 : decode cJ35_init 22 = .ok (.aload_n 1, 1) := dk_43 (dk_at dksJ35_init_0 22 rfl rfl)
theorem dJ35_init_23 : decode cJ35_init 23 = .ok (.getfield 22, 3) := dk_180 0 22 (dk_at dksJ35_init_1 0 rfl rfl)
theorem dJ35_init_26 : decode cJ35_init 26 = .ok (.if_icmp .ne 7, 3) := dk_160 0 7 (dk_at dksJ35_init_1 3 rfl rfl)
theorem dJ35_init_29 : decode cJ35_init 29 = .ok (.aconst_null, 1) := dk_1 (dk_at dksJ35_init_1 6 rfl rfl)
theorem dJ35_init_30 : decode cJ35_init 30 = .ok (.goto 8, 3) := dk_167 0 8 (dk_at dksJ35_init_1 7 rfl rfl)
theorem dJ35_init_33 : decode cJ35_init 33 = .ok (.aload_n 1, 1) := dk_43 (dk_at dksJ35_init_1 10 rfl rfl)
theorem dJ35_init_34 : decode cJ35_init 34 = .ok (.iload_n 2, 1) := dk_28 (dk_at dksJ35_init_1 11 rfl rfl)
theorem dJ35_init_35 : decode cJ35_init 35 = .ok (.invokevirtual 25, 3) := dk_182 0 25 (dk_at dksJ35_init_1 12 rfl rfl)
theorem dJ35_init_38 : decode cJ35_init 38 = .ok (.putfield 29, 3) := dk_181 0 29 (dk_at dksJ35_init_1 15 rfl rfl)
theorem dJ35_init_41 : decode cJ35_init 41 = .ok (.aload_n 0, 1) := dk_42 (dk_at dksJ35_init_1 18 rfl rfl)
theorem dJ35_init_42 : decode cJ35_init 42 = .ok (.iload_n 2, 1) := dk_28 (dk_at dksJ35_init_1 19 rfl rfl)
theorem dJ35_init_43 : decode cJ35_init 43 = .ok (.putfield 33, 3) := dk_181 0 33 (dk_at dksJ35_init_1 20 rfl rfl)
theorem dJ35_init_46 : decode cJ35_init 46 = .ok (.return_, 1) := dk_177 (dk_at dksJ35_init_1 23 rfl rfl)
abbrev cJ35_hasNext : ByteArray := prog_78_method_2_code
def yJ35_hasNext : MethodName := ⟨RJ35, "hasNext", "()Z"⟩
def dkwJ35_hasNext_0 : List UInt8 := [42, 180, 0, 33, 42, 180, 0, 1, 180, 0, 22, 162, 0, 7, 4, 167, 0, 4, 3, 172]
abbrev dktJ35_hasNext_0 : List UInt8 := dkwJ35_hasNext_0 ++ []
theorem dksJ35_hasNext_0 : cJ35_hasNext.data.toList.drop 0 = dktJ35_hasNext_0 := by decide +kernel
theorem dJ35_hasNext_0 : decode cJ35_hasNext 0 = .ok (.aload_n 0, 1) := dk_42 (dk_at dksJ35_hasNext_0 0 rfl rfl)
theorem dJ35_hasNext_1 : decode cJ35_hasNext 1 = .ok (.getfield 33, 3) := dk_180 0 33 (dk_at dksJ35_hasNext_0 1 rfl rfl)
theorem dJ35_hasNext_4 : decode cJ35_hasNext 4 = .ok (.aload_n 0, 1) := dk_42 (dk_at dksJ35_hasNext_0 4 rfl rfl)
theorem dJ35_hasNext_5 : decode cJ35_hasNext 5 = .ok (.getfield 1, 3) := dk_180 0 1 (dk_at dksJ35_hasNext_0 5 rfl rfl)
theorem dJ35_hasNext_8 : decode cJ35_hasNext 8 = .ok (.getfield 22, 3) := dk_180 0 22 (dk_at dksJ35_hasNext_0 8 rfl rfl)
theorem dJ35_hasNext_11 : decode cJ35_hasNext 11 = .ok (.if_icmp .ge 7, 3) := dk_162 0 7 (dk_at dksJ35_hasNext_0 11 rfl rfl)
theorem dJ35_hasNext_14 : decode cJ35_hasNext 14 = .ok (.iconst 1, 1) := dk_4 (dk_at dksJ35_hasNext_0 14 rfl rfl)
theorem dJ35_hasNext_15 : decode cJ35_hasNext 15 = .ok (.goto 4, 3) := dk_167 0 4 (dk_at dksJ35_hasNext_0 15 rfl rfl)
theorem dJ35_hasNext_18 : decode cJ35_hasNext 18 = .ok (.iconst 0, 1) := dk_3 (dk_at dksJ35_hasNext_0 18 rfl rfl)
theorem dJ35_hasNext_19 : decode cJ35_hasNext 19 = .ok (.ireturn, 1) := dk_172 (dk_at dksJ35_hasNext_0 19 rfl rfl)
abbrev cJ35_next : ByteArray := prog_78_method_3_code
def yJ35_next : MethodName := ⟨RJ35, "next", "()Ljava/lang/Object;"⟩
def dkwJ35_next_2 : List UInt8 := [42, 180, 0, 46, 180, 0, 52, 176]
abbrev dktJ35_next_2 : List UInt8 := dkwJ35_next_2 ++ []
def dkwJ35_next_1 : List UInt8 := [181, 0, 46, 42, 42, 180, 0, 29, 180, 0, 49, 181, 0, 29, 42, 89, 180, 0, 33, 4, 96, 181, 0, 33]
abbrev dktJ35_next_1 : List UInt8 := dkwJ35_next_1 ++ dktJ35_next_2
def dkwJ35_next_0 : List UInt8 := [42, 182, 0, 36, 42, 182, 0, 39, 154, 0, 11, 187, 0, 43, 89, 183, 0, 45, 191, 42, 42, 180, 0, 29]
abbrev dktJ35_next_0 : List UInt8 := dkwJ35_next_0 ++ dktJ35_next_1
theorem dksJ35_next_0 : cJ35_next.data.toList.drop 0 = dktJ35_next_0 := by decide +kernel
theorem dksJ35_next_1 : cJ35_next.data.toList.drop 24 = dktJ35_next_1 := dk_seg dksJ35_next_0 24 rfl rfl
theorem dksJ35_next_2 : cJ35_next.data.toList.drop 48 = dktJ35_next_2 := dk_seg dksJ35_next_1 24 rfl rfl
theorem dJ35_next_0 : decode cJ35_next 0 = .ok (.aload_n 0, 1) := dk_42 (dk_at dksJ35_next_0 0 rfl rfl)
theorem dJ35_next_1 : decode cJ35_next 1 = .ok (.invokevirtual 36, 3) := dk_182 0 36 (dk_at dksJ35_next_0 1 rfl rfl)
theorem dJ35_next_4 : decode cJ35_next 4 = .ok (.aload_n 0, 1) := dk_42 (dk_at dksJ35_next_0 4 rfl rfl)
theorem dJ35_next_5 : decode cJ35_next 5 = .ok (.invokevirtual 39, 3) := dk_182 0 39 (dk_at dksJ35_next_0 5 rfl rfl)
theorem dJ35_next_8 : decode cJ35_next 8 = .ok (.ifCond .ne 11, 3) := dk_154 0 11 (dk_at dksJ35_next_0 8 rfl rfl)
theorem dJ35_next_11 : decode cJ35_next 11 = .ok (.new 43, 3) := dk_187 0 43 (dk_at dksJ35_next_0 11 rfl rfl)
theorem dJ35_next_14 : decode cJ35_next 14 = .ok (.dup, 1) := dk_89 (dk_at dksJ35_next_0 14 rfl rfl)
theorem dJ35_next_15 : decode cJ35_next 15 = .ok (.invokespecial 45, 3) := dk_183 0 45 (dk_at dksJ35_next_0 15 rfl rfl)
theorem dJ35_next_18 : decode cJ35_next 18 = .ok (.athrow, 1) := dk_191 (dk_at dksJ35_next_0 18 rfl rfl)
theorem dJ35_next_19 : decode cJ35_next 19 = .ok (.aload_n 0, 1) := dk_42 (dk_at dksJ35_next_0 19 rfl rfl)
theorem dJ35_next_20 : decode cJ35_next 20 = .ok (.aload_n 0, 1) := dk_42 (dk_at dksJ35_next_0 20 rfl rfl)
theorem dJ35_next_21 : decode cJ35_next 21 = .ok (.getfield 29, 3) := dk_180 0 29 (dk_at dksJ35_next_0 21 rfl rfl)
theorem dJ35_next_24 : decode cJ35_next 24 = .ok (.putfield 46, 3) := dk_181 0 46 (dk_at dksJ35_next_1 0 rfl rfl)
theorem dJ35_next_27 : decode cJ35_next 27 = .ok (.aload_n 0, 1) := dk_42 (dk_at dksJ35_next_1 3 rfl rfl)
theorem dJ35_next_28 : decode cJ35_next 28 = .ok (.aload_n 0, 1) := dk_42 (dk_at dksJ35_next_1 4 rfl rfl)
theorem dJ35_next_29 : decode cJ35_next 29 = .ok (.getfield 29, 3) := dk_180 0 29 (dk_at dksJ35_next_1 5 rfl rfl)
theorem dJ35_next_32 : decode cJ35_next 32 = .ok (.getfield 49, 3) := dk_180 0 49 (dk_at dksJ35_next_1 8 rfl rfl)
theorem dJ35_next_35 : decode cJ35_next 35 = .ok (.putfield 29, 3) := dk_181 0 29 (dk_at dksJ35_next_1 11 rfl rfl)
theorem dJ35_next_38 : decode cJ35_next 38 = .ok (.aload_n 0, 1) := dk_42 (dk_at dksJ35_next_1 14 rfl rfl)
theorem dJ35_next_39 : decode cJ35_next 39 = .ok (.dup, 1) := dk_89 (dk_at dksJ35_next_1 15 rfl rfl)
theorem dJ35_next_40 : decode cJ35_next 40 = .ok (.getfield 33, 3) := dk_180 0 33 (dk_at dksJ35_next_1 16 rfl rfl)
theorem dJ35_next_43 : decode cJ35_next 43 = .ok (.iconst 1, 1) := dk_4 (dk_at dksJ35_next_1 19 rfl rfl)
theorem dJ35_next_44 : decode cJ35_next 44 = .ok (.iadd, 1) := dk_96 (dk_at dksJ35_next_1 20 rfl rfl)
theorem dJ35_next_45 : decode cJ35_next 45 = .ok (.putfield 33, 3) := dk_181 0 33 (dk_at dksJ35_next_1 21 rfl rfl)
theorem dJ35_next_48 : decode cJ35_next 48 = .ok (.aload_n 0, 1) := dk_42 (dk_at dksJ35_next_2 0 rfl rfl)
theorem dJ35_next_49 : decode cJ35_next 49 = .ok (.getfield 46, 3) := dk_180 0 46 (dk_at dksJ35_next_2 1 rfl rfl)
theorem dJ35_next_52 : decode cJ35_next 52 = .ok (.getfield 52, 3) := dk_180 0 52 (dk_at dksJ35_next_2 4 rfl rfl)
theorem dJ35_next_55 : decode cJ35_next 55 = .ok (.areturn, 1) := dk_176 (dk_at dksJ35_next_2 7 rfl rfl)
abbrev cJ35_checkForComodification : ByteArray := prog_78_method_12_code
def yJ35_checkForComodification : MethodName := ⟨RJ35, "checkForComodification", "()V"⟩
def dkwJ35_checkForComodification_0 : List UInt8 := [42, 180, 0, 1, 180, 0, 13, 42, 180, 0, 19, 159, 0, 11, 187, 0, 91, 89, 183, 0, 93, 191, 177]
abbrev dktJ35_checkForComodification_0 : List UInt8 := dkwJ35_checkForComodification_0 ++ []
theorem dksJ35_checkForComodification_0 : cJ35_checkForComodification.data.toList.drop 0 = dktJ35_checkForComodification_0 := by decide +kernel
theorem dJ35_checkForComodification_0 : decode cJ35_checkForComodification 0 = .ok (.aload_n 0, 1) := dk_42 (dk_at dksJ35_checkForComodification_0 0 rfl rfl)
theorem dJ35_checkForComodification_1 : decode cJ35_checkForComodification 1 = .ok (.getfield 1, 3) := dk_180 0 1 (dk_at dksJ35_checkForComodification_0 1 rfl rfl)
theorem dJ35_checkForComodification_4 : decode cJ35_checkForComodification 4 = .ok (.getfield 13, 3) := dk_180 0 13 (dk_at dksJ35_checkForComodification_0 4 rfl rfl)
theorem dJ35_checkForComodification_7 : decode cJ35_checkForComodification 7 = .ok (.aload_n 0, 1) := dk_42 (dk_at dksJ35_checkForComodification_0 7 rfl rfl)
theorem dJ35_checkForComodification_8 : decode cJ35_checkForComodification 8 = .ok (.getfield 19, 3) := dk_180 0 19 (dk_at dksJ35_checkForComodification_0 8 rfl rfl)
theorem dJ35_checkForComodification_11 : decode cJ35_checkForComodification 11 = .ok (.if_icmp .eq 11, 3) := dk_159 0 11 (dk_at dksJ35_checkForComodification_0 11 rfl rfl)
theorem dJ35_checkForComodification_14 : decode cJ35_checkForComodification 14 = .ok (.new 91, 3) := dk_187 0 91 (dk_at dksJ35_checkForComodification_0 14 rfl rfl)
theorem dJ35_checkForComodification_17 : decode cJ35_checkForComodification 17 = .ok (.dup, 1) := dk_89 (dk_at dksJ35_checkForComodification_0 17 rfl rfl)
theorem dJ35_checkForComodification_18 : decode cJ35_checkForComodification 18 = .ok (.invokespecial 93, 3) := dk_183 0 93 (dk_at dksJ35_checkForComodification_0 18 rfl rfl)
theorem dJ35_checkForComodification_21 : decode cJ35_checkForComodification 21 = .ok (.athrow, 1) := dk_191 (dk_at dksJ35_checkForComodification_0 21 rfl rfl)
theorem dJ35_checkForComodification_22 : decode cJ35_checkForComodification 22 = .ok (.return_, 1) := dk_177 (dk_at dksJ35_checkForComodification_0 22 rfl rfl)
abbrev cJ35_remove : ByteArray := prog_78_method_8_code
def yJ35_remove : MethodName := ⟨RJ35, "remove", "()V"⟩
def dkwJ35_remove_3 : List UInt8 := [181, 0, 46, 42, 89, 180, 0, 19, 4, 96, 181, 0, 19, 177]
abbrev dktJ35_remove_3 : List UInt8 := dkwJ35_remove_3 ++ []
def dkwJ35_remove_2 : List UInt8 := [166, 0, 11, 42, 43, 181, 0, 29, 167, 0, 13, 42, 89, 180, 0, 33, 4, 100, 181, 0, 33, 42, 1]
abbrev dktJ35_remove_2 : List UInt8 := dkwJ35_remove_2 ++ dktJ35_remove_3
def dkwJ35_remove_1 : List UInt8 := [180, 0, 49, 76, 42, 180, 0, 1, 42, 180, 0, 46, 182, 0, 68, 87, 42, 180, 0, 29, 42, 180, 0, 46]
abbrev dktJ35_remove_1 : List UInt8 := dkwJ35_remove_1 ++ dktJ35_remove_2
def dkwJ35_remove_0 : List UInt8 := [42, 182, 0, 36, 42, 180, 0, 46, 199, 0, 11, 187, 0, 65, 89, 183, 0, 67, 191, 42, 180, 0, 46]
abbrev dktJ35_remove_0 : List UInt8 := dkwJ35_remove_0 ++ dktJ35_remove_1
theorem dksJ35_remove_0 : cJ35_remove.data.toList.drop 0 = dktJ35_remove_0 := by decide +kernel
theorem dksJ35_remove_1 : cJ35_remove.data.toList.drop 23 = dktJ35_remove_1 := dk_seg dksJ35_remove_0 23 rfl rfl
theorem dksJ35_remove_2 : cJ35_remove.data.toList.drop 47 = dktJ35_remove_2 := dk_seg dksJ35_remove_1 24 rfl rfl
theorem dksJ35_remove_3 : cJ35_remove.data.toList.drop 70 = dktJ35_remove_3 := dk_seg dksJ35_remove_2 23 rfl rfl
theorem dJ35_remove_0 : decode cJ35_remove 0 = .ok (.aload_n 0, 1) := dk_42 (dk_at dksJ35_remove_0 0 rfl rfl)
theorem dJ35_remove_1 : decode cJ35_remove 1 = .ok (.invokevirtual 36, 3) := dk_182 0 36 (dk_at dksJ35_remove_0 1 rfl rfl)
theorem dJ35_remove_4 : decode cJ35_remove 4 = .ok (.aload_n 0, 1) := dk_42 (dk_at dksJ35_remove_0 4 rfl rfl)
theorem dJ35_remove_5 : decode cJ35_remove 5 = .ok (.getfield 46, 3) := dk_180 0 46 (dk_at dksJ35_remove_0 5 rfl rfl)
theorem dJ35_remove_8 : decode cJ35_remove 8 = .ok (.ifnonnull 11, 3) := dk_199 0 11 (dk_at dksJ35_remove_0 8 rfl rfl)
theorem dJ35_remove_11 : decode cJ35_remove 11 = .ok (.new 65, 3) := dk_187 0 65 (dk_at dksJ35_remove_0 11 rfl rfl)
theorem dJ35_remove_14 : decode cJ35_remove 14 = .ok (.dup, 1) := dk_89 (dk_at dksJ35_remove_0 14 rfl rfl)
theorem dJ35_remove_15 : decode cJ35_remove 15 = .ok (.invokespecial 67, 3) := dk_183 0 67 (dk_at dksJ35_remove_0 15 rfl rfl)
theorem dJ35_remove_18 : decode cJ35_remove 18 = .ok (.athrow, 1) := dk_191 (dk_at dksJ35_remove_0 18 rfl rfl)
theorem dJ35_remove_19 : decode cJ35_remove 19 = .ok (.aload_n 0, 1) := dk_42 (dk_at dksJ35_remove_0 19 rfl rfl)
theorem dJ35_remove_20 : decode cJ35_remove 20 = .ok (.getfield 46, 3) := dk_180 0 46 (dk_at dksJ35_remove_0 20 rfl rfl)
theorem dJ35_remove_23 : decode cJ35_remove 23 = .ok (.getfield 49, 3) := dk_180 0 49 (dk_at dksJ35_remove_1 0 rfl rfl)
theorem dJ35_remove_26 : decode cJ35_remove 26 = .ok (.astore_n 1, 1) := dk_76 (dk_at dksJ35_remove_1 3 rfl rfl)
theorem dJ35_remove_27 : decode cJ35_remove 27 = .ok (.aload_n 0, 1) := dk_42 (dk_at dksJ35_remove_1 4 rfl rfl)
theorem dJ35_remove_28 : decode cJ35_remove 28 = .ok (.getfield 1, 3) := dk_180 0 1 (dk_at dksJ35_remove_1 5 rfl rfl)
theorem dJ35_remove_31 : decode cJ35_remove 31 = .ok (.aload_n 0, 1) := dk_42 (dk_at dksJ35_remove_1 8 rfl rfl)
theorem dJ35_remove_32 : decode cJ35_remove 32 = .ok (.getfield 46, 3) := dk_180 0 46 (dk_at dksJ35_remove_1 9 rfl rfl)
theorem dJ35_remove_35 : decode cJ35_remove 35 = .ok (.invokevirtual 68, 3) := dk_182 0 68 (dk_at dksJ35_remove_1 12 rfl rfl)
theorem dJ35_remove_38 : decode cJ35_remove 38 = .ok (.pop, 1) := dk_87 (dk_at dksJ35_remove_1 15 rfl rfl)
theorem dJ35_remove_39 : decode cJ35_remove 39 = .ok (.aload_n 0, 1) := dk_42 (dk_at dksJ35_remove_1 16 rfl rfl)
theorem dJ35_remove_40 : decode cJ35_remove 40 = .ok (.getfield 29, 3) := dk_180 0 29 (dk_at dksJ35_remove_1 17 rfl rfl)
theorem dJ35_remove_43 : decode cJ35_remove 43 = .ok (.aload_n 0, 1) := dk_42 (dk_at dksJ35_remove_1 20 rfl rfl)
theorem dJ35_remove_44 : decode cJ35_remove 44 = .ok (.getfield 46, 3) := dk_180 0 46 (dk_at dksJ35_remove_1 21 rfl rfl)
theorem dJ35_remove_47 : decode cJ35_remove 47 = .ok (.if_acmp .ne 11, 3) := dk_166 0 11 (dk_at dksJ35_remove_2 0 rfl rfl)
theorem dJ35_remove_50 : decode cJ35_remove 50 = .ok (.aload_n 0, 1) := dk_42 (dk_at dksJ35_remove_2 3 rfl rfl)
theorem dJ35_remove_51 : decode cJ35_remove 51 = .ok (.aload_n 1, 1) := dk_43 (dk_at dksJ35_remove_2 4 rfl rfl)
theorem dJ35_remove_52 : decode cJ35_remove 52 = .ok (.putfield 29, 3) := dk_181 0 29 (dk_at dksJ35_remove_2 5 rfl rfl)
theorem dJ35_remove_55 : decode cJ35_remove 55 = .ok (.goto 13, 3) := dk_167 0 13 (dk_at dksJ35_remove_2 8 rfl rfl)
theorem dJ35_remove_58 : decode cJ35_remove 58 = .ok (.aload_n 0, 1) := dk_42 (dk_at dksJ35_remove_2 11 rfl rfl)
theorem dJ35_remove_59 : decode cJ35_remove 59 = .ok (.dup, 1) := dk_89 (dk_at dksJ35_remove_2 12 rfl rfl)
theorem dJ35_remove_60 : decode cJ35_remove 60 = .ok (.getfield 33, 3) := dk_180 0 33 (dk_at dksJ35_remove_2 13 rfl rfl)
theorem dJ35_remove_63 : decode cJ35_remove 63 = .ok (.iconst 1, 1) := dk_4 (dk_at dksJ35_remove_2 16 rfl rfl)
theorem dJ35_remove_64 : decode cJ35_remove 64 = .ok (.isub, 1) := dk_100 (dk_at dksJ35_remove_2 17 rfl rfl)
theorem dJ35_remove_65 : decode cJ35_remove 65 = .ok (.putfield 33, 3) := dk_181 0 33 (dk_at dksJ35_remove_2 18 rfl rfl)
theorem dJ35_remove_68 : decode cJ35_remove 68 = .ok (.aload_n 0, 1) := dk_42 (dk_at dksJ35_remove_2 21 rfl rfl)
theorem dJ35_remove_69 : decode cJ35_remove 69 = .ok (.aconst_null, 1) := dk_1 (dk_at dksJ35_remove_2 22 rfl rfl)
theorem dJ35_remove_70 : decode cJ35_remove 70 = .ok (.putfield 46, 3) := dk_181 0 46 (dk_at dksJ35_remove_3 0 rfl rfl)
theorem dJ35_remove_73 : decode cJ35_remove 73 = .ok (.aload_n 0, 1) := dk_42 (dk_at dksJ35_remove_3 3 rfl rfl)
theorem dJ35_remove_74 : decode cJ35_remove 74 = .ok (.dup, 1) := dk_89 (dk_at dksJ35_remove_3 4 rfl rfl)
theorem dJ35_remove_75 : decode cJ35_remove 75 = .ok (.getfield 19, 3) := dk_180 0 19 (dk_at dksJ35_remove_3 5 rfl rfl)
theorem dJ35_remove_78 : decode cJ35_remove 78 = .ok (.iconst 1, 1) := dk_4 (dk_at dksJ35_remove_3 8 rfl rfl)
theorem dJ35_remove_79 : decode cJ35_remove 79 = .ok (.iadd, 1) := dk_96 (dk_at dksJ35_remove_3 9 rfl rfl)
theorem dJ35_remove_80 : decode cJ35_remove 80 = .ok (.putfield 19, 3) := dk_181 0 19 (dk_at dksJ35_remove_3 10 rfl rfl)
theorem dJ35_remove_83 : decode cJ35_remove 83 = .ok (.return_, 1) := dk_177 (dk_at dksJ35_remove_3 13 rfl rfl)
theorem q147 : (Jvm.Cond.initialized "java/util/LinkedList$ListItr") ∈ lw_all := lw_g (lw_at lw_m1 46 rfl) rfl
theorem q259 : (Jvm.Cond.fieldLink "java/util/LinkedList$ListItr" (13 : Nat) "java/util/LinkedList" "modCount" "I") ∈ lw_all := lw_g (lw_at lw_m1 158 rfl) rfl
theorem q293 : (Jvm.Cond.fieldLink "java/util/LinkedList$ListItr" (22 : Nat) "java/util/LinkedList" "size" "I") ∈ lw_all := lw_g (lw_at lw_m1 192 rfl) rfl
theorem q296 : (Jvm.Cond.fieldLink "java/util/LinkedList$ListItr" (59 : Nat) "java/util/LinkedList" "last" "Ljava/util/LinkedList$Node;") ∈ lw_all := lw_g (lw_at lw_m1 195 rfl) rfl
theorem q428 : (Jvm.Cond.selects "java/util/LinkedList$ListItr" ({ cls := "java/lang/Object", name := "getClass", desc := "()Ljava/lang/Class;" } : Jvm.MethodName) ({ cls := "java/lang/Object", name := "getClass", desc := "()Ljava/lang/Class;" } : Jvm.MethodName)) ∈ lw_all := lw_g (lw_at lw_m2 87 rfl) rfl
theorem q1121 : (Jvm.Cond.instantiable "java/util/LinkedList$ListItr" (5 : Nat)) ∈ lw_all := lw_g (lw_at lw_m5 60 rfl) rfl
theorem q1123 : (Jvm.Cond.instanceMethod ({ cls := "java/util/LinkedList$ListItr", name := "<init>", desc := "(Ljava/util/LinkedList;I)V" } : Jvm.MethodName)) ∈ lw_all := lw_g (lw_at lw_m5 62 rfl) rfl
theorem q1124 : (Jvm.Cond.code ({ cls := "java/util/LinkedList$ListItr", name := "<init>", desc := "(Ljava/util/LinkedList;I)V" } : Jvm.MethodName) prog_78_method_1_code (3 : Nat) (Option.none : Option Jvm.ClassFile.FieldType)) ∈ lw_all := lw_g (lw_at lw_m5 63 rfl) rfl
theorem q1125 : (Jvm.Cond.methodLink "java/util/LinkedList$ListItr" (7 : Nat) ({ cls := "java/lang/Object", name := "<init>", desc := "()V" } : Jvm.MethodName)) ∈ lw_all := lw_g (lw_at lw_m5 64 rfl) rfl
theorem q1126 : (Jvm.Cond.methodLink "java/util/LinkedList$ListItr" (25 : Nat) ({ cls := "java/util/LinkedList", name := "node", desc := "(I)Ljava/util/LinkedList$Node;" } : Jvm.MethodName)) ∈ lw_all := lw_g (lw_at lw_m5 65 rfl) rfl
theorem q1130 : (Jvm.Cond.fieldLink "java/util/LinkedList$ListItr" (46 : Nat) "java/util/LinkedList$ListItr" "lastReturned" "Ljava/util/LinkedList$Node;") ∈ lw_all := lw_g (lw_at lw_m5 69 rfl) rfl
theorem q1131 : (Jvm.Cond.fieldLink "java/util/LinkedList$ListItr" (29 : Nat) "java/util/LinkedList$ListItr" "next" "Ljava/util/LinkedList$Node;") ∈ lw_all := lw_g (lw_at lw_m5 70 rfl) rfl
theorem q1132 : (Jvm.Cond.fieldLink "java/util/LinkedList$ListItr" (33 : Nat) "java/util/LinkedList$ListItr" "nextIndex" "I") ∈ lw_all := lw_g (lw_at lw_m5 71 rfl) rfl
theorem q1133 : (Jvm.Cond.fieldLink "java/util/LinkedList$ListItr" (19 : Nat) "java/util/LinkedList$ListItr" "expectedModCount" "I") ∈ lw_all := lw_g (lw_at lw_m5 72 rfl) rfl
theorem q1134 : (Jvm.Cond.fieldLink "java/util/LinkedList$ListItr" (1 : Nat) "java/util/LinkedList$ListItr" "this$0" "Ljava/util/LinkedList;") ∈ lw_all := lw_g (lw_at lw_m5 73 rfl) rfl
theorem q1135 : (Jvm.Cond.lays "java/util/LinkedList$ListItr" "java/util/LinkedList$ListItr" "lastReturned" "Ljava/util/LinkedList$Node;") ∈ lw_all := lw_g (lw_at lw_m5 74 rfl) rfl
theorem q1136 : (Jvm.Cond.soleField "java/util/LinkedList$ListItr" "lastReturned") ∈ lw_all := lw_g (lw_at lw_m5 75 rfl) rfl
theorem q1137 : (Jvm.Cond.lays "java/util/LinkedList$ListItr" "java/util/LinkedList$ListItr" "next" "Ljava/util/LinkedList$Node;") ∈ lw_all := lw_g (lw_at lw_m5 76 rfl) rfl
theorem q1138 : (Jvm.Cond.soleField "java/util/LinkedList$ListItr" "next") ∈ lw_all := lw_g (lw_at lw_m5 77 rfl) rfl
theorem q1139 : (Jvm.Cond.lays "java/util/LinkedList$ListItr" "java/util/LinkedList$ListItr" "nextIndex" "I") ∈ lw_all := lw_g (lw_at lw_m5 78 rfl) rfl
theorem q1140 : (Jvm.Cond.soleField "java/util/LinkedList$ListItr" "nextIndex") ∈ lw_all := lw_g (lw_at lw_m5 79 rfl) rfl
theorem q1141 : (Jvm.Cond.lays "java/util/LinkedList$ListItr" "java/util/LinkedList$ListItr" "expectedModCount" "I") ∈ lw_all := lw_g (lw_at lw_m5 80 rfl) rfl
theorem q1142 : (Jvm.Cond.soleField "java/util/LinkedList$ListItr" "expectedModCount") ∈ lw_all := lw_g (lw_at lw_m5 81 rfl) rfl
theorem q1143 : (Jvm.Cond.laysFinal "java/util/LinkedList$ListItr" "java/util/LinkedList$ListItr" "this$0" "Ljava/util/LinkedList;") ∈ lw_all := lw_g (lw_at lw_m5 82 rfl) rfl
theorem q1144 : (Jvm.Cond.soleField "java/util/LinkedList$ListItr" "this$0") ∈ lw_all := lw_g (lw_at lw_m5 83 rfl) rfl
theorem q1145 : (Jvm.Cond.superclass "java/util/LinkedList$ListItr" "java/lang/Object") ∈ lw_all := lw_g (lw_at lw_m5 84 rfl) rfl
theorem q1307 : (Jvm.Cond.castable "java/util/LinkedList$ListItr" "java/util/ListIterator") ∈ lw_tbl := lw_at lw_m6 6 rfl
theorem q1308 : (Jvm.Cond.selects "java/util/LinkedList$ListItr" ({ cls := "java/util/ListIterator", name := "nextIndex", desc := "()I" } : Jvm.MethodName) ({ cls := "java/util/LinkedList$ListItr", name := "nextIndex", desc := "()I" } : Jvm.MethodName)) ∈ lw_all := lw_g (lw_at lw_m6 7 rfl) rfl
theorem q1309 : (Jvm.Cond.unhidden "java/util/LinkedList$ListItr" "nextIndex" "()I") ∈ lw_tbl := lw_at lw_m6 8 rfl
theorem q1310 : (Jvm.Cond.instanceMethod ({ cls := "java/util/LinkedList$ListItr", name := "nextIndex", desc := "()I" } : Jvm.MethodName)) ∈ lw_all := lw_g (lw_at lw_m6 9 rfl) rfl
theorem q1311 : (Jvm.Cond.publicMethod ({ cls := "java/util/LinkedList$ListItr", name := "nextIndex", desc := "()I" } : Jvm.MethodName)) ∈ lw_tbl := lw_at lw_m6 10 rfl
theorem q1312 : (Jvm.Cond.code ({ cls := "java/util/LinkedList$ListItr", name := "nextIndex", desc := "()I" } : Jvm.MethodName) prog_78_method_6_code (1 : Nat) (Option.some Jvm.ClassFile.FieldType.int)) ∈ lw_all := lw_g (lw_at lw_m6 11 rfl) rfl
theorem q1354 : (Jvm.Cond.selects "java/util/LinkedList$ListItr" ({ cls := "java/util/ListIterator", name := "hasNext", desc := "()Z" } : Jvm.MethodName) ({ cls := "java/util/LinkedList$ListItr", name := "hasNext", desc := "()Z" } : Jvm.MethodName)) ∈ lw_all := lw_g (lw_at lw_m6 53 rfl) rfl
theorem q1355 : (Jvm.Cond.unhidden "java/util/LinkedList$ListItr" "hasNext" "()Z") ∈ lw_tbl := lw_at lw_m6 54 rfl
theorem q1356 : (Jvm.Cond.instanceMethod ({ cls := "java/util/LinkedList$ListItr", name := "hasNext", desc := "()Z" } : Jvm.MethodName)) ∈ lw_all := lw_g (lw_at lw_m6 55 rfl) rfl
theorem q1357 : (Jvm.Cond.publicMethod ({ cls := "java/util/LinkedList$ListItr", name := "hasNext", desc := "()Z" } : Jvm.MethodName)) ∈ lw_tbl := lw_at lw_m6 56 rfl
theorem q1358 : (Jvm.Cond.code ({ cls := "java/util/LinkedList$ListItr", name := "hasNext", desc := "()Z" } : Jvm.MethodName) prog_78_method_2_code (1 : Nat) (Option.some Jvm.ClassFile.FieldType.boolean)) ∈ lw_all := lw_g (lw_at lw_m6 57 rfl) rfl
theorem q1361 : (Jvm.Cond.castable "java/util/LinkedList$ListItr" "java/util/Iterator") ∈ lw_tbl := lw_at lw_m6 60 rfl
theorem q1362 : (Jvm.Cond.selects "java/util/LinkedList$ListItr" ({ cls := "java/util/Iterator", name := "hasNext", desc := "()Z" } : Jvm.MethodName) ({ cls := "java/util/LinkedList$ListItr", name := "hasNext", desc := "()Z" } : Jvm.MethodName)) ∈ lw_all := lw_g (lw_at lw_m6 61 rfl) rfl
theorem q1607 : (Jvm.Cond.selects "java/util/LinkedList$ListItr" ({ cls := "java/util/ListIterator", name := "next", desc := "()Ljava/lang/Object;" } : Jvm.MethodName) ({ cls := "java/util/LinkedList$ListItr", name := "next", desc := "()Ljava/lang/Object;" } : Jvm.MethodName)) ∈ lw_all := lw_g (lw_at lw_m7 66 rfl) rfl
theorem q1608 : (Jvm.Cond.unhidden "java/util/LinkedList$ListItr" "next" "()Ljava/lang/Object;") ∈ lw_tbl := lw_at lw_m7 67 rfl
theorem q1609 : (Jvm.Cond.instanceMethod ({ cls := "java/util/LinkedList$ListItr", name := "next", desc := "()Ljava/lang/Object;" } : Jvm.MethodName)) ∈ lw_all := lw_g (lw_at lw_m7 68 rfl) rfl
theorem q1610 : (Jvm.Cond.publicMethod ({ cls := "java/util/LinkedList$ListItr", name := "next", desc := "()Ljava/lang/Object;" } : Jvm.MethodName)) ∈ lw_tbl := lw_at lw_m7 69 rfl
theorem q1611 : (Jvm.Cond.code ({ cls := "java/util/LinkedList$ListItr", name := "next", desc := "()Ljava/lang/Object;" } : Jvm.MethodName) prog_78_method_3_code (1 : Nat) (Option.some (Jvm.ClassFile.FieldType.object "java/lang/Object"))) ∈ lw_all := lw_g (lw_at lw_m7 70 rfl) rfl
theorem q1612 : (Jvm.Cond.methodLink "java/util/LinkedList$ListItr" (36 : Nat) ({ cls := "java/util/LinkedList$ListItr", name := "checkForComodification", desc := "()V" } : Jvm.MethodName)) ∈ lw_all := lw_g (lw_at lw_m7 71 rfl) rfl
theorem q1613 : (Jvm.Cond.instanceMethod ({ cls := "java/util/LinkedList$ListItr", name := "checkForComodification", desc := "()V" } : Jvm.MethodName)) ∈ lw_all := lw_g (lw_at lw_m7 72 rfl) rfl
theorem q1614 : (Jvm.Cond.selects "java/util/LinkedList$ListItr" ({ cls := "java/util/LinkedList$ListItr", name := "checkForComodification", desc := "()V" } : Jvm.MethodName) ({ cls := "java/util/LinkedList$ListItr", name := "checkForComodification", desc := "()V" } : Jvm.MethodName)) ∈ lw_all := lw_g (lw_at lw_m7 73 rfl) rfl
theorem q1615 : (Jvm.Cond.code ({ cls := "java/util/LinkedList$ListItr", name := "checkForComodification", desc := "()V" } : Jvm.MethodName) prog_78_method_12_code (1 : Nat) (Option.none : Option Jvm.ClassFile.FieldType)) ∈ lw_all := lw_g (lw_at lw_m7 74 rfl) rfl
theorem q1616 : (Jvm.Cond.methodLink "java/util/LinkedList$ListItr" (39 : Nat) ({ cls := "java/util/LinkedList$ListItr", name := "hasNext", desc := "()Z" } : Jvm.MethodName)) ∈ lw_all := lw_g (lw_at lw_m7 75 rfl) rfl
theorem q1617 : (Jvm.Cond.classLink "java/util/LinkedList$ListItr" (43 : Nat) "java/util/NoSuchElementException") ∈ lw_all := lw_g (lw_at lw_m7 76 rfl) rfl
theorem q1618 : (Jvm.Cond.methodLink "java/util/LinkedList$ListItr" (45 : Nat) ({ cls := "java/util/NoSuchElementException", name := "<init>", desc := "()V" } : Jvm.MethodName)) ∈ lw_all := lw_g (lw_at lw_m7 77 rfl) rfl
theorem q1640 : (Jvm.Cond.selects "java/util/LinkedList$ListItr" ({ cls := "java/util/Iterator", name := "next", desc := "()Ljava/lang/Object;" } : Jvm.MethodName) ({ cls := "java/util/LinkedList$ListItr", name := "next", desc := "()Ljava/lang/Object;" } : Jvm.MethodName)) ∈ lw_all := lw_g (lw_at lw_m7 99 rfl) rfl
theorem q1730 : (Jvm.Cond.fieldLink "java/util/LinkedList$ListItr" (52 : Nat) "java/util/LinkedList$Node" "item" "Ljava/lang/Object;") ∈ lw_all := lw_g (lw_at lw_m7 189 rfl) rfl
theorem q1733 : (Jvm.Cond.fieldLink "java/util/LinkedList$ListItr" (49 : Nat) "java/util/LinkedList$Node" "next" "Ljava/util/LinkedList$Node;") ∈ lw_all := lw_g (lw_at lw_m7 192 rfl) rfl
theorem q1737 : (Jvm.Cond.fieldLink "java/util/LinkedList$ListItr" (62 : Nat) "java/util/LinkedList$Node" "prev" "Ljava/util/LinkedList$Node;") ∈ lw_all := lw_g (lw_at lw_m7 196 rfl) rfl
theorem q2541 : (Jvm.Cond.selects "java/util/LinkedList$ListItr" ({ cls := "java/util/ListIterator", name := "remove", desc := "()V" } : Jvm.MethodName) ({ cls := "java/util/LinkedList$ListItr", name := "remove", desc := "()V" } : Jvm.MethodName)) ∈ lw_all := lw_g (lw_at lw_m11 40 rfl) rfl
theorem q2542 : (Jvm.Cond.unhidden "java/util/LinkedList$ListItr" "remove" "()V") ∈ lw_tbl := lw_at lw_m11 41 rfl
theorem q2543 : (Jvm.Cond.instanceMethod ({ cls := "java/util/LinkedList$ListItr", name := "remove", desc := "()V" } : Jvm.MethodName)) ∈ lw_all := lw_g (lw_at lw_m11 42 rfl) rfl
theorem q2544 : (Jvm.Cond.publicMethod ({ cls := "java/util/LinkedList$ListItr", name := "remove", desc := "()V" } : Jvm.MethodName)) ∈ lw_tbl := lw_at lw_m11 43 rfl
theorem q2545 : (Jvm.Cond.code ({ cls := "java/util/LinkedList$ListItr", name := "remove", desc := "()V" } : Jvm.MethodName) prog_78_method_8_code (2 : Nat) (Option.none : Option Jvm.ClassFile.FieldType)) ∈ lw_all := lw_g (lw_at lw_m11 44 rfl) rfl
theorem q2546 : (Jvm.Cond.classLink "java/util/LinkedList$ListItr" (65 : Nat) "java/lang/IllegalStateException") ∈ lw_all := lw_g (lw_at lw_m11 45 rfl) rfl
theorem q2547 : (Jvm.Cond.methodLink "java/util/LinkedList$ListItr" (67 : Nat) ({ cls := "java/lang/IllegalStateException", name := "<init>", desc := "()V" } : Jvm.MethodName)) ∈ lw_all := lw_g (lw_at lw_m11 46 rfl) rfl
theorem q2548 : (Jvm.Cond.methodLink "java/util/LinkedList$ListItr" (68 : Nat) ({ cls := "java/util/LinkedList", name := "unlink", desc := "(Ljava/util/LinkedList$Node;)Ljava/lang/Object;" } : Jvm.MethodName)) ∈ lw_all := lw_g (lw_at lw_m11 47 rfl) rfl
theorem q2575 : (Jvm.Cond.selects "java/util/LinkedList$ListItr" ({ cls := "java/util/Iterator", name := "remove", desc := "()V" } : Jvm.MethodName) ({ cls := "java/util/LinkedList$ListItr", name := "remove", desc := "()V" } : Jvm.MethodName)) ∈ lw_all := lw_g (lw_at lw_m11 74 rfl) rfl
theorem q3047 : (Jvm.Cond.selects "java/util/LinkedList$ListItr" ({ cls := "java/util/ListIterator", name := "previousIndex", desc := "()I" } : Jvm.MethodName) ({ cls := "java/util/LinkedList$ListItr", name := "previousIndex", desc := "()I" } : Jvm.MethodName)) ∈ lw_all := lw_g (lw_at lw_m13 66 rfl) rfl
theorem q3048 : (Jvm.Cond.unhidden "java/util/LinkedList$ListItr" "previousIndex" "()I") ∈ lw_tbl := lw_at lw_m13 67 rfl
theorem q3049 : (Jvm.Cond.instanceMethod ({ cls := "java/util/LinkedList$ListItr", name := "previousIndex", desc := "()I" } : Jvm.MethodName)) ∈ lw_all := lw_g (lw_at lw_m13 68 rfl) rfl
theorem q3050 : (Jvm.Cond.publicMethod ({ cls := "java/util/LinkedList$ListItr", name := "previousIndex", desc := "()I" } : Jvm.MethodName)) ∈ lw_tbl := lw_at lw_m13 69 rfl
theorem q3051 : (Jvm.Cond.code ({ cls := "java/util/LinkedList$ListItr", name := "previousIndex", desc := "()I" } : Jvm.MethodName) prog_78_method_7_code (1 : Nat) (Option.some Jvm.ClassFile.FieldType.int)) ∈ lw_all := lw_g (lw_at lw_m13 70 rfl) rfl
theorem q3100 : (Jvm.Cond.selects "java/util/LinkedList$ListItr" ({ cls := "java/util/ListIterator", name := "previous", desc := "()Ljava/lang/Object;" } : Jvm.MethodName) ({ cls := "java/util/LinkedList$ListItr", name := "previous", desc := "()Ljava/lang/Object;" } : Jvm.MethodName)) ∈ lw_all := lw_g (lw_at lw_m13 119 rfl) rfl
theorem q3101 : (Jvm.Cond.unhidden "java/util/LinkedList$ListItr" "previous" "()Ljava/lang/Object;") ∈ lw_tbl := lw_at lw_m13 120 rfl
theorem q3102 : (Jvm.Cond.instanceMethod ({ cls := "java/util/LinkedList$ListItr", name := "previous", desc := "()Ljava/lang/Object;" } : Jvm.MethodName)) ∈ lw_all := lw_g (lw_at lw_m13 121 rfl) rfl
theorem q3103 : (Jvm.Cond.publicMethod ({ cls := "java/util/LinkedList$ListItr", name := "previous", desc := "()Ljava/lang/Object;" } : Jvm.MethodName)) ∈ lw_tbl := lw_at lw_m13 122 rfl
theorem q3104 : (Jvm.Cond.code ({ cls := "java/util/LinkedList$ListItr", name := "previous", desc := "()Ljava/lang/Object;" } : Jvm.MethodName) prog_78_method_5_code (1 : Nat) (Option.some (Jvm.ClassFile.FieldType.object "java/lang/Object"))) ∈ lw_all := lw_g (lw_at lw_m13 123 rfl) rfl
theorem q3105 : (Jvm.Cond.methodLink "java/util/LinkedList$ListItr" (56 : Nat) ({ cls := "java/util/LinkedList$ListItr", name := "hasPrevious", desc := "()Z" } : Jvm.MethodName)) ∈ lw_all := lw_g (lw_at lw_m13 124 rfl) rfl
theorem q3106 : (Jvm.Cond.instanceMethod ({ cls := "java/util/LinkedList$ListItr", name := "hasPrevious", desc := "()Z" } : Jvm.MethodName)) ∈ lw_all := lw_g (lw_at lw_m13 125 rfl) rfl
theorem q3107 : (Jvm.Cond.selects "java/util/LinkedList$ListItr" ({ cls := "java/util/LinkedList$ListItr", name := "hasPrevious", desc := "()Z" } : Jvm.MethodName) ({ cls := "java/util/LinkedList$ListItr", name := "hasPrevious", desc := "()Z" } : Jvm.MethodName)) ∈ lw_all := lw_g (lw_at lw_m13 126 rfl) rfl
theorem q3108 : (Jvm.Cond.code ({ cls := "java/util/LinkedList$ListItr", name := "hasPrevious", desc := "()Z" } : Jvm.MethodName) prog_78_method_4_code (1 : Nat) (Option.some Jvm.ClassFile.FieldType.boolean)) ∈ lw_all := lw_g (lw_at lw_m13 127 rfl) rfl
theorem q3156 : (Jvm.Cond.selects "java/util/LinkedList$ListItr" ({ cls := "java/util/ListIterator", name := "set", desc := "(Ljava/lang/Object;)V" } : Jvm.MethodName) ({ cls := "java/util/LinkedList$ListItr", name := "set", desc := "(Ljava/lang/Object;)V" } : Jvm.MethodName)) ∈ lw_all := lw_g (lw_at lw_m13 175 rfl) rfl
theorem q3157 : (Jvm.Cond.unhidden "java/util/LinkedList$ListItr" "set" "(Ljava/lang/Object;)V") ∈ lw_tbl := lw_at lw_m13 176 rfl
theorem q3158 : (Jvm.Cond.instanceMethod ({ cls := "java/util/LinkedList$ListItr", name := "set", desc := "(Ljava/lang/Object;)V" } : Jvm.MethodName)) ∈ lw_all := lw_g (lw_at lw_m13 177 rfl) rfl
theorem q3159 : (Jvm.Cond.publicMethod ({ cls := "java/util/LinkedList$ListItr", name := "set", desc := "(Ljava/lang/Object;)V" } : Jvm.MethodName)) ∈ lw_tbl := lw_at lw_m13 178 rfl
theorem q3160 : (Jvm.Cond.code ({ cls := "java/util/LinkedList$ListItr", name := "set", desc := "(Ljava/lang/Object;)V" } : Jvm.MethodName) prog_78_method_9_code (2 : Nat) (Option.none : Option Jvm.ClassFile.FieldType)) ∈ lw_all := lw_g (lw_at lw_m13 179 rfl) rfl
theorem q3927 : (Jvm.Cond.selects "java/util/LinkedList$ListItr" ({ cls := "java/util/LinkedList$ListItr", name := "hasNext", desc := "()Z" } : Jvm.MethodName) ({ cls := "java/util/LinkedList$ListItr", name := "hasNext", desc := "()Z" } : Jvm.MethodName)) ∈ lw_all := lw_g (lw_at lw_m16 226 rfl) rfl
theorem q3976 : (Jvm.Cond.castable "java/util/LinkedList$ListItr" "java/lang/Object") ∈ lw_tbl := lw_at lw_m17 35 rfl


/-! java/util/Collections -/
set_option maxRecDepth 100000
def RJ41 : String := "java/util/Collections"
abbrev cJ41_unmodifiableList : ByteArray := prog_62_method_35_code
def yJ41_unmodifiableList : MethodName := ⟨RJ41, "unmodifiableList", "(Ljava/util/List;)Ljava/util/List;"⟩
def dkwJ41_unmodifiableList_2 : List UInt8 := [183, 0, 219, 176]
abbrev dktJ41_unmodifiableList_2 : List UInt8 := dkwJ41_unmodifiableList_2 ++ []
def dkwJ41_unmodifiableList_1 : List UInt8 := [42, 193, 0, 13, 153, 0, 14, 187, 0, 215, 89, 42, 183, 0, 217, 167, 0, 11, 187, 0, 212, 89, 42]
abbrev dktJ41_unmodifiableList_1 : List UInt8 := dkwJ41_unmodifiableList_1 ++ dktJ41_unmodifiableList_2
def dkwJ41_unmodifiableList_0 : List UInt8 := [42, 185, 0, 211, 1, 0, 18, 212, 165, 0, 14, 42, 185, 0, 214, 1, 0, 18, 215, 166, 0, 5, 42, 176]
abbrev dktJ41_unmodifiableList_0 : List UInt8 := dkwJ41_unmodifiableList_0 ++ dktJ41_unmodifiableList_1
theorem dksJ41_unmodifiableList_0 : cJ41_unmodifiableList.data.toList.drop 0 = dktJ41_unmodifiableList_0 := by decide +kernel
theorem dksJ41_unmodifiableList_1 : cJ41_unmodifiableList.data.toList.drop 24 = dktJ41_unmodifiableList_1 := dk_seg dksJ41_unmodifiableList_0 24 rfl rfl
theorem dksJ41_unmodifiableList_2 : cJ41_unmodifiableList.data.toList.drop 47 = dktJ41_unmodifiableList_2 := dk_seg dksJ41_unmodifiableList_1 23 rfl rfl
theorem dJ41_unmodifiableList_0 : decode cJ41_unmodifiableList 0 = .ok (.aload_n 0, 1) := dk_42 (dk_at dksJ41_unmodifiableList_0 0 rfl rfl)
theorem dJ41_unmodifiableList_1 : decode cJ41_unmodifiableList 1 = .ok (.invokeinterface 211 1, 5) := by decide +kernel
theorem dJ41_unmodifiableList_6 : decode cJ41_unmodifiableList 6 = .ok (.ldc 212, 2) := dk_18 212 (dk_at dksJ41_unmodifiableList_0 6 rfl rfl)
theorem dJ41_unmodifiableList_8 : decode cJ41_unmodifiableList 8 = .ok (.if_acmp .eq 14, 3) := dk_165 0 14 (dk_at dksJ41_unmodifiableList_0 8 rfl rfl)
theorem dJ41_unmodifiableList_11 : decode cJ41_unmodifiableList 11 = .ok (.aload_n 0, 1) := dk_42 (dk_at dksJ41_unmodifiableList_0 11 rfl rfl)
theorem dJ41_unmodifiableList_12 : decode cJ41_unmodifiableList 12 = .ok (.invokeinterface 214 1, 5) := by decide +kernel
theorem dJ41_unmodifiableList_17 : decode cJ41_unmodifiableList 17 = .ok (.ldc 215, 2) := dk_18 215 (dk_at dksJ41_unmodifiableList_0 17 rfl rfl)
theorem dJ41_unmodifiableList_19 : decode cJ41_unmodifiableList 19 = .ok (.if_acmp .ne 5, 3) := dk_166 0 5 (dk_at dksJ41_unmodifiableList_0 19 rfl rfl)
theorem dJ41_unmodifiableList_22 : decode cJ41_unmodifiableList 22 = .ok (.aload_n 0, 1) := dk_42 (dk_at dksJ41_unmodifiableList_0 22 rfl rfl)
theorem dJ41_unmodifiableList_23 : decode cJ41_unmodifiableList 23 = .ok (.areturn, 1) := dk_176 (dk_at dksJ41_unmodifiableList_0 23 rfl rfl)
theorem dJ41_unmodifiableList_24 : decode cJ41_unmodifiableList 24 = .ok (.aload_n 0, 1) := dk_42 (dk_at dksJ41_unmodifiableList_1 0 rfl rfl)
theorem dJ41_unmodifiableList_25 : decode cJ41_unmodifiableList 25 = .ok (.instanceof 13, 3) := dk_193 0 13 (dk_at dksJ41_unmodifiableList_1 1 rfl rfl)
theorem dJ41_unmodifiableList_28 : decode cJ41_unmodifiableList 28 = .ok (.ifCond .eq 14, 3) := dk_153 0 14 (dk_at dksJ41_unmodifiableList_1 4 rfl rfl)
theorem dJ41_unmodifiableList_31 : decode cJ41_unmodifiableList 31 = .ok (.new 215, 3) := dk_187 0 215 (dk_at dksJ41_unmodifiableList_1 7 rfl rfl)
theorem dJ41_unmodifiableList_34 : decode cJ41_unmodifiableList 34 = .ok (.dup, 1) := dk_89 (dk_at dksJ41_unmodifiableList_1 10 rfl rfl)
theorem dJ41_unmodifiableList_35 : decode cJ41_unmodifiableList 35 = .ok (.aload_n 0, 1) := dk_42 (dk_at dksJ41_unmodifiableList_1 11 rfl rfl)
theorem dJ41_unmodifiableList_36 : decode cJ41_unmodifiableList 36 = .ok (.invokespecial 217, 3) := dk_183 0 217 (dk_at dksJ41_unmodifiableList_1 12 rfl rfl)
theorem dJ41_unmodifiableList_39 : decode cJ41_unmodifiableList 39 = .ok (.goto 11, 3) := dk_167 0 11 (dk_at dksJ41_unmodifiableList_1 15 rfl rfl)
theorem dJ41_unmodifiableList_42 : decode cJ41_unmodifiableList 42 = .ok (.new 212, 3) := dk_187 0 212 (dk_at dksJ41_unmodifiableList_1 18 rfl rfl)
theorem dJ41_unmodifiableList_45 : decode cJ41_unmodifiableList 45 = .ok (.dup, 1) := dk_89 (dk_at dksJ41_unmodifiableList_1 21 rfl rfl)
theorem dJ41_unmodifiableList_46 : decode cJ41_unmodifiableList 46 = .ok (.aload_n 0, 1) := dk_42 (dk_at dksJ41_unmodifiableList_1 22 rfl rfl)
theorem dJ41_unmodifiableList_47 : decode cJ41_unmodifiableList 47 = .ok (.invokespecial 219, 3) := dk_183 0 219 (dk_at dksJ41_unmodifiableList_2 0 rfl rfl)
theorem dJ41_unmodifiableList_50 : decode cJ41_unmodifiableList 50 = .ok (.areturn, 1) := dk_176 (dk_at dksJ41_unmodifiableList_2 3 rfl rfl)
abbrev cJ41_rotate : ByteArray := prog_62_method_23_code
def yJ41_rotate : MethodName := ⟨RJ41, "rotate", "(Ljava/util/List;I)V"⟩
def dkwJ41_rotate_1 : List UInt8 := [167, 0, 8, 42, 27, 184, 0, 143, 177]
abbrev dktJ41_rotate_1 : List UInt8 := dkwJ41_rotate_1 ++ []
def dkwJ41_rotate_0 : List UInt8 := [42, 193, 0, 13, 154, 0, 14, 42, 185, 0, 15, 1, 0, 16, 100, 162, 0, 11, 42, 27, 184, 0, 139]
abbrev dktJ41_rotate_0 : List UInt8 := dkwJ41_rotate_0 ++ dktJ41_rotate_1
theorem dksJ41_rotate_0 : cJ41_rotate.data.toList.drop 0 = dktJ41_rotate_0 := by decide +kernel
theorem dksJ41_rotate_1 : cJ41_rotate.data.toList.drop 23 = dktJ41_rotate_1 := dk_seg dksJ41_rotate_0 23 rfl rfl
theorem dJ41_rotate_0 : decode cJ41_rotate 0 = .ok (.aload_n 0, 1) := dk_42 (dk_at dksJ41_rotate_0 0 rfl rfl)
theorem dJ41_rotate_1 : decode cJ41_rotate 1 = .ok (.instanceof 13, 3) := dk_193 0 13 (dk_at dksJ41_rotate_0 1 rfl rfl)
theorem dJ41_rotate_4 : decode cJ41_rotate 4 = .ok (.ifCond .ne 14, 3) := dk_154 0 14 (dk_at dksJ41_rotate_0 4 rfl rfl)
theorem dJ41_rotate_7 : decode cJ41_rotate 7 = .ok (.aload_n 0, 1) := dk_42 (dk_at dksJ41_rotate_0 7 rfl rfl)
theorem dJ41_rotate_8 : decode cJ41_rotate 8 = .ok (.invokeinterface 15 1, 5) := by decide +kernel
theorem dJ41_rotate_13 : decode cJ41_rotate 13 = .ok (.bipush 100, 2) := dk_16 100 (dk_at dksJ41_rotate_0 13 rfl rfl)
theorem dJ41_rotate_15 : decode cJ41_rotate 15 = .ok (.if_icmp .ge 11, 3) := dk_162 0 11 (dk_at dksJ41_rotate_0 15 rfl rfl)
theorem dJ41_rotate_18 : decode cJ41_rotate 18 = .ok (.aload_n 0, 1) := dk_42 (dk_at dksJ41_rotate_0 18 rfl rfl)
theorem dJ41_rotate_19 : decode cJ41_rotate 19 = .ok (.iload_n 1, 1) := dk_27 (dk_at dksJ41_rotate_0 19 rfl rfl)
theorem dJ41_rotate_20 : decode cJ41_rotate 20 = .ok (.invokestatic 139, 3) := dk_184 0 139 (dk_at dksJ41_rotate_0 20 rfl rfl)
theorem dJ41_rotate_23 : decode cJ41_rotate 23 = .ok (.goto 8, 3) := dk_167 0 8 (dk_at dksJ41_rotate_1 0 rfl rfl)
theorem dJ41_rotate_26 : decode cJ41_rotate 26 = .ok (.aload_n 0, 1) := dk_42 (dk_at dksJ41_rotate_1 3 rfl rfl)
theorem dJ41_rotate_27 : decode cJ41_rotate 27 = .ok (.iload_n 1, 1) := dk_27 (dk_at dksJ41_rotate_1 4 rfl rfl)
theorem dJ41_rotate_28 : decode cJ41_rotate 28 = .ok (.invokestatic 143, 3) := dk_184 0 143 (dk_at dksJ41_rotate_1 5 rfl rfl)
theorem dJ41_rotate_31 : decode cJ41_rotate 31 = .ok (.return_, 1) := dk_177 (dk_at dksJ41_rotate_1 8 rfl rfl)
abbrev cJ41_rotate1 : ByteArray := prog_62_method_24_code
def yJ41_rotate1 : MethodName := ⟨RJ41, "rotate1", "(Ljava/util/List;I)V"⟩
def dkwJ41_rotate1_4 : List UInt8 := [21, 4, 160, 255, 219, 132, 4, 1, 167, 255, 193, 177]
abbrev dktJ41_rotate1_4 : List UInt8 := dkwJ41_rotate1_4 ++ []
def dkwJ41_rotate1_3 : List UInt8 := [21, 7, 27, 96, 54, 7, 42, 21, 7, 25, 6, 185, 0, 109, 3, 0, 58, 6, 132, 5, 1, 21, 7]
abbrev dktJ41_rotate1_3 : List UInt8 := dkwJ41_rotate1_3 ++ dktJ41_rotate1_4
def dkwJ41_rotate1_2 : List UInt8 := [185, 0, 28, 2, 0, 58, 6, 21, 4, 54, 7, 21, 7, 29, 161, 0, 9, 21, 7, 28, 100, 54, 7]
abbrev dktJ41_rotate1_2 : List UInt8 := dkwJ41_rotate1_2 ++ dktJ41_rotate1_3
def dkwJ41_rotate1_1 : List UInt8 := [27, 154, 0, 4, 177, 28, 27, 100, 62, 3, 54, 4, 3, 54, 5, 21, 5, 28, 162, 0, 63, 42, 21, 4]
abbrev dktJ41_rotate1_1 : List UInt8 := dkwJ41_rotate1_1 ++ dktJ41_rotate1_2
def dkwJ41_rotate1_0 : List UInt8 := [42, 185, 0, 15, 1, 0, 61, 28, 154, 0, 4, 177, 27, 28, 112, 60, 27, 156, 0, 7, 27, 28, 96, 60]
abbrev dktJ41_rotate1_0 : List UInt8 := dkwJ41_rotate1_0 ++ dktJ41_rotate1_1
theorem dksJ41_rotate1_0 : cJ41_rotate1.data.toList.drop 0 = dktJ41_rotate1_0 := by decide +kernel
theorem dksJ41_rotate1_1 : cJ41_rotate1.data.toList.drop 24 = dktJ41_rotate1_1 := dk_seg dksJ41_rotate1_0 24 rfl rfl
theorem dksJ41_rotate1_2 : cJ41_rotate1.data.toList.drop 48 = dktJ41_rotate1_2 := dk_seg dksJ41_rotate1_1 24 rfl rfl
theorem dksJ41_rotate1_3 : cJ41_rotate1.data.toList.drop 71 = dktJ41_rotate1_3 := dk_seg dksJ41_rotate1_2 23 rfl rfl
theorem dksJ41_rotate1_4 : cJ41_rotate1.data.toList.drop 94 = dktJ41_rotate1_4 := dk_seg dksJ41_rotate1_3 23 rfl rfl
theorem dJ41_rotate1_0 : decode cJ41_rotate1 0 = .ok (.aload_n 0, 1) := dk_42 (dk_at dksJ41_rotate1_0 0 rfl rfl)
theorem dJ41_rotate1_1 : decode cJ41_rotate1 1 = .ok (.invokeinterface 15 1, 5) := by decide +kernel
theorem dJ41_rotate1_6 : decode cJ41_rotate1 6 = .ok (.istore_n 2, 1) := dk_61 (dk_at dksJ41_rotate1_0 6 rfl rfl)
theorem dJ41_rotate1_7 : decode cJ41_rotate1 7 = .ok (.iload_n 2, 1) := dk_28 (dk_at dksJ41_rotate1_0 7 rfl rfl)
theorem dJ41_rotate1_8 : decode cJ41_rotate1 8 = .ok (.ifCond .ne 4, 3) := dk_154 0 4 (dk_at dksJ41_rotate1_0 8 rfl rfl)
theorem dJ41_rotate1_11 : decode cJ41_rotate1 11 = .ok (.return_, 1) := dk_177 (dk_at dksJ41_rotate1_0 11 rfl rfl)
theorem dJ41_rotate1_12 : decode cJ41_rotate1 12 = .ok (.iload_n 1, 1) := dk_27 (dk_at dksJ41_rotate1_0 12 rfl rfl)
theorem dJ41_rotate1_13 : decode cJ41_rotate1 13 = .ok (.iload_n 2, 1) := dk_28 (dk_at dksJ41_rotate1_0 13 rfl rfl)
theorem dJ41_rotate1_14 : decode cJ41_rotate1 14 = .ok (.irem, 1) := dk_112 (dk_at dksJ41_rotate1_0 14 rfl rfl)
theorem dJ41_rotate1_15 : decode cJ41_rotate1 15 = .ok (.istore_n 1, 1) := dk_60 (dk_at dksJ41_rotate1_0 15 rfl rfl)
theorem dJ41_rotate1_16 : decode cJ41_rotate1 16 = .ok (.iload_n 1, 1) := dk_27 (dk_at dksJ41_rotate1_0 16 rfl rfl)
theorem dJ41_rotate1_17 : decode cJ41_rotate1 17 = .ok (.ifCond .ge 7, 3) := dk_156 0 7 (dk_at dksJ41_rotate1_0 17 rfl rfl)
theorem dJ41_rotate1_20 : decode cJ41_rotate1 20 = .ok (.iload_n 1, 1) := dk_27 (dk_at dksJ41_rotate1_0 20 rfl rfl)
theorem dJ41_rotate1_21 : decode cJ41_rotate1 21 = .ok (.iload_n 2, 1) := dk_28 (dk_at dksJ41_rotate1_0 21 rfl rfl)
theorem dJ41_rotate1_22 : decode cJ41_rotate1 22 = .ok (.iadd, 1) := dk_96 (dk_at dksJ41_rotate1_0 22 rfl rfl)
theorem dJ41_rotate1_23 : decode cJ41_rotate1 23 = .ok (.istore_n 1, 1) := dk_60 (dk_at dksJ41_rotate1_0 23 rfl rfl)
theorem dJ41_rotate1_24 : decode cJ41_rotate1 24 = .ok (.iload_n 1, 1) := dk_27 (dk_at dksJ41_rotate1_1 0 rfl rfl)
theorem dJ41_rotate1_25 : decode cJ41_rotate1 25 = .ok (.ifCond .ne 4, 3) := dk_154 0 4 (dk_at dksJ41_rotate1_1 1 rfl rfl)
theorem dJ41_rotate1_28 : decode cJ41_rotate1 28 = .ok (.return_, 1) := dk_177 (dk_at dksJ41_rotate1_1 4 rfl rfl)
theorem dJ41_rotate1_29 : decode cJ41_rotate1 29 = .ok (.iload_n 2, 1) := dk_28 (dk_at dksJ41_rotate1_1 5 rfl rfl)
theorem dJ41_rotate1_30 : decode cJ41_rotate1 30 = .ok (.iload_n 1, 1) := dk_27 (dk_at dksJ41_rotate1_1 6 rfl rfl)
theorem dJ41_rotate1_31 : decode cJ41_rotate1 31 = .ok (.isub, 1) := dk_100 (dk_at dksJ41_rotate1_1 7 rfl rfl)
theorem dJ41_rotate1_32 : decode cJ41_rotate1 32 = .ok (.istore_n 3, 1) := dk_62 (dk_at dksJ41_rotate1_1 8 rfl rfl)
theorem dJ41_rotate1_33 : decode cJ41_rotate1 33 = .ok (.iconst 0, 1) := dk_3 (dk_at dksJ41_rotate1_1 9 rfl rfl)
theorem dJ41_rotate1_34 : decode cJ41_rotate1 34 = .ok (.istore 4, 2) := dk_54 4 (dk_at dksJ41_rotate1_1 10 rfl rfl)
theorem dJ41_rotate1_36 : decode cJ41_rotate1 36 = .ok (.iconst 0, 1) := dk_3 (dk_at dksJ41_rotate1_1 12 rfl rfl)
theorem dJ41_rotate1_37 : decode cJ41_rotate1 37 = .ok (.istore 5, 2) := dk_54 5 (dk_at dksJ41_rotate1_1 13 rfl rfl)
theorem dJ41_rotate1_39 : decode cJ41_rotate1 39 = .ok (.iload 5, 2) := dk_21 5 (dk_at dksJ41_rotate1_1 15 rfl rfl)
theorem dJ41_rotate1_41 : decode cJ41_rotate1 41 = .ok (.iload_n 2, 1) := dk_28 (dk_at dksJ41_rotate1_1 17 rfl rfl)
theorem dJ41_rotate1_42 : decode cJ41_rotate1 42 = .ok (.if_icmp .ge 63, 3) := dk_162 0 63 (dk_at dksJ41_rotate1_1 18 rfl rfl)
theorem dJ41_rotate1_45 : decode cJ41_rotate1 45 = .ok (.aload_n 0, 1) := dk_42 (dk_at dksJ41_rotate1_1 21 rfl rfl)
theorem dJ41_rotate1_46 : decode cJ41_rotate1 46 = .ok (.iload 4, 2) := dk_21 4 (dk_at dksJ41_rotate1_1 22 rfl rfl)
theorem dJ41_rotate1_48 : decode cJ41_rotate1 48 = .ok (.invokeinterface 28 2, 5) := by decide +kernel
theorem dJ41_rotate1_53 : decode cJ41_rotate1 53 = .ok (.astore 6, 2) := dk_58 6 (dk_at dksJ41_rotate1_2 5 rfl rfl)
theorem dJ41_rotate1_55 : decode cJ41_rotate1 55 = .ok (.iload 4, 2) := dk_21 4 (dk_at dksJ41_rotate1_2 7 rfl rfl)
theorem dJ41_rotate1_57 : decode cJ41_rotate1 57 = .ok (.istore 7, 2) := dk_54 7 (dk_at dksJ41_rotate1_2 9 rfl rfl)
theorem dJ41_rotate1_59 : decode cJ41_rotate1 59 = .ok (.iload 7, 2) := dk_21 7 (dk_at dksJ41_rotate1_2 11 rfl rfl)
theorem dJ41_rotate1_61 : decode cJ41_rotate1 61 = .ok (.iload_n 3, 1) := dk_29 (dk_at dksJ41_rotate1_2 13 rfl rfl)
theorem dJ41_rotate1_62 : decode cJ41_rotate1 62 = .ok (.if_icmp .lt 9, 3) := dk_161 0 9 (dk_at dksJ41_rotate1_2 14 rfl rfl)
theorem dJ41_rotate1_65 : decode cJ41_rotate1 65 = .ok (.iload 7, 2) := dk_21 7 (dk_at dksJ41_rotate1_2 17 rfl rfl)
theorem dJ41_rotate1_67 : decode cJ41_rotate1 67 = .ok (.iload_n 2, 1) := dk_28 (dk_at dksJ41_rotate1_2 19 rfl rfl)
theorem dJ41_rotate1_68 : decode cJ41_rotate1 68 = .ok (.isub, 1) := dk_100 (dk_at dksJ41_rotate1_2 20 rfl rfl)
theorem dJ41_rotate1_69 : decode cJ41_rotate1 69 = .ok (.istore 7, 2) := dk_54 7 (dk_at dksJ41_rotate1_2 21 rfl rfl)
theorem dJ41_rotate1_71 : decode cJ41_rotate1 71 = .ok (.iload 7, 2) := dk_21 7 (dk_at dksJ41_rotate1_3 0 rfl rfl)
theorem dJ41_rotate1_73 : decode cJ41_rotate1 73 = .ok (.iload_n 1, 1) := dk_27 (dk_at dksJ41_rotate1_3 2 rfl rfl)
theorem dJ41_rotate1_74 : decode cJ41_rotate1 74 = .ok (.iadd, 1) := dk_96 (dk_at dksJ41_rotate1_3 3 rfl rfl)
theorem dJ41_rotate1_75 : decode cJ41_rotate1 75 = .ok (.istore 7, 2) := dk_54 7 (dk_at dksJ41_rotate1_3 4 rfl rfl)
theorem dJ41_rotate1_77 : decode cJ41_rotate1 77 = .ok (.aload_n 0, 1) := dk_42 (dk_at dksJ41_rotate1_3 6 rfl rfl)
theorem dJ41_rotate1_78 : decode cJ41_rotate1 78 = .ok (.iload 7, 2) := dk_21 7 (dk_at dksJ41_rotate1_3 7 rfl rfl)
theorem dJ41_rotate1_80 : decode cJ41_rotate1 80 = .ok (.aload 6, 2) := dk_25 6 (dk_at dksJ41_rotate1_3 9 rfl rfl)
theorem dJ41_rotate1_82 : decode cJ41_rotate1 82 = .ok (.invokeinterface 109 3, 5) := by decide +kernel
theorem dJ41_rotate1_87 : decode cJ41_rotate1 87 = .ok (.astore 6, 2) := dk_58 6 (dk_at dksJ41_rotate1_3 16 rfl rfl)
theorem dJ41_rotate1_89 : decode cJ41_rotate1 89 = .ok (.iinc 5 1, 3) := dk_132 5 1 (dk_at dksJ41_rotate1_3 18 rfl rfl)
theorem dJ41_rotate1_92 : decode cJ41_rotate1 92 = .ok (.iload 7, 2) := dk_21 7 (dk_at dksJ41_rotate1_3 21 rfl rfl)
theorem dJ41_rotate1_94 : decode cJ41_rotate1 94 = .ok (.iload 4, 2) := dk_21 4 (dk_at dksJ41_rotate1_4 0 rfl rfl)
theorem dJ41_rotate1_96 : decode cJ41_rotate1 96 = .ok (.if_icmp .ne (-37), 3) := dk_160 255 219 (dk_at dksJ41_rotate1_4 2 rfl rfl)
theorem dJ41_rotate1_99 : decode cJ41_rotate1 99 = .ok (.iinc 4 1, 3) := dk_132 4 1 (dk_at dksJ41_rotate1_4 5 rfl rfl)
theorem dJ41_rotate1_102 : decode cJ41_rotate1 102 = .ok (.goto (-63), 3) := dk_167 255 193 (dk_at dksJ41_rotate1_4 8 rfl rfl)
theorem dJ41_rotate1_105 : decode cJ41_rotate1 105 = .ok (.return_, 1) := dk_177 (dk_at dksJ41_rotate1_4 11 rfl rfl)
theorem q155 : (Jvm.Cond.initialized "java/util/Collections") ∈ lw_all := lw_g (lw_at lw_m1 54 rfl) rfl
theorem q2205 : (Jvm.Cond.static ({ cls := "java/util/Collections", name := "unmodifiableList", desc := "(Ljava/util/List;)Ljava/util/List;" } : Jvm.MethodName)) ∈ lw_all := lw_g (lw_at lw_m9 184 rfl) rfl
theorem q2206 : (Jvm.Cond.code ({ cls := "java/util/Collections", name := "unmodifiableList", desc := "(Ljava/util/List;)Ljava/util/List;" } : Jvm.MethodName) prog_62_method_35_code (1 : Nat) (Option.some (Jvm.ClassFile.FieldType.object "java/util/List"))) ∈ lw_all := lw_g (lw_at lw_m9 185 rfl) rfl
theorem q2207 : (Jvm.Cond.interfaceEntry "java/util/Collections" (211 : Nat)) ∈ lw_tbl := lw_at lw_m9 186 rfl
theorem q2208 : (Jvm.Cond.methodLink "java/util/Collections" (211 : Nat) ({ cls := "java/util/List", name := "getClass", desc := "()Ljava/lang/Class;" } : Jvm.MethodName)) ∈ lw_all := lw_g (lw_at lw_m9 187 rfl) rfl
theorem q2221 : (Jvm.Cond.classLink "java/util/Collections" (212 : Nat) "java/util/Collections$UnmodifiableList") ∈ lw_all := lw_g (lw_at lw_m9 200 rfl) rfl
theorem q2222 : (Jvm.Cond.interfaceEntry "java/util/Collections" (214 : Nat)) ∈ lw_tbl := lw_at lw_m9 201 rfl
theorem q2223 : (Jvm.Cond.methodLink "java/util/Collections" (214 : Nat) ({ cls := "java/util/List", name := "getClass", desc := "()Ljava/lang/Class;" } : Jvm.MethodName)) ∈ lw_all := lw_g (lw_at lw_m9 202 rfl) rfl
theorem q2224 : (Jvm.Cond.classLink "java/util/Collections" (215 : Nat) "java/util/Collections$UnmodifiableRandomAccessList") ∈ lw_all := lw_g (lw_at lw_m9 203 rfl) rfl
theorem q2225 : (Jvm.Cond.classLink "java/util/Collections" (13 : Nat) "java/util/RandomAccess") ∈ lw_all := lw_g (lw_at lw_m9 204 rfl) rfl
theorem q2227 : (Jvm.Cond.methodLink "java/util/Collections" (217 : Nat) ({ cls := "java/util/Collections$UnmodifiableRandomAccessList", name := "<init>", desc := "(Ljava/util/List;)V" } : Jvm.MethodName)) ∈ lw_all := lw_g (lw_at lw_m9 206 rfl) rfl
theorem q2248 : (Jvm.Cond.methodLink "java/util/Collections" (219 : Nat) ({ cls := "java/util/Collections$UnmodifiableList", name := "<init>", desc := "(Ljava/util/List;)V" } : Jvm.MethodName)) ∈ lw_all := lw_g (lw_at lw_m9 227 rfl) rfl
theorem q2664 : (Jvm.Cond.static ({ cls := "java/util/Collections", name := "rotate", desc := "(Ljava/util/List;I)V" } : Jvm.MethodName)) ∈ lw_all := lw_g (lw_at lw_m11 163 rfl) rfl
theorem q2665 : (Jvm.Cond.code ({ cls := "java/util/Collections", name := "rotate", desc := "(Ljava/util/List;I)V" } : Jvm.MethodName) prog_62_method_23_code (2 : Nat) (Option.none : Option Jvm.ClassFile.FieldType)) ∈ lw_all := lw_g (lw_at lw_m11 164 rfl) rfl
theorem q2666 : (Jvm.Cond.interfaceEntry "java/util/Collections" (15 : Nat)) ∈ lw_tbl := lw_at lw_m11 165 rfl
theorem q2667 : (Jvm.Cond.methodLink "java/util/Collections" (15 : Nat) ({ cls := "java/util/List", name := "size", desc := "()I" } : Jvm.MethodName)) ∈ lw_all := lw_g (lw_at lw_m11 166 rfl) rfl
theorem q2668 : (Jvm.Cond.methodLink "java/util/Collections" (139 : Nat) ({ cls := "java/util/Collections", name := "rotate1", desc := "(Ljava/util/List;I)V" } : Jvm.MethodName)) ∈ lw_all := lw_g (lw_at lw_m11 167 rfl) rfl
theorem q2669 : (Jvm.Cond.static ({ cls := "java/util/Collections", name := "rotate1", desc := "(Ljava/util/List;I)V" } : Jvm.MethodName)) ∈ lw_all := lw_g (lw_at lw_m11 168 rfl) rfl
theorem q2670 : (Jvm.Cond.code ({ cls := "java/util/Collections", name := "rotate1", desc := "(Ljava/util/List;I)V" } : Jvm.MethodName) prog_62_method_24_code (8 : Nat) (Option.none : Option Jvm.ClassFile.FieldType)) ∈ lw_all := lw_g (lw_at lw_m11 169 rfl) rfl
theorem q2671 : (Jvm.Cond.interfaceEntry "java/util/Collections" (28 : Nat)) ∈ lw_tbl := lw_at lw_m11 170 rfl
theorem q2672 : (Jvm.Cond.methodLink "java/util/Collections" (28 : Nat) ({ cls := "java/util/List", name := "get", desc := "(I)Ljava/lang/Object;" } : Jvm.MethodName)) ∈ lw_all := lw_g (lw_at lw_m11 171 rfl) rfl
theorem q2673 : (Jvm.Cond.interfaceEntry "java/util/Collections" (109 : Nat)) ∈ lw_tbl := lw_at lw_m11 172 rfl
theorem q2674 : (Jvm.Cond.methodLink "java/util/Collections" (109 : Nat) ({ cls := "java/util/List", name := "set", desc := "(ILjava/lang/Object;)Ljava/lang/Object;" } : Jvm.MethodName)) ∈ lw_all := lw_g (lw_at lw_m11 173 rfl) rfl
theorem q2720 : (Jvm.Cond.methodLink "java/util/Collections" (143 : Nat) ({ cls := "java/util/Collections", name := "rotate2", desc := "(Ljava/util/List;I)V" } : Jvm.MethodName)) ∈ lw_all := lw_g (lw_at lw_m11 219 rfl) rfl
theorem q2721 : (Jvm.Cond.static ({ cls := "java/util/Collections", name := "rotate2", desc := "(Ljava/util/List;I)V" } : Jvm.MethodName)) ∈ lw_all := lw_g (lw_at lw_m11 220 rfl) rfl
theorem q2722 : (Jvm.Cond.code ({ cls := "java/util/Collections", name := "rotate2", desc := "(Ljava/util/List;I)V" } : Jvm.MethodName) prog_62_method_25_code (4 : Nat) (Option.none : Option Jvm.ClassFile.FieldType)) ∈ lw_all := lw_g (lw_at lw_m11 221 rfl) rfl
theorem q2723 : (Jvm.Cond.interfaceEntry "java/util/Collections" (146 : Nat)) ∈ lw_tbl := lw_at lw_m11 222 rfl
theorem q2724 : (Jvm.Cond.methodLink "java/util/Collections" (146 : Nat) ({ cls := "java/util/List", name := "subList", desc := "(II)Ljava/util/List;" } : Jvm.MethodName)) ∈ lw_all := lw_g (lw_at lw_m11 223 rfl) rfl
theorem q2874 : (Jvm.Cond.methodLink "java/util/Collections" (150 : Nat) ({ cls := "java/util/Collections", name := "reverse", desc := "(Ljava/util/List;)V" } : Jvm.MethodName)) ∈ lw_all := lw_g (lw_at lw_m12 133 rfl) rfl
theorem q2875 : (Jvm.Cond.static ({ cls := "java/util/Collections", name := "reverse", desc := "(Ljava/util/List;)V" } : Jvm.MethodName)) ∈ lw_all := lw_g (lw_at lw_m12 134 rfl) rfl
theorem q2876 : (Jvm.Cond.code ({ cls := "java/util/Collections", name := "reverse", desc := "(Ljava/util/List;)V" } : Jvm.MethodName) prog_62_method_11_code (7 : Nat) (Option.none : Option Jvm.ClassFile.FieldType)) ∈ lw_all := lw_g (lw_at lw_m12 135 rfl) rfl
theorem q2877 : (Jvm.Cond.methodLink "java/util/Collections" (71 : Nat) ({ cls := "java/util/Collections", name := "swap", desc := "(Ljava/util/List;II)V" } : Jvm.MethodName)) ∈ lw_all := lw_g (lw_at lw_m12 136 rfl) rfl
theorem q2878 : (Jvm.Cond.static ({ cls := "java/util/Collections", name := "swap", desc := "(Ljava/util/List;II)V" } : Jvm.MethodName)) ∈ lw_all := lw_g (lw_at lw_m12 137 rfl) rfl
theorem q2879 : (Jvm.Cond.code ({ cls := "java/util/Collections", name := "swap", desc := "(Ljava/util/List;II)V" } : Jvm.MethodName) prog_62_method_15_code (4 : Nat) (Option.none : Option Jvm.ClassFile.FieldType)) ∈ lw_all := lw_g (lw_at lw_m12 138 rfl) rfl
theorem q2880 : (Jvm.Cond.interfaceEntry "java/util/Collections" (38 : Nat)) ∈ lw_tbl := lw_at lw_m12 139 rfl
theorem q2881 : (Jvm.Cond.methodLink "java/util/Collections" (38 : Nat) ({ cls := "java/util/List", name := "listIterator", desc := "()Ljava/util/ListIterator;" } : Jvm.MethodName)) ∈ lw_all := lw_g (lw_at lw_m12 140 rfl) rfl
theorem q2980 : (Jvm.Cond.interfaceEntry "java/util/Collections" (75 : Nat)) ∈ lw_tbl := lw_at lw_m12 239 rfl
theorem q2981 : (Jvm.Cond.methodLink "java/util/Collections" (75 : Nat) ({ cls := "java/util/List", name := "listIterator", desc := "(I)Ljava/util/ListIterator;" } : Jvm.MethodName)) ∈ lw_all := lw_g (lw_at lw_m13 0 rfl) rfl
theorem q2982 : (Jvm.Cond.interfaceEntry "java/util/Collections" (50 : Nat)) ∈ lw_tbl := lw_at lw_m13 1 rfl
theorem q2983 : (Jvm.Cond.methodLink "java/util/Collections" (50 : Nat) ({ cls := "java/util/ListIterator", name := "next", desc := "()Ljava/lang/Object;" } : Jvm.MethodName)) ∈ lw_all := lw_g (lw_at lw_m13 2 rfl) rfl
theorem q2984 : (Jvm.Cond.interfaceEntry "java/util/Collections" (54 : Nat)) ∈ lw_tbl := lw_at lw_m13 3 rfl
theorem q2985 : (Jvm.Cond.methodLink "java/util/Collections" (54 : Nat) ({ cls := "java/util/ListIterator", name := "previous", desc := "()Ljava/lang/Object;" } : Jvm.MethodName)) ∈ lw_all := lw_g (lw_at lw_m13 4 rfl) rfl
theorem q3109 : (Jvm.Cond.interfaceEntry "java/util/Collections" (78 : Nat)) ∈ lw_tbl := lw_at lw_m13 128 rfl
theorem q3110 : (Jvm.Cond.methodLink "java/util/Collections" (78 : Nat) ({ cls := "java/util/ListIterator", name := "set", desc := "(Ljava/lang/Object;)V" } : Jvm.MethodName)) ∈ lw_all := lw_g (lw_at lw_m13 129 rfl) rfl


/-! java/util/Collections$UnmodifiableCollection -/
set_option maxRecDepth 100000
def RJ42 : String := "java/util/Collections$UnmodifiableCollection"
abbrev cJ42_init : ByteArray := prog_63_method_1_code
def yJ42_init : MethodName := ⟨RJ42, "<init>", "(Ljava/util/Collection;)V"⟩
def dkwJ42_init_0 : List UInt8 := [42, 183, 0, 1, 43, 199, 0, 11, 187, 0, 7, 89, 183, 0, 9, 191, 42, 43, 181, 0, 10, 177]
abbrev dktJ42_init_0 : List UInt8 := dkwJ42_init_0 ++ []
theorem dksJ42_init_0 : cJ42_init.data.toList.drop 0 = dktJ42_init_0 := by decide +kernel
theorem dJ42_init_0 : decode cJ42_init 0 = .ok (.aload_n 0, 1) := dk_42 (dk_at dksJ42_init_0 0 rfl rfl)
theorem dJ42_init_1 : decode cJ42_init 1 = .ok (.invokespecial 1, 3) := dk_183 0 1 (dk_at dksJ42_init_0 1 rfl rfl)
theorem dJ42_init_4 : decode cJ42_init 4 = .ok (.aload_n 1, 1) := dk_43 (dk_at dksJ42_init_0 4 rfl rfl)
theorem dJ42_init_5 : decode cJ42_init 5 = .ok (.ifnonnull 11, 3) := dk_199 0 11 (dk_at dksJ42_init_0 5 rfl rfl)
theorem dJ42_init_8 : decode cJ42_init 8 = .ok (.new 7, 3) := dk_187 0 7 (dk_at dksJ42_init_0 8 rfl rfl)
theorem dJ42_init_11 : decode cJ42_init 11 = .ok (.dup, 1) := dk_89 (dk_at dksJ42_init_0 11 rfl rfl)
theorem dJ42_init_12 : decode cJ42_init 12 = .ok (.invokespecial 9, 3) := dk_183 0 9 (dk_at dksJ42_init_0 12 rfl rfl)
theorem dJ42_init_15 : decode cJ42_init 15 = .ok (.athrow, 1) := dk_191 (dk_at dksJ42_init_0 15 rfl rfl)
theorem dJ42_init_16 : decode cJ42_init 16 = .ok (.aload_n 0, 1) := dk_42 (dk_at dksJ42_init_0 16 rfl rfl)
theorem dJ42_init_17 : decode cJ42_init 17 = .ok (.aload_n 1, 1) := dk_43 (dk_at dksJ42_init_0 17 rfl rfl)
theorem dJ42_init_18 : decode cJ42_init 18 = .ok (.putfield 10, 3) := dk_181 0 10 (dk_at dksJ42_init_0 18 rfl rfl)
theorem dJ42_init_21 : decode cJ42_init 21 = .ok (.return_, 1) := dk_177 (dk_at dksJ42_init_0 21 rfl rfl)
theorem q156 : (Jvm.Cond.initialized "java/util/Collections$UnmodifiableCollection") ∈ lw_all := lw_g (lw_at lw_m1 55 rfl) rfl
theorem q1682 : (Jvm.Cond.instanceMethod ({ cls := "java/util/Collections$UnmodifiableCollection", name := "toArray", desc := "()[Ljava/lang/Object;" } : Jvm.MethodName)) ∈ lw_all := lw_g (lw_at lw_m7 141 rfl) rfl
theorem q1683 : (Jvm.Cond.publicMethod ({ cls := "java/util/Collections$UnmodifiableCollection", name := "toArray", desc := "()[Ljava/lang/Object;" } : Jvm.MethodName)) ∈ lw_tbl := lw_at lw_m7 142 rfl
theorem q1684 : (Jvm.Cond.code ({ cls := "java/util/Collections$UnmodifiableCollection", name := "toArray", desc := "()[Ljava/lang/Object;" } : Jvm.MethodName) prog_63_method_5_code (1 : Nat) (Option.some (Jvm.ClassFile.FieldType.array (Jvm.ClassFile.FieldType.object "java/lang/Object")))) ∈ lw_all := lw_g (lw_at lw_m7 143 rfl) rfl
theorem q1685 : (Jvm.Cond.interfaceEntry "java/util/Collections$UnmodifiableCollection" (30 : Nat)) ∈ lw_tbl := lw_at lw_m7 144 rfl
theorem q1686 : (Jvm.Cond.methodLink "java/util/Collections$UnmodifiableCollection" (30 : Nat) ({ cls := "java/util/Collection", name := "toArray", desc := "()[Ljava/lang/Object;" } : Jvm.MethodName)) ∈ lw_all := lw_g (lw_at lw_m7 145 rfl) rfl
theorem q1830 : (Jvm.Cond.instanceMethod ({ cls := "java/util/Collections$UnmodifiableCollection", name := "size", desc := "()I" } : Jvm.MethodName)) ∈ lw_all := lw_g (lw_at lw_m8 49 rfl) rfl
theorem q1831 : (Jvm.Cond.publicMethod ({ cls := "java/util/Collections$UnmodifiableCollection", name := "size", desc := "()I" } : Jvm.MethodName)) ∈ lw_tbl := lw_at lw_m8 50 rfl
theorem q1832 : (Jvm.Cond.code ({ cls := "java/util/Collections$UnmodifiableCollection", name := "size", desc := "()I" } : Jvm.MethodName) prog_63_method_2_code (1 : Nat) (Option.some Jvm.ClassFile.FieldType.int)) ∈ lw_all := lw_g (lw_at lw_m8 51 rfl) rfl
theorem q1833 : (Jvm.Cond.interfaceEntry "java/util/Collections$UnmodifiableCollection" (16 : Nat)) ∈ lw_tbl := lw_at lw_m8 52 rfl
theorem q1834 : (Jvm.Cond.methodLink "java/util/Collections$UnmodifiableCollection" (16 : Nat) ({ cls := "java/util/Collection", name := "size", desc := "()I" } : Jvm.MethodName)) ∈ lw_all := lw_g (lw_at lw_m8 53 rfl) rfl
theorem q2234 : (Jvm.Cond.instanceMethod ({ cls := "java/util/Collections$UnmodifiableCollection", name := "<init>", desc := "(Ljava/util/Collection;)V" } : Jvm.MethodName)) ∈ lw_all := lw_g (lw_at lw_m9 213 rfl) rfl
theorem q2235 : (Jvm.Cond.code ({ cls := "java/util/Collections$UnmodifiableCollection", name := "<init>", desc := "(Ljava/util/Collection;)V" } : Jvm.MethodName) prog_63_method_1_code (2 : Nat) (Option.none : Option Jvm.ClassFile.FieldType)) ∈ lw_all := lw_g (lw_at lw_m9 214 rfl) rfl
theorem q2236 : (Jvm.Cond.methodLink "java/util/Collections$UnmodifiableCollection" (1 : Nat) ({ cls := "java/lang/Object", name := "<init>", desc := "()V" } : Jvm.MethodName)) ∈ lw_all := lw_g (lw_at lw_m9 215 rfl) rfl
theorem q2241 : (Jvm.Cond.fieldLink "java/util/Collections$UnmodifiableCollection" (10 : Nat) "java/util/Collections$UnmodifiableCollection" "c" "Ljava/util/Collection;") ∈ lw_all := lw_g (lw_at lw_m9 220 rfl) rfl
theorem q2245 : (Jvm.Cond.soleField "java/util/Collections$UnmodifiableCollection" "c") ∈ lw_all := lw_g (lw_at lw_m9 224 rfl) rfl


/-! java/util/Collections$UnmodifiableList -/
set_option maxRecDepth 100000
def RJ43 : String := "java/util/Collections$UnmodifiableList"
def TJ43 : u_T := fun k => match k with
  | 0 => ("java/util/Collections$UnmodifiableCollection", "c", "Ljava/util/Collection;", true)
  | _ => ("java/util/Collections$UnmodifiableList", "list", "Ljava/util/List;", true)
def tyJ43 : Nat → FieldType := fun k => match k with
  | 0 => .object "java/util/Collection"
  | _ => .object "java/util/List"
abbrev wsJ430 : List Cond := u_ws RJ43 TJ43 2
theorem nmJ43 : ∀ a, a < 2 → ∀ b, b < 2 → a ≠ b → (TJ43 a).2.1 ≠ (TJ43 b).2.1 := by decide +kernel
theorem tyJ43_ok : ∀ k, k < 2 → parseFieldDescriptor (TJ43 k).2.2.1 = some (tyJ43 k) := by decide +kernel
abbrev cJ43_get : ByteArray := prog_64_method_4_code
def yJ43_get : MethodName := ⟨RJ43, "get", "(I)Ljava/lang/Object;"⟩
def dkwJ43_get_0 : List UInt8 := [42, 180, 0, 7, 27, 185, 0, 23, 2, 0, 176]
abbrev dktJ43_get_0 : List UInt8 := dkwJ43_get_0 ++ []
theorem dksJ43_get_0 : cJ43_get.data.toList.drop 0 = dktJ43_get_0 := by decide +kernel
theorem dJ43_get_0 : decode cJ43_get 0 = .ok (.aload_n 0, 1) := dk_42 (dk_at dksJ43_get_0 0 rfl rfl)
theorem dJ43_get_1 : decode cJ43_get 1 = .ok (.getfield 7, 3) := dk_180 0 7 (dk_at dksJ43_get_0 1 rfl rfl)
theorem dJ43_get_4 : decode cJ43_get 4 = .ok (.iload_n 1, 1) := dk_27 (dk_at dksJ43_get_0 4 rfl rfl)
theorem dJ43_get_5 : decode cJ43_get 5 = .ok (.invokeinterface 23 2, 5) := by decide +kernel
theorem dJ43_get_10 : decode cJ43_get 10 = .ok (.areturn, 1) := dk_176 (dk_at dksJ43_get_0 10 rfl rfl)
abbrev cJ43_init : ByteArray := prog_64_method_1_code
def yJ43_init : MethodName := ⟨RJ43, "<init>", "(Ljava/util/List;)V"⟩
def dkwJ43_init_0 : List UInt8 := [42, 43, 183, 0, 1, 42, 43, 181, 0, 7, 177]
abbrev dktJ43_init_0 : List UInt8 := dkwJ43_init_0 ++ []
theorem dksJ43_init_0 : cJ43_init.data.toList.drop 0 = dktJ43_init_0 := by decide +kernel
theorem dJ43_init_0 : decode cJ43_init 0 = .ok (.aload_n 0, 1) := dk_42 (dk_at dksJ43_init_0 0 rfl rfl)
theorem dJ43_init_1 : decode cJ43_init 1 = .ok (.aload_n 1, 1) := dk_43 (dk_at dksJ43_init_0 1 rfl rfl)
theorem dJ43_init_2 : decode cJ43_init 2 = .ok (.invokespecial 1, 3) := dk_183 0 1 (dk_at dksJ43_init_0 2 rfl rfl)
theorem dJ43_init_5 : decode cJ43_init 5 = .ok (.aload_n 0, 1) := dk_42 (dk_at dksJ43_init_0 5 rfl rfl)
theorem dJ43_init_6 : decode cJ43_init 6 = .ok (.aload_n 1, 1) := dk_43 (dk_at dksJ43_init_0 6 rfl rfl)
theorem dJ43_init_7 : decode cJ43_init 7 = .ok (.putfield 7, 3) := dk_181 0 7 (dk_at dksJ43_init_0 7 rfl rfl)
theorem dJ43_init_10 : decode cJ43_init 10 = .ok (.return_, 1) := dk_177 (dk_at dksJ43_init_0 10 rfl rfl)
theorem q157 : (Jvm.Cond.initialized "java/util/Collections$UnmodifiableList") ∈ lw_all := lw_g (lw_at lw_m1 56 rfl) rfl
theorem q420 : (Jvm.Cond.selects "java/util/Collections$UnmodifiableList" ({ cls := "java/lang/Object", name := "getClass", desc := "()Ljava/lang/Class;" } : Jvm.MethodName) ({ cls := "java/lang/Object", name := "getClass", desc := "()Ljava/lang/Class;" } : Jvm.MethodName)) ∈ lw_all := lw_g (lw_at lw_m2 79 rfl) rfl
theorem q1561 : (Jvm.Cond.castable "java/util/Collections$UnmodifiableList" "java/util/List") ∈ lw_tbl := lw_at lw_m7 20 rfl
theorem q1562 : (Jvm.Cond.selects "java/util/Collections$UnmodifiableList" ({ cls := "java/util/List", name := "get", desc := "(I)Ljava/lang/Object;" } : Jvm.MethodName) ({ cls := "java/util/Collections$UnmodifiableList", name := "get", desc := "(I)Ljava/lang/Object;" } : Jvm.MethodName)) ∈ lw_all := lw_g (lw_at lw_m7 21 rfl) rfl
theorem q1563 : (Jvm.Cond.unhidden "java/util/Collections$UnmodifiableList" "get" "(I)Ljava/lang/Object;") ∈ lw_tbl := lw_at lw_m7 22 rfl
theorem q1564 : (Jvm.Cond.instanceMethod ({ cls := "java/util/Collections$UnmodifiableList", name := "get", desc := "(I)Ljava/lang/Object;" } : Jvm.MethodName)) ∈ lw_all := lw_g (lw_at lw_m7 23 rfl) rfl
theorem q1565 : (Jvm.Cond.publicMethod ({ cls := "java/util/Collections$UnmodifiableList", name := "get", desc := "(I)Ljava/lang/Object;" } : Jvm.MethodName)) ∈ lw_tbl := lw_at lw_m7 24 rfl
theorem q1566 : (Jvm.Cond.code ({ cls := "java/util/Collections$UnmodifiableList", name := "get", desc := "(I)Ljava/lang/Object;" } : Jvm.MethodName) prog_64_method_4_code (2 : Nat) (Option.some (Jvm.ClassFile.FieldType.object "java/lang/Object"))) ∈ lw_all := lw_g (lw_at lw_m7 25 rfl) rfl
theorem q1567 : (Jvm.Cond.interfaceEntry "java/util/Collections$UnmodifiableList" (23 : Nat)) ∈ lw_tbl := lw_at lw_m7 26 rfl
theorem q1568 : (Jvm.Cond.methodLink "java/util/Collections$UnmodifiableList" (23 : Nat) ({ cls := "java/util/List", name := "get", desc := "(I)Ljava/lang/Object;" } : Jvm.MethodName)) ∈ lw_all := lw_g (lw_at lw_m7 27 rfl) rfl
theorem q1679 : (Jvm.Cond.castable "java/util/Collections$UnmodifiableList" "java/util/Collection") ∈ lw_tbl := lw_at lw_m7 138 rfl
theorem q1680 : (Jvm.Cond.selects "java/util/Collections$UnmodifiableList" ({ cls := "java/util/Collection", name := "toArray", desc := "()[Ljava/lang/Object;" } : Jvm.MethodName) ({ cls := "java/util/Collections$UnmodifiableCollection", name := "toArray", desc := "()[Ljava/lang/Object;" } : Jvm.MethodName)) ∈ lw_all := lw_g (lw_at lw_m7 139 rfl) rfl
theorem q1681 : (Jvm.Cond.unhidden "java/util/Collections$UnmodifiableList" "toArray" "()[Ljava/lang/Object;") ∈ lw_tbl := lw_at lw_m7 140 rfl
theorem q1828 : (Jvm.Cond.selects "java/util/Collections$UnmodifiableList" ({ cls := "java/util/List", name := "size", desc := "()I" } : Jvm.MethodName) ({ cls := "java/util/Collections$UnmodifiableCollection", name := "size", desc := "()I" } : Jvm.MethodName)) ∈ lw_all := lw_g (lw_at lw_m8 47 rfl) rfl
theorem q1829 : (Jvm.Cond.unhidden "java/util/Collections$UnmodifiableList" "size" "()I") ∈ lw_tbl := lw_at lw_m8 48 rfl
theorem q1844 : (Jvm.Cond.selects "java/util/Collections$UnmodifiableList" ({ cls := "java/util/Collection", name := "size", desc := "()I" } : Jvm.MethodName) ({ cls := "java/util/Collections$UnmodifiableCollection", name := "size", desc := "()I" } : Jvm.MethodName)) ∈ lw_all := lw_g (lw_at lw_m8 63 rfl) rfl
theorem q2216 : (Jvm.Cond.unhidden "java/util/Collections$UnmodifiableList" "getClass" "()Ljava/lang/Class;") ∈ lw_tbl := lw_at lw_m9 195 rfl
theorem q2231 : (Jvm.Cond.instanceMethod ({ cls := "java/util/Collections$UnmodifiableList", name := "<init>", desc := "(Ljava/util/List;)V" } : Jvm.MethodName)) ∈ lw_all := lw_g (lw_at lw_m9 210 rfl) rfl
theorem q2232 : (Jvm.Cond.code ({ cls := "java/util/Collections$UnmodifiableList", name := "<init>", desc := "(Ljava/util/List;)V" } : Jvm.MethodName) prog_64_method_1_code (2 : Nat) (Option.none : Option Jvm.ClassFile.FieldType)) ∈ lw_all := lw_g (lw_at lw_m9 211 rfl) rfl
theorem q2233 : (Jvm.Cond.methodLink "java/util/Collections$UnmodifiableList" (1 : Nat) ({ cls := "java/util/Collections$UnmodifiableCollection", name := "<init>", desc := "(Ljava/util/Collection;)V" } : Jvm.MethodName)) ∈ lw_all := lw_g (lw_at lw_m9 212 rfl) rfl
theorem q2237 : (Jvm.Cond.fieldLink "java/util/Collections$UnmodifiableList" (7 : Nat) "java/util/Collections$UnmodifiableList" "list" "Ljava/util/List;") ∈ lw_all := lw_g (lw_at lw_m9 216 rfl) rfl
theorem q2243 : (Jvm.Cond.soleField "java/util/Collections$UnmodifiableList" "list") ∈ lw_all := lw_g (lw_at lw_m9 222 rfl) rfl
theorem q2247 : (Jvm.Cond.instantiable "java/util/Collections$UnmodifiableList" (2 : Nat)) ∈ lw_all := lw_g (lw_at lw_m9 226 rfl) rfl
theorem q2249 : (Jvm.Cond.laysFinal "java/util/Collections$UnmodifiableList" "java/util/Collections$UnmodifiableList" "list" "Ljava/util/List;") ∈ lw_all := lw_g (lw_at lw_m9 228 rfl) rfl
theorem q2250 : (Jvm.Cond.laysFinal "java/util/Collections$UnmodifiableList" "java/util/Collections$UnmodifiableCollection" "c" "Ljava/util/Collection;") ∈ lw_all := lw_g (lw_at lw_m9 229 rfl) rfl
theorem q2251 : (Jvm.Cond.superclass "java/util/Collections$UnmodifiableList" "java/util/Collections$UnmodifiableCollection") ∈ lw_all := lw_g (lw_at lw_m9 230 rfl) rfl
theorem q2703 : (Jvm.Cond.selects "java/util/Collections$UnmodifiableList" ({ cls := "java/util/List", name := "set", desc := "(ILjava/lang/Object;)Ljava/lang/Object;" } : Jvm.MethodName) ({ cls := "java/util/Collections$UnmodifiableList", name := "set", desc := "(ILjava/lang/Object;)Ljava/lang/Object;" } : Jvm.MethodName)) ∈ lw_all := lw_g (lw_at lw_m11 202 rfl) rfl
theorem q2704 : (Jvm.Cond.unhidden "java/util/Collections$UnmodifiableList" "set" "(ILjava/lang/Object;)Ljava/lang/Object;") ∈ lw_tbl := lw_at lw_m11 203 rfl
theorem q2705 : (Jvm.Cond.instanceMethod ({ cls := "java/util/Collections$UnmodifiableList", name := "set", desc := "(ILjava/lang/Object;)Ljava/lang/Object;" } : Jvm.MethodName)) ∈ lw_all := lw_g (lw_at lw_m11 204 rfl) rfl
theorem q2706 : (Jvm.Cond.publicMethod ({ cls := "java/util/Collections$UnmodifiableList", name := "set", desc := "(ILjava/lang/Object;)Ljava/lang/Object;" } : Jvm.MethodName)) ∈ lw_tbl := lw_at lw_m11 205 rfl
theorem q2707 : (Jvm.Cond.code ({ cls := "java/util/Collections$UnmodifiableList", name := "set", desc := "(ILjava/lang/Object;)Ljava/lang/Object;" } : Jvm.MethodName) prog_64_method_5_code (3 : Nat) (Option.some (Jvm.ClassFile.FieldType.object "java/lang/Object"))) ∈ lw_all := lw_g (lw_at lw_m11 206 rfl) rfl
theorem q2791 : (Jvm.Cond.selects "java/util/Collections$UnmodifiableList" ({ cls := "java/util/List", name := "subList", desc := "(II)Ljava/util/List;" } : Jvm.MethodName) ({ cls := "java/util/Collections$UnmodifiableList", name := "subList", desc := "(II)Ljava/util/List;" } : Jvm.MethodName)) ∈ lw_all := lw_g (lw_at lw_m12 50 rfl) rfl
theorem q2792 : (Jvm.Cond.unhidden "java/util/Collections$UnmodifiableList" "subList" "(II)Ljava/util/List;") ∈ lw_tbl := lw_at lw_m12 51 rfl
theorem q2793 : (Jvm.Cond.instanceMethod ({ cls := "java/util/Collections$UnmodifiableList", name := "subList", desc := "(II)Ljava/util/List;" } : Jvm.MethodName)) ∈ lw_all := lw_g (lw_at lw_m12 52 rfl) rfl
theorem q2794 : (Jvm.Cond.publicMethod ({ cls := "java/util/Collections$UnmodifiableList", name := "subList", desc := "(II)Ljava/util/List;" } : Jvm.MethodName)) ∈ lw_tbl := lw_at lw_m12 53 rfl
theorem q2795 : (Jvm.Cond.code ({ cls := "java/util/Collections$UnmodifiableList", name := "subList", desc := "(II)Ljava/util/List;" } : Jvm.MethodName) prog_64_method_15_code (3 : Nat) (Option.some (Jvm.ClassFile.FieldType.object "java/util/List"))) ∈ lw_all := lw_g (lw_at lw_m12 54 rfl) rfl
theorem q2796 : (Jvm.Cond.classLink "java/util/Collections$UnmodifiableList" (8 : Nat) "java/util/Collections$UnmodifiableList") ∈ lw_all := lw_g (lw_at lw_m12 55 rfl) rfl
theorem q2797 : (Jvm.Cond.interfaceEntry "java/util/Collections$UnmodifiableList" (48 : Nat)) ∈ lw_tbl := lw_at lw_m12 56 rfl
theorem q2798 : (Jvm.Cond.methodLink "java/util/Collections$UnmodifiableList" (48 : Nat) ({ cls := "java/util/List", name := "subList", desc := "(II)Ljava/util/List;" } : Jvm.MethodName)) ∈ lw_all := lw_g (lw_at lw_m12 57 rfl) rfl
theorem q2873 : (Jvm.Cond.methodLink "java/util/Collections$UnmodifiableList" (52 : Nat) ({ cls := "java/util/Collections$UnmodifiableList", name := "<init>", desc := "(Ljava/util/List;)V" } : Jvm.MethodName)) ∈ lw_all := lw_g (lw_at lw_m12 132 rfl) rfl
theorem q2896 : (Jvm.Cond.selects "java/util/Collections$UnmodifiableList" ({ cls := "java/util/List", name := "listIterator", desc := "()Ljava/util/ListIterator;" } : Jvm.MethodName) ({ cls := "java/util/Collections$UnmodifiableList", name := "listIterator", desc := "()Ljava/util/ListIterator;" } : Jvm.MethodName)) ∈ lw_all := lw_g (lw_at lw_m12 155 rfl) rfl
theorem q2897 : (Jvm.Cond.unhidden "java/util/Collections$UnmodifiableList" "listIterator" "()Ljava/util/ListIterator;") ∈ lw_tbl := lw_at lw_m12 156 rfl
theorem q2898 : (Jvm.Cond.instanceMethod ({ cls := "java/util/Collections$UnmodifiableList", name := "listIterator", desc := "()Ljava/util/ListIterator;" } : Jvm.MethodName)) ∈ lw_all := lw_g (lw_at lw_m12 157 rfl) rfl
theorem q2899 : (Jvm.Cond.publicMethod ({ cls := "java/util/Collections$UnmodifiableList", name := "listIterator", desc := "()Ljava/util/ListIterator;" } : Jvm.MethodName)) ∈ lw_tbl := lw_at lw_m12 158 rfl
theorem q2900 : (Jvm.Cond.code ({ cls := "java/util/Collections$UnmodifiableList", name := "listIterator", desc := "()Ljava/util/ListIterator;" } : Jvm.MethodName) prog_64_method_13_code (1 : Nat) (Option.some (Jvm.ClassFile.FieldType.object "java/util/ListIterator"))) ∈ lw_all := lw_g (lw_at lw_m12 159 rfl) rfl
theorem q2901 : (Jvm.Cond.methodLink "java/util/Collections$UnmodifiableList" (39 : Nat) ({ cls := "java/util/Collections$UnmodifiableList", name := "listIterator", desc := "(I)Ljava/util/ListIterator;" } : Jvm.MethodName)) ∈ lw_all := lw_g (lw_at lw_m12 160 rfl) rfl
theorem q2902 : (Jvm.Cond.instanceMethod ({ cls := "java/util/Collections$UnmodifiableList", name := "listIterator", desc := "(I)Ljava/util/ListIterator;" } : Jvm.MethodName)) ∈ lw_all := lw_g (lw_at lw_m12 161 rfl) rfl
theorem q2903 : (Jvm.Cond.selects "java/util/Collections$UnmodifiableList" ({ cls := "java/util/Collections$UnmodifiableList", name := "listIterator", desc := "(I)Ljava/util/ListIterator;" } : Jvm.MethodName) ({ cls := "java/util/Collections$UnmodifiableList", name := "listIterator", desc := "(I)Ljava/util/ListIterator;" } : Jvm.MethodName)) ∈ lw_all := lw_g (lw_at lw_m12 162 rfl) rfl
theorem q2904 : (Jvm.Cond.sameMethod "java/util/Collections$UnmodifiableList" "java/util/Collections$UnmodifiableList" "listIterator" "(I)Ljava/util/ListIterator;") ∈ lw_all := lw_g (lw_at lw_m12 163 rfl) rfl
theorem q2906 : (Jvm.Cond.code ({ cls := "java/util/Collections$UnmodifiableList", name := "listIterator", desc := "(I)Ljava/util/ListIterator;" } : Jvm.MethodName) prog_64_method_14_code (2 : Nat) (Option.some (Jvm.ClassFile.FieldType.object "java/util/ListIterator"))) ∈ lw_all := lw_g (lw_at lw_m12 165 rfl) rfl
theorem q2907 : (Jvm.Cond.classLink "java/util/Collections$UnmodifiableList" (43 : Nat) "java/util/Collections$UnmodifiableList$1") ∈ lw_all := lw_g (lw_at lw_m12 166 rfl) rfl
theorem q2909 : (Jvm.Cond.methodLink "java/util/Collections$UnmodifiableList" (45 : Nat) ({ cls := "java/util/Collections$UnmodifiableList$1", name := "<init>", desc := "(Ljava/util/Collections$UnmodifiableList;I)V" } : Jvm.MethodName)) ∈ lw_all := lw_g (lw_at lw_m12 168 rfl) rfl
theorem q2928 : (Jvm.Cond.selects "java/util/Collections$UnmodifiableList" ({ cls := "java/util/List", name := "listIterator", desc := "(I)Ljava/util/ListIterator;" } : Jvm.MethodName) ({ cls := "java/util/Collections$UnmodifiableList", name := "listIterator", desc := "(I)Ljava/util/ListIterator;" } : Jvm.MethodName)) ∈ lw_all := lw_g (lw_at lw_m12 187 rfl) rfl
theorem q2929 : (Jvm.Cond.unhidden "java/util/Collections$UnmodifiableList" "listIterator" "(I)Ljava/util/ListIterator;") ∈ lw_tbl := lw_at lw_m12 188 rfl
theorem q2930 : (Jvm.Cond.publicMethod ({ cls := "java/util/Collections$UnmodifiableList", name := "listIterator", desc := "(I)Ljava/util/ListIterator;" } : Jvm.MethodName)) ∈ lw_tbl := lw_at lw_m12 189 rfl
theorem q3970 : (Jvm.Cond.castable "java/util/Collections$UnmodifiableList" "java/lang/Object") ∈ lw_tbl := lw_at lw_m17 29 rfl
theorem in_J43 : ∀ w ∈ wsJ430, w ∈ lw_all := lw_in wsJ430 [2250, 2249] (by decide +kernel) (by decide +kernel)


/-! java/util/Collections$UnmodifiableRandomAccessList -/
set_option maxRecDepth 100000
abbrev cJ44_init : ByteArray := prog_66_method_1_code
def yJ44_init : MethodName := ⟨RJ44, "<init>", "(Ljava/util/List;)V"⟩
def dkwJ44_init_0 : List UInt8 := [42, 43, 183, 0, 1, 177]
abbrev dktJ44_init_0 : List UInt8 := dkwJ44_init_0 ++ []
theorem dksJ44_init_0 : cJ44_init.data.toList.drop 0 = dktJ44_init_0 := by decide +kernel
theorem dJ44_init_0 : decode cJ44_init 0 = .ok (.aload_n 0, 1) := dk_42 (dk_at dksJ44_init_0 0 rfl rfl)
theorem dJ44_init_1 : decode cJ44_init 1 = .ok (.aload_n 1, 1) := dk_43 (dk_at dksJ44_init_0 1 rfl rfl)
theorem dJ44_init_2 : decode cJ44_init 2 = .ok (.invokespecial 1, 3) := dk_183 0 1 (dk_at dksJ44_init_0 2 rfl rfl)
theorem dJ44_init_5 : decode cJ44_init 5 = .ok (.return_, 1) := dk_177 (dk_at dksJ44_init_0 5 rfl rfl)
theorem q158 : (Jvm.Cond.initialized "java/util/Collections$UnmodifiableRandomAccessList") ∈ lw_all := lw_g (lw_at lw_m1 57 rfl) rfl
theorem q422 : (Jvm.Cond.selects "java/util/Collections$UnmodifiableRandomAccessList" ({ cls := "java/lang/Object", name := "getClass", desc := "()Ljava/lang/Class;" } : Jvm.MethodName) ({ cls := "java/lang/Object", name := "getClass", desc := "()Ljava/lang/Class;" } : Jvm.MethodName)) ∈ lw_all := lw_g (lw_at lw_m2 81 rfl) rfl
theorem q1569 : (Jvm.Cond.castable "java/util/Collections$UnmodifiableRandomAccessList" "java/util/List") ∈ lw_tbl := lw_at lw_m7 28 rfl
theorem q1570 : (Jvm.Cond.selects "java/util/Collections$UnmodifiableRandomAccessList" ({ cls := "java/util/List", name := "get", desc := "(I)Ljava/lang/Object;" } : Jvm.MethodName) ({ cls := "java/util/Collections$UnmodifiableList", name := "get", desc := "(I)Ljava/lang/Object;" } : Jvm.MethodName)) ∈ lw_all := lw_g (lw_at lw_m7 29 rfl) rfl
theorem q1571 : (Jvm.Cond.unhidden "java/util/Collections$UnmodifiableRandomAccessList" "get" "(I)Ljava/lang/Object;") ∈ lw_tbl := lw_at lw_m7 30 rfl
theorem q1687 : (Jvm.Cond.castable "java/util/Collections$UnmodifiableRandomAccessList" "java/util/Collection") ∈ lw_tbl := lw_at lw_m7 146 rfl
theorem q1688 : (Jvm.Cond.selects "java/util/Collections$UnmodifiableRandomAccessList" ({ cls := "java/util/Collection", name := "toArray", desc := "()[Ljava/lang/Object;" } : Jvm.MethodName) ({ cls := "java/util/Collections$UnmodifiableCollection", name := "toArray", desc := "()[Ljava/lang/Object;" } : Jvm.MethodName)) ∈ lw_all := lw_g (lw_at lw_m7 147 rfl) rfl
theorem q1689 : (Jvm.Cond.unhidden "java/util/Collections$UnmodifiableRandomAccessList" "toArray" "()[Ljava/lang/Object;") ∈ lw_tbl := lw_at lw_m7 148 rfl
theorem q1845 : (Jvm.Cond.selects "java/util/Collections$UnmodifiableRandomAccessList" ({ cls := "java/util/Collection", name := "size", desc := "()I" } : Jvm.MethodName) ({ cls := "java/util/Collections$UnmodifiableCollection", name := "size", desc := "()I" } : Jvm.MethodName)) ∈ lw_all := lw_g (lw_at lw_m8 64 rfl) rfl
theorem q1846 : (Jvm.Cond.unhidden "java/util/Collections$UnmodifiableRandomAccessList" "size" "()I") ∈ lw_tbl := lw_at lw_m8 65 rfl
theorem q1856 : (Jvm.Cond.selects "java/util/Collections$UnmodifiableRandomAccessList" ({ cls := "java/util/List", name := "size", desc := "()I" } : Jvm.MethodName) ({ cls := "java/util/Collections$UnmodifiableCollection", name := "size", desc := "()I" } : Jvm.MethodName)) ∈ lw_all := lw_g (lw_at lw_m8 75 rfl) rfl
theorem q2217 : (Jvm.Cond.unhidden "java/util/Collections$UnmodifiableRandomAccessList" "getClass" "()Ljava/lang/Class;") ∈ lw_tbl := lw_at lw_m9 196 rfl
theorem q2226 : (Jvm.Cond.instantiable "java/util/Collections$UnmodifiableRandomAccessList" (2 : Nat)) ∈ lw_all := lw_g (lw_at lw_m9 205 rfl) rfl
theorem q2228 : (Jvm.Cond.instanceMethod ({ cls := "java/util/Collections$UnmodifiableRandomAccessList", name := "<init>", desc := "(Ljava/util/List;)V" } : Jvm.MethodName)) ∈ lw_all := lw_g (lw_at lw_m9 207 rfl) rfl
theorem q2229 : (Jvm.Cond.code ({ cls := "java/util/Collections$UnmodifiableRandomAccessList", name := "<init>", desc := "(Ljava/util/List;)V" } : Jvm.MethodName) prog_66_method_1_code (2 : Nat) (Option.none : Option Jvm.ClassFile.FieldType)) ∈ lw_all := lw_g (lw_at lw_m9 208 rfl) rfl
theorem q2230 : (Jvm.Cond.methodLink "java/util/Collections$UnmodifiableRandomAccessList" (1 : Nat) ({ cls := "java/util/Collections$UnmodifiableList", name := "<init>", desc := "(Ljava/util/List;)V" } : Jvm.MethodName)) ∈ lw_all := lw_g (lw_at lw_m9 209 rfl) rfl
theorem q2239 : (Jvm.Cond.fieldLink "java/util/Collections$UnmodifiableRandomAccessList" (9 : Nat) "java/util/Collections$UnmodifiableRandomAccessList" "list" "Ljava/util/List;") ∈ lw_all := lw_g (lw_at lw_m9 218 rfl) rfl
theorem q2240 : (Jvm.Cond.sameField "java/util/Collections$UnmodifiableRandomAccessList" "java/util/Collections$UnmodifiableList" "list" "Ljava/util/List;") ∈ lw_all := lw_g (lw_at lw_m9 219 rfl) rfl
theorem q2242 : (Jvm.Cond.laysFinal "java/util/Collections$UnmodifiableRandomAccessList" "java/util/Collections$UnmodifiableList" "list" "Ljava/util/List;") ∈ lw_all := lw_g (lw_at lw_m9 221 rfl) rfl
theorem q2244 : (Jvm.Cond.laysFinal "java/util/Collections$UnmodifiableRandomAccessList" "java/util/Collections$UnmodifiableCollection" "c" "Ljava/util/Collection;") ∈ lw_all := lw_g (lw_at lw_m9 223 rfl) rfl
theorem q2246 : (Jvm.Cond.superclass "java/util/Collections$UnmodifiableRandomAccessList" "java/util/Collections$UnmodifiableList") ∈ lw_all := lw_g (lw_at lw_m9 225 rfl) rfl
theorem q2708 : (Jvm.Cond.selects "java/util/Collections$UnmodifiableRandomAccessList" ({ cls := "java/util/List", name := "set", desc := "(ILjava/lang/Object;)Ljava/lang/Object;" } : Jvm.MethodName) ({ cls := "java/util/Collections$UnmodifiableList", name := "set", desc := "(ILjava/lang/Object;)Ljava/lang/Object;" } : Jvm.MethodName)) ∈ lw_all := lw_g (lw_at lw_m11 207 rfl) rfl
theorem q2709 : (Jvm.Cond.unhidden "java/util/Collections$UnmodifiableRandomAccessList" "set" "(ILjava/lang/Object;)Ljava/lang/Object;") ∈ lw_tbl := lw_at lw_m11 208 rfl
theorem q2799 : (Jvm.Cond.selects "java/util/Collections$UnmodifiableRandomAccessList" ({ cls := "java/util/List", name := "subList", desc := "(II)Ljava/util/List;" } : Jvm.MethodName) ({ cls := "java/util/Collections$UnmodifiableRandomAccessList", name := "subList", desc := "(II)Ljava/util/List;" } : Jvm.MethodName)) ∈ lw_all := lw_g (lw_at lw_m12 58 rfl) rfl
theorem q2800 : (Jvm.Cond.unhidden "java/util/Collections$UnmodifiableRandomAccessList" "subList" "(II)Ljava/util/List;") ∈ lw_tbl := lw_at lw_m12 59 rfl
theorem q2801 : (Jvm.Cond.instanceMethod ({ cls := "java/util/Collections$UnmodifiableRandomAccessList", name := "subList", desc := "(II)Ljava/util/List;" } : Jvm.MethodName)) ∈ lw_all := lw_g (lw_at lw_m12 60 rfl) rfl
theorem q2802 : (Jvm.Cond.publicMethod ({ cls := "java/util/Collections$UnmodifiableRandomAccessList", name := "subList", desc := "(II)Ljava/util/List;" } : Jvm.MethodName)) ∈ lw_tbl := lw_at lw_m12 61 rfl
theorem q2803 : (Jvm.Cond.code ({ cls := "java/util/Collections$UnmodifiableRandomAccessList", name := "subList", desc := "(II)Ljava/util/List;" } : Jvm.MethodName) prog_66_method_2_code (3 : Nat) (Option.some (Jvm.ClassFile.FieldType.object "java/util/List"))) ∈ lw_all := lw_g (lw_at lw_m12 62 rfl) rfl
theorem q2804 : (Jvm.Cond.classLink "java/util/Collections$UnmodifiableRandomAccessList" (7 : Nat) "java/util/Collections$UnmodifiableRandomAccessList") ∈ lw_all := lw_g (lw_at lw_m12 63 rfl) rfl
theorem q2805 : (Jvm.Cond.interfaceEntry "java/util/Collections$UnmodifiableRandomAccessList" (13 : Nat)) ∈ lw_tbl := lw_at lw_m12 64 rfl
theorem q2806 : (Jvm.Cond.methodLink "java/util/Collections$UnmodifiableRandomAccessList" (13 : Nat) ({ cls := "java/util/List", name := "subList", desc := "(II)Ljava/util/List;" } : Jvm.MethodName)) ∈ lw_all := lw_g (lw_at lw_m12 65 rfl) rfl
theorem q2872 : (Jvm.Cond.methodLink "java/util/Collections$UnmodifiableRandomAccessList" (19 : Nat) ({ cls := "java/util/Collections$UnmodifiableRandomAccessList", name := "<init>", desc := "(Ljava/util/List;)V" } : Jvm.MethodName)) ∈ lw_all := lw_g (lw_at lw_m12 131 rfl) rfl
theorem q2905 : (Jvm.Cond.selects "java/util/Collections$UnmodifiableRandomAccessList" ({ cls := "java/util/Collections$UnmodifiableList", name := "listIterator", desc := "(I)Ljava/util/ListIterator;" } : Jvm.MethodName) ({ cls := "java/util/Collections$UnmodifiableList", name := "listIterator", desc := "(I)Ljava/util/ListIterator;" } : Jvm.MethodName)) ∈ lw_all := lw_g (lw_at lw_m12 164 rfl) rfl
theorem q2931 : (Jvm.Cond.selects "java/util/Collections$UnmodifiableRandomAccessList" ({ cls := "java/util/List", name := "listIterator", desc := "(I)Ljava/util/ListIterator;" } : Jvm.MethodName) ({ cls := "java/util/Collections$UnmodifiableList", name := "listIterator", desc := "(I)Ljava/util/ListIterator;" } : Jvm.MethodName)) ∈ lw_all := lw_g (lw_at lw_m12 190 rfl) rfl
theorem q2932 : (Jvm.Cond.unhidden "java/util/Collections$UnmodifiableRandomAccessList" "listIterator" "(I)Ljava/util/ListIterator;") ∈ lw_tbl := lw_at lw_m12 191 rfl
theorem q2968 : (Jvm.Cond.selects "java/util/Collections$UnmodifiableRandomAccessList" ({ cls := "java/util/List", name := "listIterator", desc := "()Ljava/util/ListIterator;" } : Jvm.MethodName) ({ cls := "java/util/Collections$UnmodifiableList", name := "listIterator", desc := "()Ljava/util/ListIterator;" } : Jvm.MethodName)) ∈ lw_all := lw_g (lw_at lw_m12 227 rfl) rfl
theorem q2969 : (Jvm.Cond.unhidden "java/util/Collections$UnmodifiableRandomAccessList" "listIterator" "()Ljava/util/ListIterator;") ∈ lw_tbl := lw_at lw_m12 228 rfl
theorem q3945 : (Jvm.Cond.castable "java/util/Collections$UnmodifiableRandomAccessList" "java/util/RandomAccess") ∈ lw_tbl := lw_at lw_m17 4 rfl
theorem q3969 : (Jvm.Cond.castable "java/util/Collections$UnmodifiableRandomAccessList" "java/lang/Object") ∈ lw_tbl := lw_at lw_m17 28 rfl


/-! java/lang/Long -/
set_option maxRecDepth 100000
abbrev cJ47_valueOf : ByteArray := prog_30_method_24_code
def yJ47_valueOf : MethodName := ⟨RJ47, "valueOf", "(J)Ljava/lang/Long;"⟩
def dkwJ47_valueOf_1 : List UInt8 := [136, 17, 0, 128, 96, 50, 176, 187, 0, 1, 89, 30, 183, 0, 240, 176]
abbrev dktJ47_valueOf_1 : List UInt8 := dkwJ47_valueOf_1 ++ []
def dkwJ47_valueOf_0 : List UInt8 := [17, 0, 128, 61, 30, 20, 0, 230, 148, 155, 0, 22, 30, 20, 0, 232, 148, 157, 0, 14, 178, 0, 234, 30]
abbrev dktJ47_valueOf_0 : List UInt8 := dkwJ47_valueOf_0 ++ dktJ47_valueOf_1
theorem dksJ47_valueOf_0 : cJ47_valueOf.data.toList.drop 0 = dktJ47_valueOf_0 := by decide +kernel
theorem dksJ47_valueOf_1 : cJ47_valueOf.data.toList.drop 24 = dktJ47_valueOf_1 := dk_seg dksJ47_valueOf_0 24 rfl rfl
theorem dJ47_valueOf_0 : decode cJ47_valueOf 0 = .ok (.sipush 128, 3) := dk_17 0 128 (dk_at dksJ47_valueOf_0 0 rfl rfl)
theorem dJ47_valueOf_3 : decode cJ47_valueOf 3 = .ok (.istore_n 2, 1) := dk_61 (dk_at dksJ47_valueOf_0 3 rfl rfl)
theorem dJ47_valueOf_4 : decode cJ47_valueOf 4 = .ok (.lload_n 0, 1) := dk_30 (dk_at dksJ47_valueOf_0 4 rfl rfl)
theorem dJ47_valueOf_5 : decode cJ47_valueOf 5 = .ok (.ldc2_w 230, 3) := dk_20 0 230 (dk_at dksJ47_valueOf_0 5 rfl rfl)
theorem dJ47_valueOf_8 : decode cJ47_valueOf 8 = .ok (.lcmp, 1) := dk_148 (dk_at dksJ47_valueOf_0 8 rfl rfl)
theorem dJ47_valueOf_9 : decode cJ47_valueOf 9 = .ok (.ifCond .lt 22, 3) := dk_155 0 22 (dk_at dksJ47_valueOf_0 9 rfl rfl)
theorem dJ47_valueOf_12 : decode cJ47_valueOf 12 = .ok (.lload_n 0, 1) := dk_30 (dk_at dksJ47_valueOf_0 12 rfl rfl)
theorem dJ47_valueOf_13 : decode cJ47_valueOf 13 = .ok (.ldc2_w 232, 3) := dk_20 0 232 (dk_at dksJ47_valueOf_0 13 rfl rfl)
theorem dJ47_valueOf_16 : decode cJ47_valueOf 16 = .ok (.lcmp, 1) := dk_148 (dk_at dksJ47_valueOf_0 16 rfl rfl)
theorem dJ47_valueOf_17 : decode cJ47_valueOf 17 = .ok (.ifCond .gt 14, 3) := dk_157 0 14 (dk_at dksJ47_valueOf_0 17 rfl rfl)
theorem dJ47_valueOf_20 : decode cJ47_valueOf 20 = .ok (.getstatic 234, 3) := dk_178 0 234 (dk_at dksJ47_valueOf_0 20 rfl rfl)
theorem dJ47_valueOf_23 : decode cJ47_valueOf 23 = .ok (.lload_n 0, 1) := dk_30 (dk_at dksJ47_valueOf_0 23 rfl rfl)
theorem dJ47_valueOf_24 : decode cJ47_valueOf 24 = .ok (.l2i, 1) := dk_136 (dk_at dksJ47_valueOf_1 0 rfl rfl)
theorem dJ47_valueOf_25 : decode cJ47_valueOf 25 = .ok (.sipush 128, 3) := dk_17 0 128 (dk_at dksJ47_valueOf_1 1 rfl rfl)
theorem dJ47_valueOf_28 : decode cJ47_valueOf 28 = .ok (.iadd, 1) := dk_96 (dk_at dksJ47_valueOf_1 4 rfl rfl)
theorem dJ47_valueOf_29 : decode cJ47_valueOf 29 = .ok (.aaload, 1) := dk_50 (dk_at dksJ47_valueOf_1 5 rfl rfl)
theorem dJ47_valueOf_30 : decode cJ47_valueOf 30 = .ok (.areturn, 1) := dk_176 (dk_at dksJ47_valueOf_1 6 rfl rfl)
theorem dJ47_valueOf_31 : decode cJ47_valueOf 31 = .ok (.new 1, 3) := dk_187 0 1 (dk_at dksJ47_valueOf_1 7 rfl rfl)
theorem dJ47_valueOf_34 : decode cJ47_valueOf 34 = .ok (.dup, 1) := dk_89 (dk_at dksJ47_valueOf_1 10 rfl rfl)
theorem dJ47_valueOf_35 : decode cJ47_valueOf 35 = .ok (.lload_n 0, 1) := dk_30 (dk_at dksJ47_valueOf_1 11 rfl rfl)
theorem dJ47_valueOf_36 : decode cJ47_valueOf 36 = .ok (.invokespecial 240, 3) := dk_183 0 240 (dk_at dksJ47_valueOf_1 12 rfl rfl)
theorem dJ47_valueOf_39 : decode cJ47_valueOf 39 = .ok (.areturn, 1) := dk_176 (dk_at dksJ47_valueOf_1 15 rfl rfl)
abbrev cJ47_init : ByteArray := prog_30_method_26_code
def yJ47_init : MethodName := ⟨RJ47, "<init>", "(J)V"⟩
def dkwJ47_init_0 : List UInt8 := [42, 183, 1, 14, 42, 31, 181, 1, 17, 177]
abbrev dktJ47_init_0 : List UInt8 := dkwJ47_init_0 ++ []
theorem dksJ47_init_0 : cJ47_init.data.toList.drop 0 = dktJ47_init_0 := by decide +kernel
theorem dJ47_init_0 : decode cJ47_init 0 = .ok (.aload_n 0, 1) := dk_42 (dk_at dksJ47_init_0 0 rfl rfl)
theorem dJ47_init_1 : decode cJ47_init 1 = .ok (.invokespecial 270, 3) := dk_183 1 14 (dk_at dksJ47_init_0 1 rfl rfl)
theorem dJ47_init_4 : decode cJ47_init 4 = .ok (.aload_n 0, 1) := dk_42 (dk_at dksJ47_init_0 4 rfl rfl)
theorem dJ47_init_5 : decode cJ47_init 5 = .ok (.lload_n 1, 1) := dk_31 (dk_at dksJ47_init_0 5 rfl rfl)
theorem dJ47_init_6 : decode cJ47_init 6 = .ok (.putfield 273, 3) := dk_181 1 17 (dk_at dksJ47_init_0 6 rfl rfl)
theorem dJ47_init_9 : decode cJ47_init 9 = .ok (.return_, 1) := dk_177 (dk_at dksJ47_init_0 9 rfl rfl)
abbrev cJ47_longValue : ByteArray := prog_30_method_31_code
def yJ47_longValue : MethodName := ⟨RJ47, "longValue", "()J"⟩
theorem dJ47_longValue_0 : decode cJ47_longValue 0 = .ok (.aload_n 0, 1) := by decide +kernel
theorem dJ47_longValue_1 : decode cJ47_longValue 1 = .ok (.getfield 273, 3) := by decide +kernel
theorem dJ47_longValue_4 : decode cJ47_longValue 4 = .ok (.lreturn, 1) := by decide +kernel
abbrev cJ47_bitCount : ByteArray := prog_30_method_50_code
def yJ47_bitCount : MethodName := ⟨RJ47, "bitCount", "(J)I"⟩
def dkwJ47_bitCount_2 : List UInt8 := [30, 30, 16, 32, 125, 97, 63, 30, 136, 16, 127, 126, 172]
abbrev dktJ47_bitCount_2 : List UInt8 := dkwJ47_bitCount_2 ++ []
def dkwJ47_bitCount_1 : List UInt8 := [30, 30, 7, 125, 97, 20, 1, 62, 127, 63, 30, 30, 16, 8, 125, 97, 63, 30, 30, 16, 16, 125, 97, 63]
abbrev dktJ47_bitCount_1 : List UInt8 := dkwJ47_bitCount_1 ++ dktJ47_bitCount_2
def dkwJ47_bitCount_0 : List UInt8 := [30, 30, 4, 125, 20, 1, 58, 127, 101, 63, 30, 20, 1, 60, 127, 30, 5, 125, 20, 1, 60, 127, 97, 63]
abbrev dktJ47_bitCount_0 : List UInt8 := dkwJ47_bitCount_0 ++ dktJ47_bitCount_1
theorem dksJ47_bitCount_0 : cJ47_bitCount.data.toList.drop 0 = dktJ47_bitCount_0 := by decide +kernel
theorem dksJ47_bitCount_1 : cJ47_bitCount.data.toList.drop 24 = dktJ47_bitCount_1 := dk_seg dksJ47_bitCount_0 24 rfl rfl
theorem dksJ47_bitCount_2 : cJ47_bitCount.data.toList.drop 48 = dktJ47_bitCount_2 := dk_seg dksJ47_bitCount_1 24 rfl rfl
theorem dJ47_bitCount_0 : decode cJ47_bitCount 0 = .ok (.lload_n 0, 1) := dk_30 (dk_at dksJ47_bitCount_0 0 rfl rfl)
theorem dJ47_bitCount_1 : decode cJ47_bitCount 1 = .ok (.lload_n 0, 1) := dk_30 (dk_at dksJ47_bitCount_0 1 rfl rfl)
theorem dJ47_bitCount_2 : decode cJ47_bitCount 2 = .ok (.iconst 1, 1) := dk_4 (dk_at dksJ47_bitCount_0 2 rfl rfl)
theorem dJ47_bitCount_3 : decode cJ47_bitCount 3 = .ok (.lushr, 1) := dk_125 (dk_at dksJ47_bitCount_0 3 rfl rfl)
theorem dJ47_bitCount_4 : decode cJ47_bitCount 4 = .ok (.ldc2_w 314, 3) := dk_20 1 58 (dk_at dksJ47_bitCount_0 4 rfl rfl)
theorem dJ47_bitCount_7 : decode cJ47_bitCount 7 = .ok (.land, 1) := dk_127 (dk_at dksJ47_bitCount_0 7 rfl rfl)
theorem dJ47_bitCount_8 : decode cJ47_bitCount 8 = .ok (.lsub, 1) := dk_101 (dk_at dksJ47_bitCount_0 8 rfl rfl)
theorem dJ47_bitCount_9 : decode cJ47_bitCount 9 = .ok (.lstore_n 0, 1) := dk_63 (dk_at dksJ47_bitCount_0 9 rfl rfl)
theorem dJ47_bitCount_10 : decode cJ47_bitCount 10 = .ok (.lload_n 0, 1) := dk_30 (dk_at dksJ47_bitCount_0 10 rfl rfl)
theorem dJ47_bitCount_11 : decode cJ47_bitCount 11 = .ok (.ldc2_w 316, 3) := dk_20 1 60 (dk_at dksJ47_bitCount_0 11 rfl rfl)
theorem dJ47_bitCount_14 : decode cJ47_bitCount 14 = .ok (.land, 1) := dk_127 (dk_at dksJ47_bitCount_0 14 rfl rfl)
theorem dJ47_bitCount_15 : decode cJ47_bitCount 15 = .ok (.lload_n 0, 1) := dk_30 (dk_at dksJ47_bitCount_0 15 rfl rfl)
theorem dJ47_bitCount_16 : decode cJ47_bitCount 16 = .ok (.iconst 2, 1) := dk_5 (dk_at dksJ47_bitCount_0 16 rfl rfl)
theorem dJ47_bitCount_17 : decode cJ47_bitCount 17 = .ok (.lushr, 1) := dk_125 (dk_at dksJ47_bitCount_0 17 rfl rfl)
theorem dJ47_bitCount_18 : decode cJ47_bitCount 18 = .ok (.ldc2_w 316, 3) := dk_20 1 60 (dk_at dksJ47_bitCount_0 18 rfl rfl)
theorem dJ47_bitCount_21 : decode cJ47_bitCount 21 = .ok (.land, 1) := dk_127 (dk_at dksJ47_bitCount_0 21 rfl rfl)
theorem dJ47_bitCount_22 : decode cJ47_bitCount 22 = .ok (.ladd, 1) := dk_97 (dk_at dksJ47_bitCount_0 22 rfl rfl)
theorem dJ47_bitCount_23 : decode cJ47_bitCount 23 = .ok (.lstore_n 0, 1) := dk_63 (dk_at dksJ47_bitCount_0 23 rfl rfl)
theorem dJ47_bitCount_24 : decode cJ47_bitCount 24 = .ok (.lload_n 0, 1) := dk_30 (dk_at dksJ47_bitCount_1 0 rfl rfl)
theorem dJ47_bitCount_25 : decode cJ47_bitCount 25 = .ok (.lload_n 0, 1) := dk_30 (dk_at dksJ47_bitCount_1 1 rfl rfl)
theorem dJ47_bitCount_26 : decode cJ47_bitCount 26 = .ok (.iconst 4, 1) := dk_7 (dk_at dksJ47_bitCount_1 2 rfl rfl)
theorem dJ47_bitCount_27 : decode cJ47_bitCount 27 = .ok (.lushr, 1) := dk_125 (dk_at dksJ47_bitCount_1 3 rfl rfl)
theorem dJ47_bitCount_28 : decode cJ47_bitCount 28 = .ok (.ladd, 1) := dk_97 (dk_at dksJ47_bitCount_1 4 rfl rfl)
theorem dJ47_bitCount_29 : decode cJ47_bitCount 29 = .ok (.ldc2_w 318, 3) := dk_20 1 62 (dk_at dksJ47_bitCount_1 5 rfl rfl)
theorem dJ47_bitCount_32 : decode cJ47_bitCount 32 = .ok (.land, 1) := dk_127 (dk_at dksJ47_bitCount_1 8 rfl rfl)
theorem dJ47_bitCount_33 : decode cJ47_bitCount 33 = .ok (.lstore_n 0, 1) := dk_63 (dk_at dksJ47_bitCount_1 9 rfl rfl)
theorem dJ47_bitCount_34 : decode cJ47_bitCount 34 = .ok (.lload_n 0, 1) := dk_30 (dk_at dksJ47_bitCount_1 10 rfl rfl)
theorem dJ47_bitCount_35 : decode cJ47_bitCount 35 = .ok (.lload_n 0, 1) := dk_30 (dk_at dksJ47_bitCount_1 11 rfl rfl)
theorem dJ47_bitCount_36 : decode cJ47_bitCount 36 = .ok (.bipush 8, 2) := dk_16 8 (dk_at dksJ47_bitCount_1 12 rfl rfl)
theorem dJ47_bitCount_38 : decode cJ47_bitCount 38 = .ok (.lushr, 1) := dk_125 (dk_at dksJ47_bitCount_1 14 rfl rfl)
theorem dJ47_bitCount_39 : decode cJ47_bitCount 39 = .ok (.ladd, 1) := dk_97 (dk_at dksJ47_bitCount_1 15 rfl rfl)
theorem dJ47_bitCount_40 : decode cJ47_bitCount 40 = .ok (.lstore_n 0, 1) := dk_63 (dk_at dksJ47_bitCount_1 16 rfl rfl)
theorem dJ47_bitCount_41 : decode cJ47_bitCount 41 = .ok (.lload_n 0, 1) := dk_30 (dk_at dksJ47_bitCount_1 17 rfl rfl)
theorem dJ47_bitCount_42 : decode cJ47_bitCount 42 = .ok (.lload_n 0, 1) := dk_30 (dk_at dksJ47_bitCount_1 18 rfl rfl)
theorem dJ47_bitCount_43 : decode cJ47_bitCount 43 = .ok (.bipush 16, 2) := dk_16 16 (dk_at dksJ47_bitCount_1 19 rfl rfl)
theorem dJ47_bitCount_45 : decode cJ47_bitCount 45 = .ok (.lushr, 1) := dk_125 (dk_at dksJ47_bitCount_1 21 rfl rfl)
theorem dJ47_bitCount_46 : decode cJ47_bitCount 46 = .ok (.ladd, 1) := dk_97 (dk_at dksJ47_bitCount_1 22 rfl rfl)
theorem dJ47_bitCount_47 : decode cJ47_bitCount 47 = .ok (.lstore_n 0, 1) := dk_63 (dk_at dksJ47_bitCount_1 23 rfl rfl)
theorem dJ47_bitCount_48 : decode cJ47_bitCount 48 = .ok (.lload_n 0, 1) := dk_30 (dk_at dksJ47_bitCount_2 0 rfl rfl)
theorem dJ47_bitCount_49 : decode cJ47_bitCount 49 = .ok (.lload_n 0, 1) := dk_30 (dk_at dksJ47_bitCount_2 1 rfl rfl)
theorem dJ47_bitCount_50 : decode cJ47_bitCount 50 = .ok (.bipush 32, 2) := dk_16 32 (dk_at dksJ47_bitCount_2 2 rfl rfl)
theorem dJ47_bitCount_52 : decode cJ47_bitCount 52 = .ok (.lushr, 1) := dk_125 (dk_at dksJ47_bitCount_2 4 rfl rfl)
theorem dJ47_bitCount_53 : decode cJ47_bitCount 53 = .ok (.ladd, 1) := dk_97 (dk_at dksJ47_bitCount_2 5 rfl rfl)
theorem dJ47_bitCount_54 : decode cJ47_bitCount 54 = .ok (.lstore_n 0, 1) := dk_63 (dk_at dksJ47_bitCount_2 6 rfl rfl)
theorem dJ47_bitCount_55 : decode cJ47_bitCount 55 = .ok (.lload_n 0, 1) := dk_30 (dk_at dksJ47_bitCount_2 7 rfl rfl)
theorem dJ47_bitCount_56 : decode cJ47_bitCount 56 = .ok (.l2i, 1) := dk_136 (dk_at dksJ47_bitCount_2 8 rfl rfl)
theorem dJ47_bitCount_57 : decode cJ47_bitCount 57 = .ok (.bipush 127, 2) := dk_16 127 (dk_at dksJ47_bitCount_2 9 rfl rfl)
theorem dJ47_bitCount_59 : decode cJ47_bitCount 59 = .ok (.iand, 1) := dk_126 (dk_at dksJ47_bitCount_2 11 rfl rfl)
theorem dJ47_bitCount_60 : decode cJ47_bitCount 60 = .ok (.ireturn, 1) := dk_172 (dk_at dksJ47_bitCount_2 12 rfl rfl)
abbrev cJ47_numberOfTrailingZeros : ByteArray := prog_30_method_49_code
def yJ47_numberOfTrailingZeros : MethodName := ⟨RJ47, "numberOfTrailingZeros", "(J)I"⟩
def dkwJ47_numberOfTrailingZeros_1 : List UInt8 := [184, 1, 55, 172]
abbrev dktJ47_numberOfTrailingZeros_1 : List UInt8 := dkwJ47_numberOfTrailingZeros_1 ++ []
def dkwJ47_numberOfTrailingZeros_0 : List UInt8 := [30, 136, 61, 28, 154, 0, 17, 16, 32, 30, 16, 32, 125, 136, 184, 1, 55, 96, 167, 0, 7, 28]
abbrev dktJ47_numberOfTrailingZeros_0 : List UInt8 := dkwJ47_numberOfTrailingZeros_0 ++ dktJ47_numberOfTrailingZeros_1
theorem dksJ47_numberOfTrailingZeros_0 : cJ47_numberOfTrailingZeros.data.toList.drop 0 = dktJ47_numberOfTrailingZeros_0 := by decide +kernel
theorem dksJ47_numberOfTrailingZeros_1 : cJ47_numberOfTrailingZeros.data.toList.drop 22 = dktJ47_numberOfTrailingZeros_1 := dk_seg dksJ47_numberOfTrailingZeros_0 22 rfl rfl
theorem dJ47_numberOfTrailingZeros_0 : decode cJ47_numberOfTrailingZeros 0 = .ok (.lload_n 0, 1) := dk_30 (dk_at dksJ47_numberOfTrailingZeros_0 0 rfl rfl)
theorem dJ47_numberOfTrailingZeros_1 : decode cJ47_numberOfTrailingZeros 1 = .ok (.l2i, 1) := dk_136 (dk_at dksJ47_numberOfTrailingZeros_0 1 rfl rfl)
theorem dJ47_numberOfTrailingZeros_2 : decode cJ47_numberOfTrailingZeros 2 = .ok (.istore_n 2, 1) := dk_61 (dk_at dksJ47_numberOfTrailingZeros_0 2 rfl rfl)
theorem dJ47_numberOfTrailingZeros_3 : decode cJ47_numberOfTrailingZeros 3 = .ok (.iload_n 2, 1) := dk_28 (dk_at dksJ47_numberOfTrailingZeros_0 3 rfl rfl)
theorem dJ47_numberOfTrailingZeros_4 : decode cJ47_numberOfTrailingZeros 4 = .ok (.ifCond .ne 17, 3) := dk_154 0 17 (dk_at dksJ47_numberOfTrailingZeros_0 4 rfl rfl)
theorem dJ47_numberOfTrailingZeros_7 : decode cJ47_numberOfTrailingZeros 7 = .ok (.bipush 32, 2) := dk_16 32 (dk_at dksJ47_numberOfTrailingZeros_0 7 rfl rfl)
theorem dJ47_numberOfTrailingZeros_9 : decode cJ47_numberOfTrailingZeros 9 = .ok (.lload_n 0, 1) := dk_30 (dk_at dksJ47_numberOfTrailingZeros_0 9 rfl rfl)
theorem dJ47_numberOfTrailingZeros_10 : decode cJ47_numberOfTrailingZeros 10 = .ok (.bipush 32, 2) := dk_16 32 (dk_at dksJ47_numberOfTrailingZeros_0 10 rfl rfl)
theorem dJ47_numberOfTrailingZeros_12 : decode cJ47_numberOfTrailingZeros 12 = .ok (.lushr, 1) := dk_125 (dk_at dksJ47_numberOfTrailingZeros_0 12 rfl rfl)
theorem dJ47_numberOfTrailingZeros_13 : decode cJ47_numberOfTrailingZeros 13 = .ok (.l2i, 1) := dk_136 (dk_at dksJ47_numberOfTrailingZeros_0 13 rfl rfl)
theorem dJ47_numberOfTrailingZeros_14 : decode cJ47_numberOfTrailingZeros 14 = .ok (.invokestatic 311, 3) := dk_184 1 55 (dk_at dksJ47_numberOfTrailingZeros_0 14 rfl rfl)
theorem dJ47_numberOfTrailingZeros_17 : decode cJ47_numberOfTrailingZeros 17 = .ok (.iadd, 1) := dk_96 (dk_at dksJ47_numberOfTrailingZeros_0 17 rfl rfl)
theorem dJ47_numberOfTrailingZeros_18 : decode cJ47_numberOfTrailingZeros 18 = .ok (.goto 7, 3) := dk_167 0 7 (dk_at dksJ47_numberOfTrailingZeros_0 18 rfl rfl)
theorem dJ47_numberOfTrailingZeros_21 : decode cJ47_numberOfTrailingZeros 21 = .ok (.iload_n 2, 1) := dk_28 (dk_at dksJ47_numberOfTrailingZeros_0 21 rfl rfl)
theorem dJ47_numberOfTrailingZeros_22 : decode cJ47_numberOfTrailingZeros 22 = .ok (.invokestatic 311, 3) := dk_184 1 55 (dk_at dksJ47_numberOfTrailingZeros_1 0 rfl rfl)
theorem dJ47_numberOfTrailingZeros_25 : decode cJ47_numberOfTrailingZeros 25 = .ok (.ireturn, 1) := dk_172 (dk_at dksJ47_numberOfTrailingZeros_1 3 rfl rfl)
theorem q163 : (Jvm.Cond.initialized "java/lang/Long") ∈ lw_all := lw_g (lw_at lw_m1 62 rfl) rfl
theorem q404 : (Jvm.Cond.selects "java/lang/Long" ({ cls := "java/lang/Object", name := "getClass", desc := "()Ljava/lang/Class;" } : Jvm.MethodName) ({ cls := "java/lang/Object", name := "getClass", desc := "()Ljava/lang/Class;" } : Jvm.MethodName)) ∈ lw_all := lw_g (lw_at lw_m2 63 rfl) rfl
theorem q2601 : (Jvm.Cond.static ({ cls := "java/lang/Long", name := "valueOf", desc := "(J)Ljava/lang/Long;" } : Jvm.MethodName)) ∈ lw_all := lw_g (lw_at lw_m11 100 rfl) rfl
theorem q2602 : (Jvm.Cond.code ({ cls := "java/lang/Long", name := "valueOf", desc := "(J)Ljava/lang/Long;" } : Jvm.MethodName) prog_30_method_24_code (3 : Nat) (Option.some (Jvm.ClassFile.FieldType.object "java/lang/Long"))) ∈ lw_all := lw_g (lw_at lw_m11 101 rfl) rfl
theorem q2603 : (Jvm.Cond.constantLong "java/lang/Long" (230 : Nat) (-128 : Int64)) ∈ lw_all := lw_g (lw_at lw_m11 102 rfl) rfl
theorem q2604 : (Jvm.Cond.constantLong "java/lang/Long" (232 : Nat) (127 : Int64)) ∈ lw_all := lw_g (lw_at lw_m11 103 rfl) rfl
theorem q2605 : (Jvm.Cond.fieldLink "java/lang/Long" (234 : Nat) "java/lang/Long$LongCache" "cache" "[Ljava/lang/Long;") ∈ lw_all := lw_g (lw_at lw_m11 104 rfl) rfl
theorem q2607 : (Jvm.Cond.classLink "java/lang/Long" (1 : Nat) "java/lang/Long") ∈ lw_all := lw_g (lw_at lw_m11 106 rfl) rfl
theorem q2608 : (Jvm.Cond.instantiable "java/lang/Long" (1 : Nat)) ∈ lw_all := lw_g (lw_at lw_m11 107 rfl) rfl
theorem q2609 : (Jvm.Cond.methodLink "java/lang/Long" (240 : Nat) ({ cls := "java/lang/Long", name := "<init>", desc := "(J)V" } : Jvm.MethodName)) ∈ lw_all := lw_g (lw_at lw_m11 108 rfl) rfl
theorem q2610 : (Jvm.Cond.instanceMethod ({ cls := "java/lang/Long", name := "<init>", desc := "(J)V" } : Jvm.MethodName)) ∈ lw_all := lw_g (lw_at lw_m11 109 rfl) rfl
theorem q2611 : (Jvm.Cond.code ({ cls := "java/lang/Long", name := "<init>", desc := "(J)V" } : Jvm.MethodName) prog_30_method_26_code (3 : Nat) (Option.none : Option Jvm.ClassFile.FieldType)) ∈ lw_all := lw_g (lw_at lw_m11 110 rfl) rfl
theorem q2612 : (Jvm.Cond.methodLink "java/lang/Long" (270 : Nat) ({ cls := "java/lang/Number", name := "<init>", desc := "()V" } : Jvm.MethodName)) ∈ lw_all := lw_g (lw_at lw_m11 111 rfl) rfl
theorem q2613 : (Jvm.Cond.fieldLink "java/lang/Long" (273 : Nat) "java/lang/Long" "value" "J") ∈ lw_all := lw_g (lw_at lw_m11 112 rfl) rfl
theorem q2614 : (Jvm.Cond.laysFinal "java/lang/Long" "java/lang/Long" "value" "J") ∈ lw_all := lw_g (lw_at lw_m11 113 rfl) rfl
theorem q2615 : (Jvm.Cond.soleField "java/lang/Long" "value") ∈ lw_all := lw_g (lw_at lw_m11 114 rfl) rfl
theorem q2616 : (Jvm.Cond.superclass "java/lang/Long" "java/lang/Number") ∈ lw_all := lw_g (lw_at lw_m11 115 rfl) rfl
theorem q3163 : (Jvm.Cond.instanceMethod ({ cls := "java/lang/Long", name := "longValue", desc := "()J" } : Jvm.MethodName)) ∈ lw_all := lw_g (lw_at lw_m13 182 rfl) rfl
theorem q3164 : (Jvm.Cond.selects "java/lang/Long" ({ cls := "java/lang/Long", name := "longValue", desc := "()J" } : Jvm.MethodName) ({ cls := "java/lang/Long", name := "longValue", desc := "()J" } : Jvm.MethodName)) ∈ lw_all := lw_g (lw_at lw_m13 183 rfl) rfl
theorem q3165 : (Jvm.Cond.code ({ cls := "java/lang/Long", name := "longValue", desc := "()J" } : Jvm.MethodName) prog_30_method_31_code (1 : Nat) (Option.some Jvm.ClassFile.FieldType.long)) ∈ lw_all := lw_g (lw_at lw_m13 184 rfl) rfl
theorem q3386 : (Jvm.Cond.static ({ cls := "java/lang/Long", name := "bitCount", desc := "(J)I" } : Jvm.MethodName)) ∈ lw_all := lw_g (lw_at lw_m14 165 rfl) rfl
theorem q3387 : (Jvm.Cond.code ({ cls := "java/lang/Long", name := "bitCount", desc := "(J)I" } : Jvm.MethodName) prog_30_method_50_code (2 : Nat) (Option.some Jvm.ClassFile.FieldType.int)) ∈ lw_all := lw_g (lw_at lw_m14 166 rfl) rfl
theorem q3388 : (Jvm.Cond.constantLong "java/lang/Long" (314 : Nat) (6148914691236517205 : Int64)) ∈ lw_all := lw_g (lw_at lw_m14 167 rfl) rfl
theorem q3389 : (Jvm.Cond.constantLong "java/lang/Long" (316 : Nat) (3689348814741910323 : Int64)) ∈ lw_all := lw_g (lw_at lw_m14 168 rfl) rfl
theorem q3390 : (Jvm.Cond.constantLong "java/lang/Long" (318 : Nat) (1085102592571150095 : Int64)) ∈ lw_all := lw_g (lw_at lw_m14 169 rfl) rfl
theorem q3405 : (Jvm.Cond.static ({ cls := "java/lang/Long", name := "numberOfTrailingZeros", desc := "(J)I" } : Jvm.MethodName)) ∈ lw_all := lw_g (lw_at lw_m14 184 rfl) rfl
theorem q3406 : (Jvm.Cond.code ({ cls := "java/lang/Long", name := "numberOfTrailingZeros", desc := "(J)I" } : Jvm.MethodName) prog_30_method_49_code (3 : Nat) (Option.some Jvm.ClassFile.FieldType.int)) ∈ lw_all := lw_g (lw_at lw_m14 185 rfl) rfl
theorem q3407 : (Jvm.Cond.methodLink "java/lang/Long" (311 : Nat) ({ cls := "java/lang/Integer", name := "numberOfTrailingZeros", desc := "(I)I" } : Jvm.MethodName)) ∈ lw_all := lw_g (lw_at lw_m14 186 rfl) rfl
theorem q3979 : (Jvm.Cond.castable "java/lang/Long" "java/lang/Object") ∈ lw_tbl := lw_at lw_m17 38 rfl


/-! java/util/ArrayList$SubList -/
set_option maxRecDepth 100000
abbrev cJ48_size : ByteArray := prog_57_method_5_code
def yJ48_size : MethodName := ⟨RJ48, "size", "()I"⟩
def dkwJ48_size_0 : List UInt8 := [42, 182, 0, 36, 42, 180, 0, 21, 172]
abbrev dktJ48_size_0 : List UInt8 := dkwJ48_size_0 ++ []
theorem dksJ48_size_0 : cJ48_size.data.toList.drop 0 = dktJ48_size_0 := by decide +kernel
theorem dJ48_size_0 : decode cJ48_size 0 = .ok (.aload_n 0, 1) := dk_42 (dk_at dksJ48_size_0 0 rfl rfl)
theorem dJ48_size_1 : decode cJ48_size 1 = .ok (.invokevirtual 36, 3) := dk_182 0 36 (dk_at dksJ48_size_0 1 rfl rfl)
theorem dJ48_size_4 : decode cJ48_size 4 = .ok (.aload_n 0, 1) := dk_42 (dk_at dksJ48_size_0 4 rfl rfl)
theorem dJ48_size_5 : decode cJ48_size 5 = .ok (.getfield 21, 3) := dk_180 0 21 (dk_at dksJ48_size_0 5 rfl rfl)
theorem dJ48_size_8 : decode cJ48_size 8 = .ok (.ireturn, 1) := dk_172 (dk_at dksJ48_size_0 8 rfl rfl)
abbrev cJ48_checkForComodification : ByteArray := prog_57_method_28_code
def yJ48_checkForComodification : MethodName := ⟨RJ48, "checkForComodification", "()V"⟩
def dkwJ48_checkForComodification_0 : List UInt8 := [42, 180, 0, 7, 180, 0, 24, 42, 180, 0, 29, 159, 0, 11, 187, 0, 174, 89, 183, 0, 176, 191, 177]
abbrev dktJ48_checkForComodification_0 : List UInt8 := dkwJ48_checkForComodification_0 ++ []
theorem dksJ48_checkForComodification_0 : cJ48_checkForComodification.data.toList.drop 0 = dktJ48_checkForComodification_0 := by decide +kernel
theorem dJ48_checkForComodification_0 : decode cJ48_checkForComodification 0 = .ok (.aload_n 0, 1) := dk_42 (dk_at dksJ48_checkForComodification_0 0 rfl rfl)
theorem dJ48_checkForComodification_1 : decode cJ48_checkForComodification 1 = .ok (.getfield 7, 3) := dk_180 0 7 (dk_at dksJ48_checkForComodification_0 1 rfl rfl)
theorem dJ48_checkForComodification_4 : decode cJ48_checkForComodification 4 = .ok (.getfield 24, 3) := dk_180 0 24 (dk_at dksJ48_checkForComodification_0 4 rfl rfl)
theorem dJ48_checkForComodification_7 : decode cJ48_checkForComodification 7 = .ok (.aload_n 0, 1) := dk_42 (dk_at dksJ48_checkForComodification_0 7 rfl rfl)
theorem dJ48_checkForComodification_8 : decode cJ48_checkForComodification 8 = .ok (.getfield 29, 3) := dk_180 0 29 (dk_at dksJ48_checkForComodification_0 8 rfl rfl)
theorem dJ48_checkForComodification_11 : decode cJ48_checkForComodification 11 = .ok (.if_icmp .eq 11, 3) := dk_159 0 11 (dk_at dksJ48_checkForComodification_0 11 rfl rfl)
theorem dJ48_checkForComodification_14 : decode cJ48_checkForComodification 14 = .ok (.new 174, 3) := dk_187 0 174 (dk_at dksJ48_checkForComodification_0 14 rfl rfl)
theorem dJ48_checkForComodification_17 : decode cJ48_checkForComodification 17 = .ok (.dup, 1) := dk_89 (dk_at dksJ48_checkForComodification_0 17 rfl rfl)
theorem dJ48_checkForComodification_18 : decode cJ48_checkForComodification 18 = .ok (.invokespecial 176, 3) := dk_183 0 176 (dk_at dksJ48_checkForComodification_0 18 rfl rfl)
theorem dJ48_checkForComodification_21 : decode cJ48_checkForComodification 21 = .ok (.athrow, 1) := dk_191 (dk_at dksJ48_checkForComodification_0 21 rfl rfl)
theorem dJ48_checkForComodification_22 : decode cJ48_checkForComodification 22 = .ok (.return_, 1) := dk_177 (dk_at dksJ48_checkForComodification_0 22 rfl rfl)
abbrev cJ48_get : ByteArray := prog_57_method_4_code
def yJ48_get : MethodName := ⟨RJ48, "get", "(I)Ljava/lang/Object;"⟩
def dkwJ48_get_1 : List UInt8 := [182, 0, 39, 176]
abbrev dktJ48_get_1 : List UInt8 := dkwJ48_get_1 ++ []
def dkwJ48_get_0 : List UInt8 := [27, 42, 180, 0, 21, 184, 0, 30, 87, 42, 182, 0, 36, 42, 180, 0, 7, 42, 180, 0, 17, 27, 96]
abbrev dktJ48_get_0 : List UInt8 := dkwJ48_get_0 ++ dktJ48_get_1
theorem dksJ48_get_0 : cJ48_get.data.toList.drop 0 = dktJ48_get_0 := by decide +kernel
theorem dksJ48_get_1 : cJ48_get.data.toList.drop 23 = dktJ48_get_1 := dk_seg dksJ48_get_0 23 rfl rfl
theorem dJ48_get_0 : decode cJ48_get 0 = .ok (.iload_n 1, 1) := dk_27 (dk_at dksJ48_get_0 0 rfl rfl)
theorem dJ48_get_1 : decode cJ48_get 1 = .ok (.aload_n 0, 1) := dk_42 (dk_at dksJ48_get_0 1 rfl rfl)
theorem dJ48_get_2 : decode cJ48_get 2 = .ok (.getfield 21, 3) := dk_180 0 21 (dk_at dksJ48_get_0 2 rfl rfl)
theorem dJ48_get_5 : decode cJ48_get 5 = .ok (.invokestatic 30, 3) := dk_184 0 30 (dk_at dksJ48_get_0 5 rfl rfl)
theorem dJ48_get_8 : decode cJ48_get 8 = .ok (.pop, 1) := dk_87 (dk_at dksJ48_get_0 8 rfl rfl)
theorem dJ48_get_9 : decode cJ48_get 9 = .ok (.aload_n 0, 1) := dk_42 (dk_at dksJ48_get_0 9 rfl rfl)
theorem dJ48_get_10 : decode cJ48_get 10 = .ok (.invokevirtual 36, 3) := dk_182 0 36 (dk_at dksJ48_get_0 10 rfl rfl)
theorem dJ48_get_13 : decode cJ48_get 13 = .ok (.aload_n 0, 1) := dk_42 (dk_at dksJ48_get_0 13 rfl rfl)
theorem dJ48_get_14 : decode cJ48_get 14 = .ok (.getfield 7, 3) := dk_180 0 7 (dk_at dksJ48_get_0 14 rfl rfl)
theorem dJ48_get_17 : decode cJ48_get 17 = .ok (.aload_n 0, 1) := dk_42 (dk_at dksJ48_get_0 17 rfl rfl)
theorem dJ48_get_18 : decode cJ48_get 18 = .ok (.getfield 17, 3) := dk_180 0 17 (dk_at dksJ48_get_0 18 rfl rfl)
theorem dJ48_get_21 : decode cJ48_get 21 = .ok (.iload_n 1, 1) := dk_27 (dk_at dksJ48_get_0 21 rfl rfl)
theorem dJ48_get_22 : decode cJ48_get 22 = .ok (.iadd, 1) := dk_96 (dk_at dksJ48_get_0 22 rfl rfl)
theorem dJ48_get_23 : decode cJ48_get 23 = .ok (.invokevirtual 39, 3) := dk_182 0 39 (dk_at dksJ48_get_1 0 rfl rfl)
theorem dJ48_get_26 : decode cJ48_get 26 = .ok (.areturn, 1) := dk_176 (dk_at dksJ48_get_1 3 rfl rfl)
abbrev cJ48_init : ByteArray := prog_57_method_1_code
def yJ48_init : MethodName := ⟨RJ48, "<init>", "(Ljava/util/ArrayList;II)V"⟩
def dkwJ48_init_1 : List UInt8 := [181, 0, 21, 42, 43, 180, 0, 24, 181, 0, 29, 177]
abbrev dktJ48_init_1 : List UInt8 := dkwJ48_init_1 ++ []
def dkwJ48_init_0 : List UInt8 := [42, 183, 0, 1, 42, 43, 181, 0, 7, 42, 1, 181, 0, 13, 42, 28, 181, 0, 17, 42, 29, 28, 100]
abbrev dktJ48_init_0 : List UInt8 := dkwJ48_init_0 ++ dktJ48_init_1
theorem dksJ48_init_0 : cJ48_init.data.toList.drop 0 = dktJ48_init_0 := by decide +kernel
theorem dksJ48_init_1 : cJ48_init.data.toList.drop 23 = dktJ48_init_1 := dk_seg dksJ48_init_0 23 rfl rfl
theorem dJ48_init_0 : decode cJ48_init 0 = .ok (.aload_n 0, 1) := dk_42 (dk_at dksJ48_init_0 0 rfl rfl)
theorem dJ48_init_1 : decode cJ48_init 1 = .ok (.invokespecial 1, 3) := dk_183 0 1 (dk_at dksJ48_init_0 1 rfl rfl)
theorem dJ48_init_4 : decode cJ48_init 4 = .ok (.aload_n 0, 1) := dk_42 (dk_at dksJ48_init_0 4 rfl rfl)
theorem dJ48_init_5 : decode cJ48_init 5 = .ok (.aload_n 1, 1) := dk_43 (dk_at dksJ48_init_0 5 rfl rfl)
theorem dJ48_init_6 : decode cJ48_init 6 = .ok (.putfield 7, 3) := dk_181 0 7 (dk_at dksJ48_init_0 6 rfl rfl)
theorem dJ48_init_9 : decode cJ48_init 9 = .ok (.aload_n 0, 1) := dk_42 (dk_at dksJ48_init_0 9 rfl rfl)
theorem dJ48_init_10 : decode cJ48_init 10 = .ok (.aconst_null, 1) := dk_1 (dk_at dksJ48_init_0 10 rfl rfl)
theorem dJ48_init_11 : decode cJ48_init 11 = .ok (.putfield 13, 3) := dk_181 0 13 (dk_at dksJ48_init_0 11 rfl rfl)
theorem dJ48_init_14 : decode cJ48_init 14 = .ok (.aload_n 0, 1) := dk_42 (dk_at dksJ48_init_0 14 rfl rfl)
theorem dJ48_init_15 : decode cJ48_init 15 = .ok (.iload_n 2, 1) := dk_28 (dk_at dksJ48_init_0 15 rfl rfl)
theorem dJ48_init_16 : decode cJ48_init 16 = .ok (.putfield 17, 3) := dk_181 0 17 (dk_at dksJ48_init_0 16 rfl rfl)
theorem dJ48_init_19 : decode cJ48_init 19 = .ok (.aload_n 0, 1) := dk_42 (dk_at dksJ48_init_0 19 rfl rfl)
theorem dJ48_init_20 : decode cJ48_init 20 = .ok (.iload_n 3, 1) := dk_29 (dk_at dksJ48_init_0 20 rfl rfl)
theorem dJ48_init_21 : decode cJ48_init 21 = .ok (.iload_n 2, 1) := dk_28 (dk_at dksJ48_init_0 21 rfl rfl)
theorem dJ48_init_22 : decode cJ48_init 22 = .ok (.isub, 1) := dk_100 (dk_at dksJ48_init_0 22 rfl rfl)
theorem dJ48_init_23 : decode cJ48_init 23 = .ok (.putfield 21, 3) := dk_181 0 21 (dk_at dksJ48_init_1 0 rfl rfl)
theorem dJ48_init_26 : decode cJ48_init 26 = .ok (.aload_n 0, 1) := dk_42 (dk_at dksJ48_init_1 3 rfl rfl)
theorem dJ48_init_27 : decode cJ48_init 27 = .ok (.aload_n 1, 1) := dk_43 (dk_at dksJ48_init_1 4 rfl rfl)
theorem dJ48_init_28 : decode cJ48_init 28 = .ok (.getfield 24, 3) := dk_180 0 24 (dk_at dksJ48_init_1 5 rfl rfl)
theorem dJ48_init_31 : decode cJ48_init 31 = .ok (.putfield 29, 3) := dk_181 0 29 (dk_at dksJ48_init_1 8 rfl rfl)
theorem dJ48_init_34 : decode cJ48_init 34 = .ok (.return_, 1) := dk_177 (dk_at dksJ48_init_1 11 rfl rfl)
abbrev cJ48_set : ByteArray := prog_57_method_3_code
def yJ48_set : MethodName := ⟨RJ48, "set", "(ILjava/lang/Object;)Ljava/lang/Object;"⟩
def dkwJ48_set_1 : List UInt8 := [182, 0, 39, 78, 42, 180, 0, 7, 180, 0, 43, 42, 180, 0, 17, 27, 96, 44, 83, 45, 176]
abbrev dktJ48_set_1 : List UInt8 := dkwJ48_set_1 ++ []
def dkwJ48_set_0 : List UInt8 := [27, 42, 180, 0, 21, 184, 0, 30, 87, 42, 182, 0, 36, 42, 180, 0, 7, 42, 180, 0, 17, 27, 96]
abbrev dktJ48_set_0 : List UInt8 := dkwJ48_set_0 ++ dktJ48_set_1
theorem dksJ48_set_0 : cJ48_set.data.toList.drop 0 = dktJ48_set_0 := by decide +kernel
theorem dksJ48_set_1 : cJ48_set.data.toList.drop 23 = dktJ48_set_1 := dk_seg dksJ48_set_0 23 rfl rfl
theorem dJ48_set_0 : decode cJ48_set 0 = .ok (.iload_n 1, 1) := dk_27 (dk_at dksJ48_set_0 0 rfl rfl)
theorem dJ48_set_1 : decode cJ48_set 1 = .ok (.aload_n 0, 1) := dk_42 (dk_at dksJ48_set_0 1 rfl rfl)
theorem dJ48_set_2 : decode cJ48_set 2 = .ok (.getfield 21, 3) := dk_180 0 21 (dk_at dksJ48_set_0 2 rfl rfl)
theorem dJ48_set_5 : decode cJ48_set 5 = .ok (.invokestatic 30, 3) := dk_184 0 30 (dk_at dksJ48_set_0 5 rfl rfl)
theorem dJ48_set_8 : decode cJ48_set 8 = .ok (.pop, 1) := dk_87 (dk_at dksJ48_set_0 8 rfl rfl)
theorem dJ48_set_9 : decode cJ48_set 9 = .ok (.aload_n 0, 1) := dk_42 (dk_at dksJ48_set_0 9 rfl rfl)
theorem dJ48_set_10 : decode cJ48_set 10 = .ok (.invokevirtual 36, 3) := dk_182 0 36 (dk_at dksJ48_set_0 10 rfl rfl)
theorem dJ48_set_13 : decode cJ48_set 13 = .ok (.aload_n 0, 1) := dk_42 (dk_at dksJ48_set_0 13 rfl rfl)
theorem dJ48_set_14 : decode cJ48_set 14 = .ok (.getfield 7, 3) := dk_180 0 7 (dk_at dksJ48_set_0 14 rfl rfl)
theorem dJ48_set_17 : decode cJ48_set 17 = .ok (.aload_n 0, 1) := dk_42 (dk_at dksJ48_set_0 17 rfl rfl)
theorem dJ48_set_18 : decode cJ48_set 18 = .ok (.getfield 17, 3) := dk_180 0 17 (dk_at dksJ48_set_0 18 rfl rfl)
theorem dJ48_set_21 : decode cJ48_set 21 = .ok (.iload_n 1, 1) := dk_27 (dk_at dksJ48_set_0 21 rfl rfl)
theorem dJ48_set_22 : decode cJ48_set 22 = .ok (.iadd, 1) := dk_96 (dk_at dksJ48_set_0 22 rfl rfl)
theorem dJ48_set_23 : decode cJ48_set 23 = .ok (.invokevirtual 39, 3) := dk_182 0 39 (dk_at dksJ48_set_1 0 rfl rfl)
theorem dJ48_set_26 : decode cJ48_set 26 = .ok (.astore_n 3, 1) := dk_78 (dk_at dksJ48_set_1 3 rfl rfl)
theorem dJ48_set_27 : decode cJ48_set 27 = .ok (.aload_n 0, 1) := dk_42 (dk_at dksJ48_set_1 4 rfl rfl)
theorem dJ48_set_28 : decode cJ48_set 28 = .ok (.getfield 7, 3) := dk_180 0 7 (dk_at dksJ48_set_1 5 rfl rfl)
theorem dJ48_set_31 : decode cJ48_set 31 = .ok (.getfield 43, 3) := dk_180 0 43 (dk_at dksJ48_set_1 8 rfl rfl)
theorem dJ48_set_34 : decode cJ48_set 34 = .ok (.aload_n 0, 1) := dk_42 (dk_at dksJ48_set_1 11 rfl rfl)
theorem dJ48_set_35 : decode cJ48_set 35 = .ok (.getfield 17, 3) := dk_180 0 17 (dk_at dksJ48_set_1 12 rfl rfl)
theorem dJ48_set_38 : decode cJ48_set 38 = .ok (.iload_n 1, 1) := dk_27 (dk_at dksJ48_set_1 15 rfl rfl)
theorem dJ48_set_39 : decode cJ48_set 39 = .ok (.iadd, 1) := dk_96 (dk_at dksJ48_set_1 16 rfl rfl)
theorem dJ48_set_40 : decode cJ48_set 40 = .ok (.aload_n 2, 1) := dk_44 (dk_at dksJ48_set_1 17 rfl rfl)
theorem dJ48_set_41 : decode cJ48_set 41 = .ok (.aastore, 1) := dk_83 (dk_at dksJ48_set_1 18 rfl rfl)
theorem dJ48_set_42 : decode cJ48_set 42 = .ok (.aload_n 3, 1) := dk_45 (dk_at dksJ48_set_1 19 rfl rfl)
theorem dJ48_set_43 : decode cJ48_set 43 = .ok (.areturn, 1) := dk_176 (dk_at dksJ48_set_1 20 rfl rfl)
theorem q165 : (Jvm.Cond.initialized "java/util/ArrayList$SubList") ∈ lw_all := lw_g (lw_at lw_m1 64 rfl) rfl
theorem q252 : (Jvm.Cond.fieldLink "java/util/ArrayList$SubList" (43 : Nat) "java/util/ArrayList" "elementData" "[Ljava/lang/Object;") ∈ lw_all := lw_g (lw_at lw_m1 151 rfl) rfl
theorem q264 : (Jvm.Cond.fieldLink "java/util/ArrayList$SubList" (24 : Nat) "java/util/ArrayList" "modCount" "I") ∈ lw_all := lw_g (lw_at lw_m1 163 rfl) rfl
theorem q266 : (Jvm.Cond.fieldLink "java/util/ArrayList$SubList" (29 : Nat) "java/util/ArrayList$SubList" "modCount" "I") ∈ lw_all := lw_g (lw_at lw_m1 165 rfl) rfl
theorem q267 : (Jvm.Cond.sameField "java/util/ArrayList$SubList" "java/util/AbstractList" "modCount" "I") ∈ lw_all := lw_g (lw_at lw_m1 166 rfl) rfl
theorem q417 : (Jvm.Cond.selects "java/util/ArrayList$SubList" ({ cls := "java/lang/Object", name := "getClass", desc := "()Ljava/lang/Class;" } : Jvm.MethodName) ({ cls := "java/lang/Object", name := "getClass", desc := "()Ljava/lang/Class;" } : Jvm.MethodName)) ∈ lw_all := lw_g (lw_at lw_m2 76 rfl) rfl
theorem q641 : (Jvm.Cond.selects "java/util/ArrayList$SubList" ({ cls := "java/util/AbstractCollection", name := "size", desc := "()I" } : Jvm.MethodName) ({ cls := "java/util/ArrayList$SubList", name := "size", desc := "()I" } : Jvm.MethodName)) ∈ lw_all := lw_g (lw_at lw_m3 60 rfl) rfl
theorem q642 : (Jvm.Cond.instanceMethod ({ cls := "java/util/ArrayList$SubList", name := "size", desc := "()I" } : Jvm.MethodName)) ∈ lw_all := lw_g (lw_at lw_m3 61 rfl) rfl
theorem q643 : (Jvm.Cond.code ({ cls := "java/util/ArrayList$SubList", name := "size", desc := "()I" } : Jvm.MethodName) prog_57_method_5_code (1 : Nat) (Option.some Jvm.ClassFile.FieldType.int)) ∈ lw_all := lw_g (lw_at lw_m3 62 rfl) rfl
theorem q644 : (Jvm.Cond.methodLink "java/util/ArrayList$SubList" (36 : Nat) ({ cls := "java/util/ArrayList$SubList", name := "checkForComodification", desc := "()V" } : Jvm.MethodName)) ∈ lw_all := lw_g (lw_at lw_m3 63 rfl) rfl
theorem q645 : (Jvm.Cond.privateMethod ({ cls := "java/util/ArrayList$SubList", name := "checkForComodification", desc := "()V" } : Jvm.MethodName)) ∈ lw_tbl := lw_at lw_m3 64 rfl
theorem q646 : (Jvm.Cond.instanceMethod ({ cls := "java/util/ArrayList$SubList", name := "checkForComodification", desc := "()V" } : Jvm.MethodName)) ∈ lw_all := lw_g (lw_at lw_m3 65 rfl) rfl
theorem q647 : (Jvm.Cond.instantiable "java/util/ArrayList$SubList" (5 : Nat)) ∈ lw_all := lw_g (lw_at lw_m3 66 rfl) rfl
theorem q648 : (Jvm.Cond.code ({ cls := "java/util/ArrayList$SubList", name := "checkForComodification", desc := "()V" } : Jvm.MethodName) prog_57_method_28_code (1 : Nat) (Option.none : Option Jvm.ClassFile.FieldType)) ∈ lw_all := lw_g (lw_at lw_m3 67 rfl) rfl
theorem q1056 : (Jvm.Cond.instanceMethod ({ cls := "java/util/ArrayList$SubList", name := "listIterator", desc := "(I)Ljava/util/ListIterator;" } : Jvm.MethodName)) ∈ lw_all := lw_g (lw_at lw_m4 235 rfl) rfl
theorem q1057 : (Jvm.Cond.code ({ cls := "java/util/ArrayList$SubList", name := "listIterator", desc := "(I)Ljava/util/ListIterator;" } : Jvm.MethodName) prog_57_method_24_code (2 : Nat) (Option.some (Jvm.ClassFile.FieldType.object "java/util/ListIterator"))) ∈ lw_all := lw_g (lw_at lw_m4 236 rfl) rfl
theorem q1058 : (Jvm.Cond.methodLink "java/util/ArrayList$SubList" (46 : Nat) ({ cls := "java/util/ArrayList$SubList", name := "rangeCheckForAdd", desc := "(I)V" } : Jvm.MethodName)) ∈ lw_all := lw_g (lw_at lw_m4 237 rfl) rfl
theorem q1059 : (Jvm.Cond.privateMethod ({ cls := "java/util/ArrayList$SubList", name := "rangeCheckForAdd", desc := "(I)V" } : Jvm.MethodName)) ∈ lw_tbl := lw_at lw_m4 238 rfl
theorem q1060 : (Jvm.Cond.instanceMethod ({ cls := "java/util/ArrayList$SubList", name := "rangeCheckForAdd", desc := "(I)V" } : Jvm.MethodName)) ∈ lw_all := lw_g (lw_at lw_m4 239 rfl) rfl
theorem q1061 : (Jvm.Cond.code ({ cls := "java/util/ArrayList$SubList", name := "rangeCheckForAdd", desc := "(I)V" } : Jvm.MethodName) prog_57_method_26_code (2 : Nat) (Option.none : Option Jvm.ClassFile.FieldType)) ∈ lw_all := lw_g (lw_at lw_m5 0 rfl) rfl
theorem q1062 : (Jvm.Cond.classLink "java/util/ArrayList$SubList" (147 : Nat) "java/lang/IndexOutOfBoundsException") ∈ lw_all := lw_g (lw_at lw_m5 1 rfl) rfl
theorem q1063 : (Jvm.Cond.methodLink "java/util/ArrayList$SubList" (149 : Nat) ({ cls := "java/util/ArrayList$SubList", name := "outOfBoundsMsg", desc := "(I)Ljava/lang/String;" } : Jvm.MethodName)) ∈ lw_all := lw_g (lw_at lw_m5 2 rfl) rfl
theorem q1064 : (Jvm.Cond.privateMethod ({ cls := "java/util/ArrayList$SubList", name := "outOfBoundsMsg", desc := "(I)Ljava/lang/String;" } : Jvm.MethodName)) ∈ lw_tbl := lw_at lw_m5 3 rfl
theorem q1065 : (Jvm.Cond.instanceMethod ({ cls := "java/util/ArrayList$SubList", name := "outOfBoundsMsg", desc := "(I)Ljava/lang/String;" } : Jvm.MethodName)) ∈ lw_all := lw_g (lw_at lw_m5 4 rfl) rfl
theorem q1066 : (Jvm.Cond.code ({ cls := "java/util/ArrayList$SubList", name := "outOfBoundsMsg", desc := "(I)Ljava/lang/String;" } : Jvm.MethodName) prog_57_method_27_code (2 : Nat) (Option.some (Jvm.ClassFile.FieldType.object "java/lang/String"))) ∈ lw_all := lw_g (lw_at lw_m5 5 rfl) rfl
theorem q1067 : (Jvm.Cond.classLink "java/util/ArrayList$SubList" (156 : Nat) "java/lang/StringBuilder") ∈ lw_all := lw_g (lw_at lw_m5 6 rfl) rfl
theorem q1068 : (Jvm.Cond.methodLink "java/util/ArrayList$SubList" (158 : Nat) ({ cls := "java/lang/StringBuilder", name := "<init>", desc := "()V" } : Jvm.MethodName)) ∈ lw_all := lw_g (lw_at lw_m5 7 rfl) rfl
theorem q1069 : (Jvm.Cond.stringRef "java/util/ArrayList$SubList" (159 : Nat) "Index: ") ∈ lw_tbl := lw_at lw_m5 8 rfl
theorem q1070 : (Jvm.Cond.methodLink "java/util/ArrayList$SubList" (161 : Nat) ({ cls := "java/lang/StringBuilder", name := "append", desc := "(Ljava/lang/String;)Ljava/lang/StringBuilder;" } : Jvm.MethodName)) ∈ lw_all := lw_g (lw_at lw_m5 9 rfl) rfl
theorem q1071 : (Jvm.Cond.methodLink "java/util/ArrayList$SubList" (165 : Nat) ({ cls := "java/lang/StringBuilder", name := "append", desc := "(I)Ljava/lang/StringBuilder;" } : Jvm.MethodName)) ∈ lw_all := lw_g (lw_at lw_m5 10 rfl) rfl
theorem q1072 : (Jvm.Cond.stringRef "java/util/ArrayList$SubList" (168 : Nat) ", Size: ") ∈ lw_tbl := lw_at lw_m5 11 rfl
theorem q1073 : (Jvm.Cond.methodLink "java/util/ArrayList$SubList" (170 : Nat) ({ cls := "java/lang/StringBuilder", name := "toString", desc := "()Ljava/lang/String;" } : Jvm.MethodName)) ∈ lw_all := lw_g (lw_at lw_m5 12 rfl) rfl
theorem q1074 : (Jvm.Cond.methodLink "java/util/ArrayList$SubList" (153 : Nat) ({ cls := "java/lang/IndexOutOfBoundsException", name := "<init>", desc := "(Ljava/lang/String;)V" } : Jvm.MethodName)) ∈ lw_all := lw_g (lw_at lw_m5 13 rfl) rfl
theorem q1075 : (Jvm.Cond.classLink "java/util/ArrayList$SubList" (135 : Nat) "java/util/ArrayList$SubList$1") ∈ lw_all := lw_g (lw_at lw_m5 14 rfl) rfl
theorem q1077 : (Jvm.Cond.methodLink "java/util/ArrayList$SubList" (137 : Nat) ({ cls := "java/util/ArrayList$SubList$1", name := "<init>", desc := "(Ljava/util/ArrayList$SubList;I)V" } : Jvm.MethodName)) ∈ lw_all := lw_g (lw_at lw_m5 16 rfl) rfl
theorem q1158 : (Jvm.Cond.selects "java/util/ArrayList$SubList" ({ cls := "java/util/AbstractList", name := "listIterator", desc := "(I)Ljava/util/ListIterator;" } : Jvm.MethodName) ({ cls := "java/util/ArrayList$SubList", name := "listIterator", desc := "(I)Ljava/util/ListIterator;" } : Jvm.MethodName)) ∈ lw_all := lw_g (lw_at lw_m5 97 rfl) rfl
theorem q1196 : (Jvm.Cond.selects "java/util/ArrayList$SubList" ({ cls := "java/util/AbstractCollection", name := "iterator", desc := "()Ljava/util/Iterator;" } : Jvm.MethodName) ({ cls := "java/util/ArrayList$SubList", name := "iterator", desc := "()Ljava/util/Iterator;" } : Jvm.MethodName)) ∈ lw_all := lw_g (lw_at lw_m5 135 rfl) rfl
theorem q1197 : (Jvm.Cond.instanceMethod ({ cls := "java/util/ArrayList$SubList", name := "iterator", desc := "()Ljava/util/Iterator;" } : Jvm.MethodName)) ∈ lw_all := lw_g (lw_at lw_m5 136 rfl) rfl
theorem q1198 : (Jvm.Cond.code ({ cls := "java/util/ArrayList$SubList", name := "iterator", desc := "()Ljava/util/Iterator;" } : Jvm.MethodName) prog_57_method_23_code (1 : Nat) (Option.some (Jvm.ClassFile.FieldType.object "java/util/Iterator"))) ∈ lw_all := lw_g (lw_at lw_m5 137 rfl) rfl
theorem q1199 : (Jvm.Cond.methodLink "java/util/ArrayList$SubList" (131 : Nat) ({ cls := "java/util/ArrayList$SubList", name := "listIterator", desc := "()Ljava/util/ListIterator;" } : Jvm.MethodName)) ∈ lw_all := lw_g (lw_at lw_m5 138 rfl) rfl
theorem q1200 : (Jvm.Cond.sameMethod "java/util/ArrayList$SubList" "java/util/AbstractList" "listIterator" "()Ljava/util/ListIterator;") ∈ lw_all := lw_g (lw_at lw_m5 139 rfl) rfl
theorem q1201 : (Jvm.Cond.selects "java/util/ArrayList$SubList" ({ cls := "java/util/ArrayList$SubList", name := "listIterator", desc := "()Ljava/util/ListIterator;" } : Jvm.MethodName) ({ cls := "java/util/AbstractList", name := "listIterator", desc := "()Ljava/util/ListIterator;" } : Jvm.MethodName)) ∈ lw_all := lw_g (lw_at lw_m5 140 rfl) rfl
theorem q1255 : (Jvm.Cond.selects "java/util/ArrayList$SubList" ({ cls := "java/util/AbstractList", name := "size", desc := "()I" } : Jvm.MethodName) ({ cls := "java/util/ArrayList$SubList", name := "size", desc := "()I" } : Jvm.MethodName)) ∈ lw_all := lw_g (lw_at lw_m5 194 rfl) rfl
theorem q1398 : (Jvm.Cond.instanceMethod ({ cls := "java/util/ArrayList$SubList", name := "get", desc := "(I)Ljava/lang/Object;" } : Jvm.MethodName)) ∈ lw_all := lw_g (lw_at lw_m6 97 rfl) rfl
theorem q1399 : (Jvm.Cond.code ({ cls := "java/util/ArrayList$SubList", name := "get", desc := "(I)Ljava/lang/Object;" } : Jvm.MethodName) prog_57_method_4_code (2 : Nat) (Option.some (Jvm.ClassFile.FieldType.object "java/lang/Object"))) ∈ lw_all := lw_g (lw_at lw_m6 98 rfl) rfl
theorem q1400 : (Jvm.Cond.methodLink "java/util/ArrayList$SubList" (30 : Nat) ({ cls := "java/util/Objects", name := "checkIndex", desc := "(II)I" } : Jvm.MethodName)) ∈ lw_all := lw_g (lw_at lw_m6 99 rfl) rfl
theorem q1401 : (Jvm.Cond.methodLink "java/util/ArrayList$SubList" (39 : Nat) ({ cls := "java/util/ArrayList", name := "elementData", desc := "(I)Ljava/lang/Object;" } : Jvm.MethodName)) ∈ lw_all := lw_g (lw_at lw_m6 100 rfl) rfl
theorem q1415 : (Jvm.Cond.selects "java/util/ArrayList$SubList" ({ cls := "java/util/AbstractList", name := "get", desc := "(I)Ljava/lang/Object;" } : Jvm.MethodName) ({ cls := "java/util/ArrayList$SubList", name := "get", desc := "(I)Ljava/lang/Object;" } : Jvm.MethodName)) ∈ lw_all := lw_g (lw_at lw_m6 114 rfl) rfl
theorem q1557 : (Jvm.Cond.castable "java/util/ArrayList$SubList" "java/util/List") ∈ lw_tbl := lw_at lw_m7 16 rfl
theorem q1558 : (Jvm.Cond.selects "java/util/ArrayList$SubList" ({ cls := "java/util/List", name := "get", desc := "(I)Ljava/lang/Object;" } : Jvm.MethodName) ({ cls := "java/util/ArrayList$SubList", name := "get", desc := "(I)Ljava/lang/Object;" } : Jvm.MethodName)) ∈ lw_all := lw_g (lw_at lw_m7 17 rfl) rfl
theorem q1559 : (Jvm.Cond.unhidden "java/util/ArrayList$SubList" "get" "(I)Ljava/lang/Object;") ∈ lw_tbl := lw_at lw_m7 18 rfl
theorem q1560 : (Jvm.Cond.publicMethod ({ cls := "java/util/ArrayList$SubList", name := "get", desc := "(I)Ljava/lang/Object;" } : Jvm.MethodName)) ∈ lw_tbl := lw_at lw_m7 19 rfl
theorem q1669 : (Jvm.Cond.castable "java/util/ArrayList$SubList" "java/util/Collection") ∈ lw_tbl := lw_at lw_m7 128 rfl
theorem q1670 : (Jvm.Cond.selects "java/util/ArrayList$SubList" ({ cls := "java/util/Collection", name := "toArray", desc := "()[Ljava/lang/Object;" } : Jvm.MethodName) ({ cls := "java/util/ArrayList$SubList", name := "toArray", desc := "()[Ljava/lang/Object;" } : Jvm.MethodName)) ∈ lw_all := lw_g (lw_at lw_m7 129 rfl) rfl
theorem q1671 : (Jvm.Cond.unhidden "java/util/ArrayList$SubList" "toArray" "()[Ljava/lang/Object;") ∈ lw_tbl := lw_at lw_m7 130 rfl
theorem q1672 : (Jvm.Cond.instanceMethod ({ cls := "java/util/ArrayList$SubList", name := "toArray", desc := "()[Ljava/lang/Object;" } : Jvm.MethodName)) ∈ lw_all := lw_g (lw_at lw_m7 131 rfl) rfl
theorem q1673 : (Jvm.Cond.publicMethod ({ cls := "java/util/ArrayList$SubList", name := "toArray", desc := "()[Ljava/lang/Object;" } : Jvm.MethodName)) ∈ lw_tbl := lw_at lw_m7 132 rfl
theorem q1674 : (Jvm.Cond.code ({ cls := "java/util/ArrayList$SubList", name := "toArray", desc := "()[Ljava/lang/Object;" } : Jvm.MethodName) prog_57_method_16_code (1 : Nat) (Option.some (Jvm.ClassFile.FieldType.array (Jvm.ClassFile.FieldType.object "java/lang/Object")))) ∈ lw_all := lw_g (lw_at lw_m7 133 rfl) rfl
theorem q1675 : (Jvm.Cond.methodLink "java/util/ArrayList$SubList" (90 : Nat) ({ cls := "java/util/Arrays", name := "copyOfRange", desc := "([Ljava/lang/Object;II)[Ljava/lang/Object;" } : Jvm.MethodName)) ∈ lw_all := lw_g (lw_at lw_m7 134 rfl) rfl
theorem q1825 : (Jvm.Cond.selects "java/util/ArrayList$SubList" ({ cls := "java/util/List", name := "size", desc := "()I" } : Jvm.MethodName) ({ cls := "java/util/ArrayList$SubList", name := "size", desc := "()I" } : Jvm.MethodName)) ∈ lw_all := lw_g (lw_at lw_m8 44 rfl) rfl
theorem q1826 : (Jvm.Cond.unhidden "java/util/ArrayList$SubList" "size" "()I") ∈ lw_tbl := lw_at lw_m8 45 rfl
theorem q1827 : (Jvm.Cond.publicMethod ({ cls := "java/util/ArrayList$SubList", name := "size", desc := "()I" } : Jvm.MethodName)) ∈ lw_tbl := lw_at lw_m8 46 rfl
theorem q1843 : (Jvm.Cond.selects "java/util/ArrayList$SubList" ({ cls := "java/util/Collection", name := "size", desc := "()I" } : Jvm.MethodName) ({ cls := "java/util/ArrayList$SubList", name := "size", desc := "()I" } : Jvm.MethodName)) ∈ lw_all := lw_g (lw_at lw_m8 62 rfl) rfl
theorem q2215 : (Jvm.Cond.unhidden "java/util/ArrayList$SubList" "getClass" "()Ljava/lang/Class;") ∈ lw_tbl := lw_at lw_m9 194 rfl
theorem q2463 : (Jvm.Cond.instanceMethod ({ cls := "java/util/ArrayList$SubList", name := "remove", desc := "(I)Ljava/lang/Object;" } : Jvm.MethodName)) ∈ lw_all := lw_g (lw_at lw_m10 202 rfl) rfl
theorem q2464 : (Jvm.Cond.code ({ cls := "java/util/ArrayList$SubList", name := "remove", desc := "(I)Ljava/lang/Object;" } : Jvm.MethodName) prog_57_method_7_code (3 : Nat) (Option.some (Jvm.ClassFile.FieldType.object "java/lang/Object"))) ∈ lw_all := lw_g (lw_at lw_m10 203 rfl) rfl
theorem q2465 : (Jvm.Cond.methodLink "java/util/ArrayList$SubList" (57 : Nat) ({ cls := "java/util/ArrayList", name := "remove", desc := "(I)Ljava/lang/Object;" } : Jvm.MethodName)) ∈ lw_all := lw_g (lw_at lw_m10 204 rfl) rfl
theorem q2466 : (Jvm.Cond.methodLink "java/util/ArrayList$SubList" (54 : Nat) ({ cls := "java/util/ArrayList$SubList", name := "updateSizeAndModCount", desc := "(I)V" } : Jvm.MethodName)) ∈ lw_all := lw_g (lw_at lw_m10 205 rfl) rfl
theorem q2467 : (Jvm.Cond.privateMethod ({ cls := "java/util/ArrayList$SubList", name := "updateSizeAndModCount", desc := "(I)V" } : Jvm.MethodName)) ∈ lw_tbl := lw_at lw_m10 206 rfl
theorem q2468 : (Jvm.Cond.instanceMethod ({ cls := "java/util/ArrayList$SubList", name := "updateSizeAndModCount", desc := "(I)V" } : Jvm.MethodName)) ∈ lw_all := lw_g (lw_at lw_m10 207 rfl) rfl
theorem q2469 : (Jvm.Cond.code ({ cls := "java/util/ArrayList$SubList", name := "updateSizeAndModCount", desc := "(I)V" } : Jvm.MethodName) prog_57_method_29_code (3 : Nat) (Option.none : Option Jvm.ClassFile.FieldType)) ∈ lw_all := lw_g (lw_at lw_m10 208 rfl) rfl
theorem q2482 : (Jvm.Cond.selects "java/util/ArrayList$SubList" ({ cls := "java/util/AbstractList", name := "remove", desc := "(I)Ljava/lang/Object;" } : Jvm.MethodName) ({ cls := "java/util/ArrayList$SubList", name := "remove", desc := "(I)Ljava/lang/Object;" } : Jvm.MethodName)) ∈ lw_all := lw_g (lw_at lw_m10 221 rfl) rfl
theorem q2643 : (Jvm.Cond.instanceMethod ({ cls := "java/util/ArrayList$SubList", name := "<init>", desc := "(Ljava/util/ArrayList;II)V" } : Jvm.MethodName)) ∈ lw_all := lw_g (lw_at lw_m11 142 rfl) rfl
theorem q2644 : (Jvm.Cond.code ({ cls := "java/util/ArrayList$SubList", name := "<init>", desc := "(Ljava/util/ArrayList;II)V" } : Jvm.MethodName) prog_57_method_1_code (4 : Nat) (Option.none : Option Jvm.ClassFile.FieldType)) ∈ lw_all := lw_g (lw_at lw_m11 143 rfl) rfl
theorem q2645 : (Jvm.Cond.methodLink "java/util/ArrayList$SubList" (1 : Nat) ({ cls := "java/util/AbstractList", name := "<init>", desc := "()V" } : Jvm.MethodName)) ∈ lw_all := lw_g (lw_at lw_m11 144 rfl) rfl
theorem q2646 : (Jvm.Cond.fieldLink "java/util/ArrayList$SubList" (7 : Nat) "java/util/ArrayList$SubList" "root" "Ljava/util/ArrayList;") ∈ lw_all := lw_g (lw_at lw_m11 145 rfl) rfl
theorem q2648 : (Jvm.Cond.fieldLink "java/util/ArrayList$SubList" (13 : Nat) "java/util/ArrayList$SubList" "parent" "Ljava/util/ArrayList$SubList;") ∈ lw_all := lw_g (lw_at lw_m11 147 rfl) rfl
theorem q2649 : (Jvm.Cond.fieldLink "java/util/ArrayList$SubList" (17 : Nat) "java/util/ArrayList$SubList" "offset" "I") ∈ lw_all := lw_g (lw_at lw_m11 148 rfl) rfl
theorem q2651 : (Jvm.Cond.fieldLink "java/util/ArrayList$SubList" (21 : Nat) "java/util/ArrayList$SubList" "size" "I") ∈ lw_all := lw_g (lw_at lw_m11 150 rfl) rfl
theorem q2653 : (Jvm.Cond.laysFinal "java/util/ArrayList$SubList" "java/util/ArrayList$SubList" "root" "Ljava/util/ArrayList;") ∈ lw_all := lw_g (lw_at lw_m11 152 rfl) rfl
theorem q2654 : (Jvm.Cond.soleField "java/util/ArrayList$SubList" "root") ∈ lw_all := lw_g (lw_at lw_m11 153 rfl) rfl
theorem q2655 : (Jvm.Cond.laysFinal "java/util/ArrayList$SubList" "java/util/ArrayList$SubList" "parent" "Ljava/util/ArrayList$SubList;") ∈ lw_all := lw_g (lw_at lw_m11 154 rfl) rfl
theorem q2656 : (Jvm.Cond.soleField "java/util/ArrayList$SubList" "parent") ∈ lw_all := lw_g (lw_at lw_m11 155 rfl) rfl
theorem q2657 : (Jvm.Cond.laysFinal "java/util/ArrayList$SubList" "java/util/ArrayList$SubList" "offset" "I") ∈ lw_all := lw_g (lw_at lw_m11 156 rfl) rfl
theorem q2658 : (Jvm.Cond.soleField "java/util/ArrayList$SubList" "offset") ∈ lw_all := lw_g (lw_at lw_m11 157 rfl) rfl
theorem q2659 : (Jvm.Cond.lays "java/util/ArrayList$SubList" "java/util/ArrayList$SubList" "size" "I") ∈ lw_all := lw_g (lw_at lw_m11 158 rfl) rfl
theorem q2660 : (Jvm.Cond.soleField "java/util/ArrayList$SubList" "size") ∈ lw_all := lw_g (lw_at lw_m11 159 rfl) rfl
theorem q2661 : (Jvm.Cond.lays "java/util/ArrayList$SubList" "java/util/AbstractList" "modCount" "I") ∈ lw_all := lw_g (lw_at lw_m11 160 rfl) rfl
theorem q2662 : (Jvm.Cond.superclass "java/util/ArrayList$SubList" "java/util/AbstractList") ∈ lw_all := lw_g (lw_at lw_m11 161 rfl) rfl
theorem q2688 : (Jvm.Cond.selects "java/util/ArrayList$SubList" ({ cls := "java/util/AbstractList", name := "set", desc := "(ILjava/lang/Object;)Ljava/lang/Object;" } : Jvm.MethodName) ({ cls := "java/util/ArrayList$SubList", name := "set", desc := "(ILjava/lang/Object;)Ljava/lang/Object;" } : Jvm.MethodName)) ∈ lw_all := lw_g (lw_at lw_m11 187 rfl) rfl
theorem q2689 : (Jvm.Cond.instanceMethod ({ cls := "java/util/ArrayList$SubList", name := "set", desc := "(ILjava/lang/Object;)Ljava/lang/Object;" } : Jvm.MethodName)) ∈ lw_all := lw_g (lw_at lw_m11 188 rfl) rfl
theorem q2690 : (Jvm.Cond.code ({ cls := "java/util/ArrayList$SubList", name := "set", desc := "(ILjava/lang/Object;)Ljava/lang/Object;" } : Jvm.MethodName) prog_57_method_3_code (4 : Nat) (Option.some (Jvm.ClassFile.FieldType.object "java/lang/Object"))) ∈ lw_all := lw_g (lw_at lw_m11 189 rfl) rfl
theorem q2700 : (Jvm.Cond.selects "java/util/ArrayList$SubList" ({ cls := "java/util/List", name := "set", desc := "(ILjava/lang/Object;)Ljava/lang/Object;" } : Jvm.MethodName) ({ cls := "java/util/ArrayList$SubList", name := "set", desc := "(ILjava/lang/Object;)Ljava/lang/Object;" } : Jvm.MethodName)) ∈ lw_all := lw_g (lw_at lw_m11 199 rfl) rfl
theorem q2701 : (Jvm.Cond.unhidden "java/util/ArrayList$SubList" "set" "(ILjava/lang/Object;)Ljava/lang/Object;") ∈ lw_tbl := lw_at lw_m11 200 rfl
theorem q2702 : (Jvm.Cond.publicMethod ({ cls := "java/util/ArrayList$SubList", name := "set", desc := "(ILjava/lang/Object;)Ljava/lang/Object;" } : Jvm.MethodName)) ∈ lw_tbl := lw_at lw_m11 201 rfl
theorem q2780 : (Jvm.Cond.selects "java/util/ArrayList$SubList" ({ cls := "java/util/List", name := "subList", desc := "(II)Ljava/util/List;" } : Jvm.MethodName) ({ cls := "java/util/ArrayList$SubList", name := "subList", desc := "(II)Ljava/util/List;" } : Jvm.MethodName)) ∈ lw_all := lw_g (lw_at lw_m12 39 rfl) rfl
theorem q2781 : (Jvm.Cond.unhidden "java/util/ArrayList$SubList" "subList" "(II)Ljava/util/List;") ∈ lw_tbl := lw_at lw_m12 40 rfl
theorem q2782 : (Jvm.Cond.instanceMethod ({ cls := "java/util/ArrayList$SubList", name := "subList", desc := "(II)Ljava/util/List;" } : Jvm.MethodName)) ∈ lw_all := lw_g (lw_at lw_m12 41 rfl) rfl
theorem q2783 : (Jvm.Cond.publicMethod ({ cls := "java/util/ArrayList$SubList", name := "subList", desc := "(II)Ljava/util/List;" } : Jvm.MethodName)) ∈ lw_tbl := lw_at lw_m12 42 rfl
theorem q2784 : (Jvm.Cond.code ({ cls := "java/util/ArrayList$SubList", name := "subList", desc := "(II)Ljava/util/List;" } : Jvm.MethodName) prog_57_method_25_code (3 : Nat) (Option.some (Jvm.ClassFile.FieldType.object "java/util/List"))) ∈ lw_all := lw_g (lw_at lw_m12 43 rfl) rfl
theorem q2785 : (Jvm.Cond.methodLink "java/util/ArrayList$SubList" (140 : Nat) ({ cls := "java/util/ArrayList$SubList", name := "subListRangeCheck", desc := "(III)V" } : Jvm.MethodName)) ∈ lw_all := lw_g (lw_at lw_m12 44 rfl) rfl
theorem q2786 : (Jvm.Cond.sameMethod "java/util/ArrayList$SubList" "java/util/AbstractList" "subListRangeCheck" "(III)V") ∈ lw_all := lw_g (lw_at lw_m12 45 rfl) rfl
theorem q2787 : (Jvm.Cond.classLink "java/util/ArrayList$SubList" (8 : Nat) "java/util/ArrayList$SubList") ∈ lw_all := lw_g (lw_at lw_m12 46 rfl) rfl
theorem q2788 : (Jvm.Cond.methodLink "java/util/ArrayList$SubList" (144 : Nat) ({ cls := "java/util/ArrayList$SubList", name := "<init>", desc := "(Ljava/util/ArrayList$SubList;II)V" } : Jvm.MethodName)) ∈ lw_all := lw_g (lw_at lw_m12 47 rfl) rfl
theorem q2789 : (Jvm.Cond.instanceMethod ({ cls := "java/util/ArrayList$SubList", name := "<init>", desc := "(Ljava/util/ArrayList$SubList;II)V" } : Jvm.MethodName)) ∈ lw_all := lw_g (lw_at lw_m12 48 rfl) rfl
theorem q2790 : (Jvm.Cond.code ({ cls := "java/util/ArrayList$SubList", name := "<init>", desc := "(Ljava/util/ArrayList$SubList;II)V" } : Jvm.MethodName) prog_57_method_2_code (4 : Nat) (Option.none : Option Jvm.ClassFile.FieldType)) ∈ lw_all := lw_g (lw_at lw_m12 49 rfl) rfl
theorem q2894 : (Jvm.Cond.selects "java/util/ArrayList$SubList" ({ cls := "java/util/List", name := "listIterator", desc := "()Ljava/util/ListIterator;" } : Jvm.MethodName) ({ cls := "java/util/AbstractList", name := "listIterator", desc := "()Ljava/util/ListIterator;" } : Jvm.MethodName)) ∈ lw_all := lw_g (lw_at lw_m12 153 rfl) rfl
theorem q2895 : (Jvm.Cond.unhidden "java/util/ArrayList$SubList" "listIterator" "()Ljava/util/ListIterator;") ∈ lw_tbl := lw_at lw_m12 154 rfl
theorem q2925 : (Jvm.Cond.selects "java/util/ArrayList$SubList" ({ cls := "java/util/List", name := "listIterator", desc := "(I)Ljava/util/ListIterator;" } : Jvm.MethodName) ({ cls := "java/util/ArrayList$SubList", name := "listIterator", desc := "(I)Ljava/util/ListIterator;" } : Jvm.MethodName)) ∈ lw_all := lw_g (lw_at lw_m12 184 rfl) rfl
theorem q2926 : (Jvm.Cond.unhidden "java/util/ArrayList$SubList" "listIterator" "(I)Ljava/util/ListIterator;") ∈ lw_tbl := lw_at lw_m12 185 rfl
theorem q2927 : (Jvm.Cond.publicMethod ({ cls := "java/util/ArrayList$SubList", name := "listIterator", desc := "(I)Ljava/util/ListIterator;" } : Jvm.MethodName)) ∈ lw_tbl := lw_at lw_m12 186 rfl
theorem q3932 : (Jvm.Cond.selects "java/util/ArrayList$SubList" ({ cls := "java/util/ArrayList$SubList", name := "remove", desc := "(I)Ljava/lang/Object;" } : Jvm.MethodName) ({ cls := "java/util/ArrayList$SubList", name := "remove", desc := "(I)Ljava/lang/Object;" } : Jvm.MethodName)) ∈ lw_all := lw_g (lw_at lw_m16 231 rfl) rfl
theorem q3944 : (Jvm.Cond.castable "java/util/ArrayList$SubList" "java/util/RandomAccess") ∈ lw_tbl := lw_at lw_m17 3 rfl
theorem q3980 : (Jvm.Cond.castable "java/util/ArrayList$SubList" "java/lang/Object") ∈ lw_tbl := lw_at lw_m17 39 rfl


/-! java/util/BitSet -/
set_option maxRecDepth 100000
abbrev cJ54_init : ByteArray := prog_60_method_4_code
def yJ54_init : MethodName := ⟨RJ54, "<init>", "()V"⟩
def dkwJ54_init_1 : List UInt8 := [181, 0, 24, 177]
abbrev dktJ54_init_1 : List UInt8 := dkwJ54_init_1 ++ []
def dkwJ54_init_0 : List UInt8 := [42, 183, 0, 21, 42, 3, 181, 0, 7, 42, 3, 181, 0, 24, 42, 16, 64, 182, 0, 27, 42, 3]
abbrev dktJ54_init_0 : List UInt8 := dkwJ54_init_0 ++ dktJ54_init_1
theorem dksJ54_init_0 : cJ54_init.data.toList.drop 0 = dktJ54_init_0 := by decide +kernel
theorem dksJ54_init_1 : cJ54_init.data.toList.drop 22 = dktJ54_init_1 := dk_seg dksJ54_init_0 22 rfl rfl
theorem dJ54_init_0 : decode cJ54_init 0 = .ok (.aload_n 0, 1) := dk_42 (dk_at dksJ54_init_0 0 rfl rfl)
theorem dJ54_init_1 : decode cJ54_init 1 = .ok (.invokespecial 21, 3) := dk_183 0 21 (dk_at dksJ54_init_0 1 rfl rfl)
theorem dJ54_init_4 : decode cJ54_init 4 = .ok (.aload_n 0, 1) := dk_42 (dk_at dksJ54_init_0 4 rfl rfl)
theorem dJ54_init_5 : decode cJ54_init 5 = .ok (.iconst 0, 1) := dk_3 (dk_at dksJ54_init_0 5 rfl rfl)
theorem dJ54_init_6 : decode cJ54_init 6 = .ok (.putfield 7, 3) := dk_181 0 7 (dk_at dksJ54_init_0 6 rfl rfl)
theorem dJ54_init_9 : decode cJ54_init 9 = .ok (.aload_n 0, 1) := dk_42 (dk_at dksJ54_init_0 9 rfl rfl)
theorem dJ54_init_10 : decode cJ54_init 10 = .ok (.iconst 0, 1) := dk_3 (dk_at dksJ54_init_0 10 rfl rfl)
theorem dJ54_init_11 : decode cJ54_init 11 = .ok (.putfield 24, 3) := dk_181 0 24 (dk_at dksJ54_init_0 11 rfl rfl)
theorem dJ54_init_14 : decode cJ54_init 14 = .ok (.aload_n 0, 1) := dk_42 (dk_at dksJ54_init_0 14 rfl rfl)
theorem dJ54_init_15 : decode cJ54_init 15 = .ok (.bipush 64, 2) := dk_16 64 (dk_at dksJ54_init_0 15 rfl rfl)
theorem dJ54_init_17 : decode cJ54_init 17 = .ok (.invokevirtual 27, 3) := dk_182 0 27 (dk_at dksJ54_init_0 17 rfl rfl)
theorem dJ54_init_20 : decode cJ54_init 20 = .ok (.aload_n 0, 1) := dk_42 (dk_at dksJ54_init_0 20 rfl rfl)
theorem dJ54_init_21 : decode cJ54_init 21 = .ok (.iconst 0, 1) := dk_3 (dk_at dksJ54_init_0 21 rfl rfl)
theorem dJ54_init_22 : decode cJ54_init 22 = .ok (.putfield 24, 3) := dk_181 0 24 (dk_at dksJ54_init_1 0 rfl rfl)
theorem dJ54_init_25 : decode cJ54_init 25 = .ok (.return_, 1) := dk_177 (dk_at dksJ54_init_1 3 rfl rfl)
abbrev cJ54_initWords : ByteArray := prog_60_method_6_code
def yJ54_initWords : MethodName := ⟨RJ54, "initWords", "(I)V"⟩
def dkwJ54_initWords_0 : List UInt8 := [42, 27, 4, 100, 184, 0, 52, 4, 96, 188, 11, 181, 0, 11, 177]
abbrev dktJ54_initWords_0 : List UInt8 := dkwJ54_initWords_0 ++ []
theorem dksJ54_initWords_0 : cJ54_initWords.data.toList.drop 0 = dktJ54_initWords_0 := by decide +kernel
theorem dJ54_initWords_0 : decode cJ54_initWords 0 = .ok (.aload_n 0, 1) := dk_42 (dk_at dksJ54_initWords_0 0 rfl rfl)
theorem dJ54_initWords_1 : decode cJ54_initWords 1 = .ok (.iload_n 1, 1) := dk_27 (dk_at dksJ54_initWords_0 1 rfl rfl)
theorem dJ54_initWords_2 : decode cJ54_initWords 2 = .ok (.iconst 1, 1) := dk_4 (dk_at dksJ54_initWords_0 2 rfl rfl)
theorem dJ54_initWords_3 : decode cJ54_initWords 3 = .ok (.isub, 1) := dk_100 (dk_at dksJ54_initWords_0 3 rfl rfl)
theorem dJ54_initWords_4 : decode cJ54_initWords 4 = .ok (.invokestatic 52, 3) := dk_184 0 52 (dk_at dksJ54_initWords_0 4 rfl rfl)
theorem dJ54_initWords_7 : decode cJ54_initWords 7 = .ok (.iconst 1, 1) := dk_4 (dk_at dksJ54_initWords_0 7 rfl rfl)
theorem dJ54_initWords_8 : decode cJ54_initWords 8 = .ok (.iadd, 1) := dk_96 (dk_at dksJ54_initWords_0 8 rfl rfl)
theorem dJ54_initWords_9 : decode cJ54_initWords 9 = .ok (.newarray .long, 2) := dk_188_11 (dk_at dksJ54_initWords_0 9 rfl rfl)
theorem dJ54_initWords_11 : decode cJ54_initWords 11 = .ok (.putfield 11, 3) := dk_181 0 11 (dk_at dksJ54_initWords_0 11 rfl rfl)
theorem dJ54_initWords_14 : decode cJ54_initWords 14 = .ok (.return_, 1) := dk_177 (dk_at dksJ54_initWords_0 14 rfl rfl)
abbrev cJ54_wordIndex : ByteArray := prog_60_method_1_code
def yJ54_wordIndex : MethodName := ⟨RJ54, "wordIndex", "(I)I"⟩
def dkwJ54_wordIndex_0 : List UInt8 := [26, 16, 6, 122, 172]
abbrev dktJ54_wordIndex_0 : List UInt8 := dkwJ54_wordIndex_0 ++ []
theorem dksJ54_wordIndex_0 : cJ54_wordIndex.data.toList.drop 0 = dktJ54_wordIndex_0 := by decide +kernel
theorem dJ54_wordIndex_0 : decode cJ54_wordIndex 0 = .ok (.iload_n 0, 1) := dk_26 (dk_at dksJ54_wordIndex_0 0 rfl rfl)
theorem dJ54_wordIndex_1 : decode cJ54_wordIndex 1 = .ok (.bipush 6, 2) := dk_16 6 (dk_at dksJ54_wordIndex_0 1 rfl rfl)
theorem dJ54_wordIndex_3 : decode cJ54_wordIndex 3 = .ok (.ishr, 1) := dk_122 (dk_at dksJ54_wordIndex_0 3 rfl rfl)
theorem dJ54_wordIndex_4 : decode cJ54_wordIndex 4 = .ok (.ireturn, 1) := dk_172 (dk_at dksJ54_wordIndex_0 4 rfl rfl)
abbrev cJ54_set : ByteArray := prog_60_method_20_code
def yJ54_set : MethodName := ⟨RJ54, "set", "(IZ)V"⟩
def dkwJ54_set_0 : List UInt8 := [28, 153, 0, 11, 42, 27, 182, 0, 167, 167, 0, 8, 42, 27, 182, 0, 170, 177]
abbrev dktJ54_set_0 : List UInt8 := dkwJ54_set_0 ++ []
theorem dksJ54_set_0 : cJ54_set.data.toList.drop 0 = dktJ54_set_0 := by decide +kernel
theorem dJ54_set_0 : decode cJ54_set 0 = .ok (.iload_n 2, 1) := dk_28 (dk_at dksJ54_set_0 0 rfl rfl)
theorem dJ54_set_1 : decode cJ54_set 1 = .ok (.ifCond .eq 11, 3) := dk_153 0 11 (dk_at dksJ54_set_0 1 rfl rfl)
theorem dJ54_set_4 : decode cJ54_set 4 = .ok (.aload_n 0, 1) := dk_42 (dk_at dksJ54_set_0 4 rfl rfl)
theorem dJ54_set_5 : decode cJ54_set 5 = .ok (.iload_n 1, 1) := dk_27 (dk_at dksJ54_set_0 5 rfl rfl)
theorem dJ54_set_6 : decode cJ54_set 6 = .ok (.invokevirtual 167, 3) := dk_182 0 167 (dk_at dksJ54_set_0 6 rfl rfl)
theorem dJ54_set_9 : decode cJ54_set 9 = .ok (.goto 8, 3) := dk_167 0 8 (dk_at dksJ54_set_0 9 rfl rfl)
theorem dJ54_set_12 : decode cJ54_set 12 = .ok (.aload_n 0, 1) := dk_42 (dk_at dksJ54_set_0 12 rfl rfl)
theorem dJ54_set_13 : decode cJ54_set 13 = .ok (.iload_n 1, 1) := dk_27 (dk_at dksJ54_set_0 13 rfl rfl)
theorem dJ54_set_14 : decode cJ54_set 14 = .ok (.invokevirtual 170, 3) := dk_182 0 170 (dk_at dksJ54_set_0 14 rfl rfl)
theorem dJ54_set_17 : decode cJ54_set 17 = .ok (.return_, 1) := dk_177 (dk_at dksJ54_set_0 17 rfl rfl)
abbrev cJ54_set_2 : ByteArray := prog_60_method_19_code
def yJ54_set_2 : MethodName := ⟨RJ54, "set", "(I)V"⟩
def dkwJ54_set_2_2 : List UInt8 := [10, 27, 121, 129, 80, 42, 182, 0, 56, 177]
abbrev dktJ54_set_2_2 : List UInt8 := dkwJ54_set_2_2 ++ []
def dkwJ54_set_2_1 : List UInt8 := [182, 0, 45, 183, 0, 146, 191, 27, 184, 0, 52, 61, 42, 28, 182, 0, 155, 42, 180, 0, 11, 28, 92, 47]
abbrev dktJ54_set_2_1 : List UInt8 := dkwJ54_set_2_1 ++ dktJ54_set_2_2
def dkwJ54_set_2_0 : List UInt8 := [27, 156, 0, 30, 187, 0, 142, 89, 187, 0, 33, 89, 183, 0, 35, 18, 153, 182, 0, 38, 27, 182, 0, 42]
abbrev dktJ54_set_2_0 : List UInt8 := dkwJ54_set_2_0 ++ dktJ54_set_2_1
theorem dksJ54_set_2_0 : cJ54_set_2.data.toList.drop 0 = dktJ54_set_2_0 := by decide +kernel
theorem dksJ54_set_2_1 : cJ54_set_2.data.toList.drop 24 = dktJ54_set_2_1 := dk_seg dksJ54_set_2_0 24 rfl rfl
theorem dksJ54_set_2_2 : cJ54_set_2.data.toList.drop 48 = dktJ54_set_2_2 := dk_seg dksJ54_set_2_1 24 rfl rfl
theorem dJ54_set_2_0 : decode cJ54_set_2 0 = .ok (.iload_n 1, 1) := dk_27 (dk_at dksJ54_set_2_0 0 rfl rfl)
theorem dJ54_set_2_1 : decode cJ54_set_2 1 = .ok (.ifCond .ge 30, 3) := dk_156 0 30 (dk_at dksJ54_set_2_0 1 rfl rfl)
theorem dJ54_set_2_4 : decode cJ54_set_2 4 = .ok (.new 142, 3) := dk_187 0 142 (dk_at dksJ54_set_2_0 4 rfl rfl)
theorem dJ54_set_2_7 : decode cJ54_set_2 7 = .ok (.dup, 1) := dk_89 (dk_at dksJ54_set_2_0 7 rfl rfl)
theorem dJ54_set_2_8 : decode cJ54_set_2 8 = .ok (.new 33, 3) := dk_187 0 33 (dk_at dksJ54_set_2_0 8 rfl rfl)
theorem dJ54_set_2_11 : decode cJ54_set_2 11 = .ok (.dup, 1) := dk_89 (dk_at dksJ54_set_2_0 11 rfl rfl)
theorem dJ54_set_2_12 : decode cJ54_set_2 12 = .ok (.invokespecial 35, 3) := dk_183 0 35 (dk_at dksJ54_set_2_0 12 rfl rfl)
theorem dJ54_set_2_15 : decode cJ54_set_2 15 = .ok (.ldc 153, 2) := dk_18 153 (dk_at dksJ54_set_2_0 15 rfl rfl)
theorem dJ54_set_2_17 : decode cJ54_set_2 17 = .ok (.invokevirtual 38, 3) := dk_182 0 38 (dk_at dksJ54_set_2_0 17 rfl rfl)
theorem dJ54_set_2_20 : decode cJ54_set_2 20 = .ok (.iload_n 1, 1) := dk_27 (dk_at dksJ54_set_2_0 20 rfl rfl)
theorem dJ54_set_2_21 : decode cJ54_set_2 21 = .ok (.invokevirtual 42, 3) := dk_182 0 42 (dk_at dksJ54_set_2_0 21 rfl rfl)
theorem dJ54_set_2_24 : decode cJ54_set_2 24 = .ok (.invokevirtual 45, 3) := dk_182 0 45 (dk_at dksJ54_set_2_1 0 rfl rfl)
theorem dJ54_set_2_27 : decode cJ54_set_2 27 = .ok (.invokespecial 146, 3) := dk_183 0 146 (dk_at dksJ54_set_2_1 3 rfl rfl)
theorem dJ54_set_2_30 : decode cJ54_set_2 30 = .ok (.athrow, 1) := dk_191 (dk_at dksJ54_set_2_1 6 rfl rfl)
theorem dJ54_set_2_31 : decode cJ54_set_2 31 = .ok (.iload_n 1, 1) := dk_27 (dk_at dksJ54_set_2_1 7 rfl rfl)
theorem dJ54_set_2_32 : decode cJ54_set_2 32 = .ok (.invokestatic 52, 3) := dk_184 0 52 (dk_at dksJ54_set_2_1 8 rfl rfl)
theorem dJ54_set_2_35 : decode cJ54_set_2 35 = .ok (.istore_n 2, 1) := dk_61 (dk_at dksJ54_set_2_1 11 rfl rfl)
theorem dJ54_set_2_36 : decode cJ54_set_2 36 = .ok (.aload_n 0, 1) := dk_42 (dk_at dksJ54_set_2_1 12 rfl rfl)
theorem dJ54_set_2_37 : decode cJ54_set_2 37 = .ok (.iload_n 2, 1) := dk_28 (dk_at dksJ54_set_2_1 13 rfl rfl)
theorem dJ54_set_2_38 : decode cJ54_set_2 38 = .ok (.invokevirtual 155, 3) := dk_182 0 155 (dk_at dksJ54_set_2_1 14 rfl rfl)
theorem dJ54_set_2_41 : decode cJ54_set_2 41 = .ok (.aload_n 0, 1) := dk_42 (dk_at dksJ54_set_2_1 17 rfl rfl)
theorem dJ54_set_2_42 : decode cJ54_set_2 42 = .ok (.getfield 11, 3) := dk_180 0 11 (dk_at dksJ54_set_2_1 18 rfl rfl)
theorem dJ54_set_2_45 : decode cJ54_set_2 45 = .ok (.iload_n 2, 1) := dk_28 (dk_at dksJ54_set_2_1 21 rfl rfl)
theorem dJ54_set_2_46 : decode cJ54_set_2 46 = .ok (.dup2, 1) := dk_92 (dk_at dksJ54_set_2_1 22 rfl rfl)
theorem dJ54_set_2_47 : decode cJ54_set_2 47 = .ok (.laload, 1) := dk_47 (dk_at dksJ54_set_2_1 23 rfl rfl)
theorem dJ54_set_2_48 : decode cJ54_set_2 48 = .ok (.lconst 1, 1) := dk_10 (dk_at dksJ54_set_2_2 0 rfl rfl)
theorem dJ54_set_2_49 : decode cJ54_set_2 49 = .ok (.iload_n 1, 1) := dk_27 (dk_at dksJ54_set_2_2 1 rfl rfl)
theorem dJ54_set_2_50 : decode cJ54_set_2 50 = .ok (.lshl, 1) := dk_121 (dk_at dksJ54_set_2_2 2 rfl rfl)
theorem dJ54_set_2_51 : decode cJ54_set_2 51 = .ok (.lor, 1) := dk_129 (dk_at dksJ54_set_2_2 3 rfl rfl)
theorem dJ54_set_2_52 : decode cJ54_set_2 52 = .ok (.lastore, 1) := dk_80 (dk_at dksJ54_set_2_2 4 rfl rfl)
theorem dJ54_set_2_53 : decode cJ54_set_2 53 = .ok (.aload_n 0, 1) := dk_42 (dk_at dksJ54_set_2_2 5 rfl rfl)
theorem dJ54_set_2_54 : decode cJ54_set_2 54 = .ok (.invokevirtual 56, 3) := dk_182 0 56 (dk_at dksJ54_set_2_2 6 rfl rfl)
theorem dJ54_set_2_57 : decode cJ54_set_2 57 = .ok (.return_, 1) := dk_177 (dk_at dksJ54_set_2_2 9 rfl rfl)
abbrev cJ54_expandTo : ByteArray := prog_60_method_15_code
def yJ54_expandTo : MethodName := ⟨RJ54, "expandTo", "(I)V"⟩
def dkwJ54_expandTo_0 : List UInt8 := [27, 4, 96, 61, 42, 180, 0, 7, 28, 162, 0, 13, 42, 28, 182, 0, 139, 42, 28, 181, 0, 7, 177]
abbrev dktJ54_expandTo_0 : List UInt8 := dkwJ54_expandTo_0 ++ []
theorem dksJ54_expandTo_0 : cJ54_expandTo.data.toList.drop 0 = dktJ54_expandTo_0 := by decide +kernel
theorem dJ54_expandTo_0 : decode cJ54_expandTo 0 = .ok (.iload_n 1, 1) := dk_27 (dk_at dksJ54_expandTo_0 0 rfl rfl)
theorem dJ54_expandTo_1 : decode cJ54_expandTo 1 = .ok (.iconst 1, 1) := dk_4 (dk_at dksJ54_expandTo_0 1 rfl rfl)
theorem dJ54_expandTo_2 : decode cJ54_expandTo 2 = .ok (.iadd, 1) := dk_96 (dk_at dksJ54_expandTo_0 2 rfl rfl)
theorem dJ54_expandTo_3 : decode cJ54_expandTo 3 = .ok (.istore_n 2, 1) := dk_61 (dk_at dksJ54_expandTo_0 3 rfl rfl)
theorem dJ54_expandTo_4 : decode cJ54_expandTo 4 = .ok (.aload_n 0, 1) := dk_42 (dk_at dksJ54_expandTo_0 4 rfl rfl)
theorem dJ54_expandTo_5 : decode cJ54_expandTo 5 = .ok (.getfield 7, 3) := dk_180 0 7 (dk_at dksJ54_expandTo_0 5 rfl rfl)
theorem dJ54_expandTo_8 : decode cJ54_expandTo 8 = .ok (.iload_n 2, 1) := dk_28 (dk_at dksJ54_expandTo_0 8 rfl rfl)
theorem dJ54_expandTo_9 : decode cJ54_expandTo 9 = .ok (.if_icmp .ge 13, 3) := dk_162 0 13 (dk_at dksJ54_expandTo_0 9 rfl rfl)
theorem dJ54_expandTo_12 : decode cJ54_expandTo 12 = .ok (.aload_n 0, 1) := dk_42 (dk_at dksJ54_expandTo_0 12 rfl rfl)
theorem dJ54_expandTo_13 : decode cJ54_expandTo 13 = .ok (.iload_n 2, 1) := dk_28 (dk_at dksJ54_expandTo_0 13 rfl rfl)
theorem dJ54_expandTo_14 : decode cJ54_expandTo 14 = .ok (.invokevirtual 139, 3) := dk_182 0 139 (dk_at dksJ54_expandTo_0 14 rfl rfl)
theorem dJ54_expandTo_17 : decode cJ54_expandTo 17 = .ok (.aload_n 0, 1) := dk_42 (dk_at dksJ54_expandTo_0 17 rfl rfl)
theorem dJ54_expandTo_18 : decode cJ54_expandTo 18 = .ok (.iload_n 2, 1) := dk_28 (dk_at dksJ54_expandTo_0 18 rfl rfl)
theorem dJ54_expandTo_19 : decode cJ54_expandTo 19 = .ok (.putfield 7, 3) := dk_181 0 7 (dk_at dksJ54_expandTo_0 19 rfl rfl)
theorem dJ54_expandTo_22 : decode cJ54_expandTo 22 = .ok (.return_, 1) := dk_177 (dk_at dksJ54_expandTo_0 22 rfl rfl)
abbrev cJ54_ensureCapacity : ByteArray := prog_60_method_14_code
def yJ54_ensureCapacity : MethodName := ⟨RJ54, "ensureCapacity", "(I)V"⟩
def dkwJ54_ensureCapacity_1 : List UInt8 := [180, 0, 11, 28, 184, 0, 59, 181, 0, 11, 42, 3, 181, 0, 24, 177]
abbrev dktJ54_ensureCapacity_1 : List UInt8 := dkwJ54_ensureCapacity_1 ++ []
def dkwJ54_ensureCapacity_0 : List UInt8 := [42, 180, 0, 11, 190, 27, 162, 0, 32, 5, 42, 180, 0, 11, 190, 104, 27, 184, 0, 133, 61, 42, 42]
abbrev dktJ54_ensureCapacity_0 : List UInt8 := dkwJ54_ensureCapacity_0 ++ dktJ54_ensureCapacity_1
theorem dksJ54_ensureCapacity_0 : cJ54_ensureCapacity.data.toList.drop 0 = dktJ54_ensureCapacity_0 := by decide +kernel
theorem dksJ54_ensureCapacity_1 : cJ54_ensureCapacity.data.toList.drop 23 = dktJ54_ensureCapacity_1 := dk_seg dksJ54_ensureCapacity_0 23 rfl rfl
theorem dJ54_ensureCapacity_0 : decode cJ54_ensureCapacity 0 = .ok (.aload_n 0, 1) := dk_42 (dk_at dksJ54_ensureCapacity_0 0 rfl rfl)
theorem dJ54_ensureCapacity_1 : decode cJ54_ensureCapacity 1 = .ok (.getfield 11, 3) := dk_180 0 11 (dk_at dksJ54_ensureCapacity_0 1 rfl rfl)
theorem dJ54_ensureCapacity_4 : decode cJ54_ensureCapacity 4 = .ok (.arraylength, 1) := dk_190 (dk_at dksJ54_ensureCapacity_0 4 rfl rfl)
theorem dJ54_ensureCapacity_5 : decode cJ54_ensureCapacity 5 = .ok (.iload_n 1, 1) := dk_27 (dk_at dksJ54_ensureCapacity_0 5 rfl rfl)
theorem dJ54_ensureCapacity_6 : decode cJ54_ensureCapacity 6 = .ok (.if_icmp .ge 32, 3) := dk_162 0 32 (dk_at dksJ54_ensureCapacity_0 6 rfl rfl)
theorem dJ54_ensureCapacity_9 : decode cJ54_ensureCapacity 9 = .ok (.iconst 2, 1) := dk_5 (dk_at dksJ54_ensureCapacity_0 9 rfl rfl)
theorem dJ54_ensureCapacity_10 : decode cJ54_ensureCapacity 10 = .ok (.aload_n 0, 1) := dk_42 (dk_at dksJ54_ensureCapacity_0 10 rfl rfl)
theorem dJ54_ensureCapacity_11 : decode cJ54_ensureCapacity 11 = .ok (.getfield 11, 3) := dk_180 0 11 (dk_at dksJ54_ensureCapacity_0 11 rfl rfl)
theorem dJ54_ensureCapacity_14 : decode cJ54_ensureCapacity 14 = .ok (.arraylength, 1) := dk_190 (dk_at dksJ54_ensureCapacity_0 14 rfl rfl)
theorem dJ54_ensureCapacity_15 : decode cJ54_ensureCapacity 15 = .ok (.imul, 1) := dk_104 (dk_at dksJ54_ensureCapacity_0 15 rfl rfl)
theorem dJ54_ensureCapacity_16 : decode cJ54_ensureCapacity 16 = .ok (.iload_n 1, 1) := dk_27 (dk_at dksJ54_ensureCapacity_0 16 rfl rfl)
theorem dJ54_ensureCapacity_17 : decode cJ54_ensureCapacity 17 = .ok (.invokestatic 133, 3) := dk_184 0 133 (dk_at dksJ54_ensureCapacity_0 17 rfl rfl)
theorem dJ54_ensureCapacity_20 : decode cJ54_ensureCapacity 20 = .ok (.istore_n 2, 1) := dk_61 (dk_at dksJ54_ensureCapacity_0 20 rfl rfl)
theorem dJ54_ensureCapacity_21 : decode cJ54_ensureCapacity 21 = .ok (.aload_n 0, 1) := dk_42 (dk_at dksJ54_ensureCapacity_0 21 rfl rfl)
theorem dJ54_ensureCapacity_22 : decode cJ54_ensureCapacity 22 = .ok (.aload_n 0, 1) := dk_42 (dk_at dksJ54_ensureCapacity_0 22 rfl rfl)
theorem dJ54_ensureCapacity_23 : decode cJ54_ensureCapacity 23 = .ok (.getfield 11, 3) := dk_180 0 11 (dk_at dksJ54_ensureCapacity_1 0 rfl rfl)
theorem dJ54_ensureCapacity_26 : decode cJ54_ensureCapacity 26 = .ok (.iload_n 2, 1) := dk_28 (dk_at dksJ54_ensureCapacity_1 3 rfl rfl)
theorem dJ54_ensureCapacity_27 : decode cJ54_ensureCapacity 27 = .ok (.invokestatic 59, 3) := dk_184 0 59 (dk_at dksJ54_ensureCapacity_1 4 rfl rfl)
theorem dJ54_ensureCapacity_30 : decode cJ54_ensureCapacity 30 = .ok (.putfield 11, 3) := dk_181 0 11 (dk_at dksJ54_ensureCapacity_1 7 rfl rfl)
theorem dJ54_ensureCapacity_33 : decode cJ54_ensureCapacity 33 = .ok (.aload_n 0, 1) := dk_42 (dk_at dksJ54_ensureCapacity_1 10 rfl rfl)
theorem dJ54_ensureCapacity_34 : decode cJ54_ensureCapacity 34 = .ok (.iconst 0, 1) := dk_3 (dk_at dksJ54_ensureCapacity_1 11 rfl rfl)
theorem dJ54_ensureCapacity_35 : decode cJ54_ensureCapacity 35 = .ok (.putfield 24, 3) := dk_181 0 24 (dk_at dksJ54_ensureCapacity_1 12 rfl rfl)
theorem dJ54_ensureCapacity_38 : decode cJ54_ensureCapacity 38 = .ok (.return_, 1) := dk_177 (dk_at dksJ54_ensureCapacity_1 15 rfl rfl)
abbrev cJ54_checkInvariants : ByteArray := prog_60_method_2_code
def yJ54_checkInvariants : MethodName := ⟨RJ54, "checkInvariants", "()V"⟩
def dkwJ54_checkInvariants_4 : List UInt8 := [180, 0, 7, 47, 9, 148, 153, 0, 11, 187, 0, 15, 89, 183, 0, 17, 191, 177]
abbrev dktJ54_checkInvariants_4 : List UInt8 := dkwJ54_checkInvariants_4 ++ []
def dkwJ54_checkInvariants_3 : List UInt8 := [178, 0, 3, 154, 0, 37, 42, 180, 0, 7, 42, 180, 0, 11, 190, 159, 0, 25, 42, 180, 0, 11, 42]
abbrev dktJ54_checkInvariants_3 : List UInt8 := dkwJ54_checkInvariants_3 ++ dktJ54_checkInvariants_4
def dkwJ54_checkInvariants_2 : List UInt8 := [155, 0, 15, 42, 180, 0, 7, 42, 180, 0, 11, 190, 164, 0, 11, 187, 0, 15, 89, 183, 0, 17, 191]
abbrev dktJ54_checkInvariants_2 : List UInt8 := dkwJ54_checkInvariants_2 ++ dktJ54_checkInvariants_3
def dkwJ54_checkInvariants_1 : List UInt8 := [9, 148, 154, 0, 11, 187, 0, 15, 89, 183, 0, 17, 191, 178, 0, 3, 154, 0, 30, 42, 180, 0, 7]
abbrev dktJ54_checkInvariants_1 : List UInt8 := dkwJ54_checkInvariants_1 ++ dktJ54_checkInvariants_2
def dkwJ54_checkInvariants_0 : List UInt8 := [178, 0, 3, 154, 0, 34, 42, 180, 0, 7, 153, 0, 27, 42, 180, 0, 11, 42, 180, 0, 7, 4, 100, 47]
abbrev dktJ54_checkInvariants_0 : List UInt8 := dkwJ54_checkInvariants_0 ++ dktJ54_checkInvariants_1
theorem dksJ54_checkInvariants_0 : cJ54_checkInvariants.data.toList.drop 0 = dktJ54_checkInvariants_0 := by decide +kernel
theorem dksJ54_checkInvariants_1 : cJ54_checkInvariants.data.toList.drop 24 = dktJ54_checkInvariants_1 := dk_seg dksJ54_checkInvariants_0 24 rfl rfl
theorem dksJ54_checkInvariants_2 : cJ54_checkInvariants.data.toList.drop 47 = dktJ54_checkInvariants_2 := dk_seg dksJ54_checkInvariants_1 23 rfl rfl
theorem dksJ54_checkInvariants_3 : cJ54_checkInvariants.data.toList.drop 70 = dktJ54_checkInvariants_3 := dk_seg dksJ54_checkInvariants_2 23 rfl rfl
theorem dksJ54_checkInvariants_4 : cJ54_checkInvariants.data.toList.drop 93 = dktJ54_checkInvariants_4 := dk_seg dksJ54_checkInvariants_3 23 rfl rfl
theorem dJ54_checkInvariants_0 : decode cJ54_checkInvariants 0 = .ok (.getstatic 3, 3) := dk_178 0 3 (dk_at dksJ54_checkInvariants_0 0 rfl rfl)
theorem dJ54_checkInvariants_3 : decode cJ54_checkInvariants 3 = .ok (.ifCond .ne 34, 3) := dk_154 0 34 (dk_at dksJ54_checkInvariants_0 3 rfl rfl)
theorem dJ54_checkInvariants_6 : decode cJ54_checkInvariants 6 = .ok (.aload_n 0, 1) := dk_42 (dk_at dksJ54_checkInvariants_0 6 rfl rfl)
theorem dJ54_checkInvariants_7 : decode cJ54_checkInvariants 7 = .ok (.getfield 7, 3) := dk_180 0 7 (dk_at dksJ54_checkInvariants_0 7 rfl rfl)
theorem dJ54_checkInvariants_10 : decode cJ54_checkInvariants 10 = .ok (.ifCond .eq 27, 3) := dk_153 0 27 (dk_at dksJ54_checkInvariants_0 10 rfl rfl)
theorem dJ54_checkInvariants_13 : decode cJ54_checkInvariants 13 = .ok (.aload_n 0, 1) := dk_42 (dk_at dksJ54_checkInvariants_0 13 rfl rfl)
theorem dJ54_checkInvariants_14 : decode cJ54_checkInvariants 14 = .ok (.getfield 11, 3) := dk_180 0 11 (dk_at dksJ54_checkInvariants_0 14 rfl rfl)
theorem dJ54_checkInvariants_17 : decode cJ54_checkInvariants 17 = .ok (.aload_n 0, 1) := dk_42 (dk_at dksJ54_checkInvariants_0 17 rfl rfl)
theorem dJ54_checkInvariants_18 : decode cJ54_checkInvariants 18 = .ok (.getfield 7, 3) := dk_180 0 7 (dk_at dksJ54_checkInvariants_0 18 rfl rfl)
theorem dJ54_checkInvariants_21 : decode cJ54_checkInvariants 21 = .ok (.iconst 1, 1) := dk_4 (dk_at dksJ54_checkInvariants_0 21 rfl rfl)
theorem dJ54_checkInvariants_22 : decode cJ54_checkInvariants 22 = .ok (.isub, 1) := dk_100 (dk_at dksJ54_checkInvariants_0 22 rfl rfl)
theorem dJ54_checkInvariants_23 : decode cJ54_checkInvariants 23 = .ok (.laload, 1) := dk_47 (dk_at dksJ54_checkInvariants_0 23 rfl rfl)
theorem dJ54_checkInvariants_24 : decode cJ54_checkInvariants 24 = .ok (.lconst 0, 1) := dk_9 (dk_at dksJ54_checkInvariants_1 0 rfl rfl)
theorem dJ54_checkInvariants_25 : decode cJ54_checkInvariants 25 = .ok (.lcmp, 1) := dk_148 (dk_at dksJ54_checkInvariants_1 1 rfl rfl)
theorem dJ54_checkInvariants_26 : decode cJ54_checkInvariants 26 = .ok (.ifCond .ne 11, 3) := dk_154 0 11 (dk_at dksJ54_checkInvariants_1 2 rfl rfl)
theorem dJ54_checkInvariants_29 : decode cJ54_checkInvariants 29 = .ok (.new 15, 3) := dk_187 0 15 (dk_at dksJ54_checkInvariants_1 5 rfl rfl)
theorem dJ54_checkInvariants_32 : decode cJ54_checkInvariants 32 = .ok (.dup, 1) := dk_89 (dk_at dksJ54_checkInvariants_1 8 rfl rfl)
theorem dJ54_checkInvariants_33 : decode cJ54_checkInvariants 33 = .ok (.invokespecial 17, 3) := dk_183 0 17 (dk_at dksJ54_checkInvariants_1 9 rfl rfl)
theorem dJ54_checkInvariants_36 : decode cJ54_checkInvariants 36 = .ok (.athrow, 1) := dk_191 (dk_at dksJ54_checkInvariants_1 12 rfl rfl)
theorem dJ54_checkInvariants_37 : decode cJ54_checkInvariants 37 = .ok (.getstatic 3, 3) := dk_178 0 3 (dk_at dksJ54_checkInvariants_1 13 rfl rfl)
theorem dJ54_checkInvariants_40 : decode cJ54_checkInvariants 40 = .ok (.ifCond .ne 30, 3) := dk_154 0 30 (dk_at dksJ54_checkInvariants_1 16 rfl rfl)
theorem dJ54_checkInvariants_43 : decode cJ54_checkInvariants 43 = .ok (.aload_n 0, 1) := dk_42 (dk_at dksJ54_checkInvariants_1 19 rfl rfl)
theorem dJ54_checkInvariants_44 : decode cJ54_checkInvariants 44 = .ok (.getfield 7, 3) := dk_180 0 7 (dk_at dksJ54_checkInvariants_1 20 rfl rfl)
theorem dJ54_checkInvariants_47 : decode cJ54_checkInvariants 47 = .ok (.ifCond .lt 15, 3) := dk_155 0 15 (dk_at dksJ54_checkInvariants_2 0 rfl rfl)
theorem dJ54_checkInvariants_50 : decode cJ54_checkInvariants 50 = .ok (.aload_n 0, 1) := dk_42 (dk_at dksJ54_checkInvariants_2 3 rfl rfl)
theorem dJ54_checkInvariants_51 : decode cJ54_checkInvariants 51 = .ok (.getfield 7, 3) := dk_180 0 7 (dk_at dksJ54_checkInvariants_2 4 rfl rfl)
theorem dJ54_checkInvariants_54 : decode cJ54_checkInvariants 54 = .ok (.aload_n 0, 1) := dk_42 (dk_at dksJ54_checkInvariants_2 7 rfl rfl)
theorem dJ54_checkInvariants_55 : decode cJ54_checkInvariants 55 = .ok (.getfield 11, 3) := dk_180 0 11 (dk_at dksJ54_checkInvariants_2 8 rfl rfl)
theorem dJ54_checkInvariants_58 : decode cJ54_checkInvariants 58 = .ok (.arraylength, 1) := dk_190 (dk_at dksJ54_checkInvariants_2 11 rfl rfl)
theorem dJ54_checkInvariants_59 : decode cJ54_checkInvariants 59 = .ok (.if_icmp .le 11, 3) := dk_164 0 11 (dk_at dksJ54_checkInvariants_2 12 rfl rfl)
theorem dJ54_checkInvariants_62 : decode cJ54_checkInvariants 62 = .ok (.new 15, 3) := dk_187 0 15 (dk_at dksJ54_checkInvariants_2 15 rfl rfl)
theorem dJ54_checkInvariants_65 : decode cJ54_checkInvariants 65 = .ok (.dup, 1) := dk_89 (dk_at dksJ54_checkInvariants_2 18 rfl rfl)
theorem dJ54_checkInvariants_66 : decode cJ54_checkInvariants 66 = .ok (.invokespecial 17, 3) := dk_183 0 17 (dk_at dksJ54_checkInvariants_2 19 rfl rfl)
theorem dJ54_checkInvariants_69 : decode cJ54_checkInvariants 69 = .ok (.athrow, 1) := dk_191 (dk_at dksJ54_checkInvariants_2 22 rfl rfl)
theorem dJ54_checkInvariants_70 : decode cJ54_checkInvariants 70 = .ok (.getstatic 3, 3) := dk_178 0 3 (dk_at dksJ54_checkInvariants_3 0 rfl rfl)
theorem dJ54_checkInvariants_73 : decode cJ54_checkInvariants 73 = .ok (.ifCond .ne 37, 3) := dk_154 0 37 (dk_at dksJ54_checkInvariants_3 3 rfl rfl)
theorem dJ54_checkInvariants_76 : decode cJ54_checkInvariants 76 = .ok (.aload_n 0, 1) := dk_42 (dk_at dksJ54_checkInvariants_3 6 rfl rfl)
theorem dJ54_checkInvariants_77 : decode cJ54_checkInvariants 77 = .ok (.getfield 7, 3) := dk_180 0 7 (dk_at dksJ54_checkInvariants_3 7 rfl rfl)
theorem dJ54_checkInvariants_80 : decode cJ54_checkInvariants 80 = .ok (.aload_n 0, 1) := dk_42 (dk_at dksJ54_checkInvariants_3 10 rfl rfl)
theorem dJ54_checkInvariants_81 : decode cJ54_checkInvariants 81 = .ok (.getfield 11, 3) := dk_180 0 11 (dk_at dksJ54_checkInvariants_3 11 rfl rfl)
theorem dJ54_checkInvariants_84 : decode cJ54_checkInvariants 84 = .ok (.arraylength, 1) := dk_190 (dk_at dksJ54_checkInvariants_3 14 rfl rfl)
theorem dJ54_checkInvariants_85 : decode cJ54_checkInvariants 85 = .ok (.if_icmp .eq 25, 3) := dk_159 0 25 (dk_at dksJ54_checkInvariants_3 15 rfl rfl)
theorem dJ54_checkInvariants_88 : decode cJ54_checkInvariants 88 = .ok (.aload_n 0, 1) := dk_42 (dk_at dksJ54_checkInvariants_3 18 rfl rfl)
theorem dJ54_checkInvariants_89 : decode cJ54_checkInvariants 89 = .ok (.getfield 11, 3) := dk_180 0 11 (dk_at dksJ54_checkInvariants_3 19 rfl rfl)
theorem dJ54_checkInvariants_92 : decode cJ54_checkInvariants 92 = .ok (.aload_n 0, 1) := dk_42 (dk_at dksJ54_checkInvariants_3 22 rfl rfl)
theorem dJ54_checkInvariants_93 : decode cJ54_checkInvariants 93 = .ok (.getfield 7, 3) := dk_180 0 7 (dk_at dksJ54_checkInvariants_4 0 rfl rfl)
theorem dJ54_checkInvariants_96 : decode cJ54_checkInvariants 96 = .ok (.laload, 1) := dk_47 (dk_at dksJ54_checkInvariants_4 3 rfl rfl)
theorem dJ54_checkInvariants_97 : decode cJ54_checkInvariants 97 = .ok (.lconst 0, 1) := dk_9 (dk_at dksJ54_checkInvariants_4 4 rfl rfl)
theorem dJ54_checkInvariants_98 : decode cJ54_checkInvariants 98 = .ok (.lcmp, 1) := dk_148 (dk_at dksJ54_checkInvariants_4 5 rfl rfl)
theorem dJ54_checkInvariants_99 : decode cJ54_checkInvariants 99 = .ok (.ifCond .eq 11, 3) := dk_153 0 11 (dk_at dksJ54_checkInvariants_4 6 rfl rfl)
theorem dJ54_checkInvariants_102 : decode cJ54_checkInvariants 102 = .ok (.new 15, 3) := dk_187 0 15 (dk_at dksJ54_checkInvariants_4 9 rfl rfl)
theorem dJ54_checkInvariants_105 : decode cJ54_checkInvariants 105 = .ok (.dup, 1) := dk_89 (dk_at dksJ54_checkInvariants_4 12 rfl rfl)
theorem dJ54_checkInvariants_106 : decode cJ54_checkInvariants 106 = .ok (.invokespecial 17, 3) := dk_183 0 17 (dk_at dksJ54_checkInvariants_4 13 rfl rfl)
theorem dJ54_checkInvariants_109 : decode cJ54_checkInvariants 109 = .ok (.athrow, 1) := dk_191 (dk_at dksJ54_checkInvariants_4 16 rfl rfl)
theorem dJ54_checkInvariants_110 : decode cJ54_checkInvariants 110 = .ok (.return_, 1) := dk_177 (dk_at dksJ54_checkInvariants_4 17 rfl rfl)
abbrev cJ54_clear : ByteArray := prog_60_method_23_code
def yJ54_clear : MethodName := ⟨RJ54, "clear", "(I)V"⟩
def dkwJ54_clear_2 : List UInt8 := [180, 0, 11, 28, 92, 47, 10, 27, 121, 20, 0, 165, 131, 127, 80, 42, 182, 0, 158, 42, 182, 0, 56, 177]
abbrev dktJ54_clear_2 : List UInt8 := dkwJ54_clear_2 ++ []
def dkwJ54_clear_1 : List UInt8 := [182, 0, 45, 183, 0, 146, 191, 27, 184, 0, 52, 61, 28, 42, 180, 0, 7, 161, 0, 4, 177, 42]
abbrev dktJ54_clear_1 : List UInt8 := dkwJ54_clear_1 ++ dktJ54_clear_2
def dkwJ54_clear_0 : List UInt8 := [27, 156, 0, 30, 187, 0, 142, 89, 187, 0, 33, 89, 183, 0, 35, 18, 153, 182, 0, 38, 27, 182, 0, 42]
abbrev dktJ54_clear_0 : List UInt8 := dkwJ54_clear_0 ++ dktJ54_clear_1
theorem dksJ54_clear_0 : cJ54_clear.data.toList.drop 0 = dktJ54_clear_0 := by decide +kernel
theorem dksJ54_clear_1 : cJ54_clear.data.toList.drop 24 = dktJ54_clear_1 := dk_seg dksJ54_clear_0 24 rfl rfl
theorem dksJ54_clear_2 : cJ54_clear.data.toList.drop 46 = dktJ54_clear_2 := dk_seg dksJ54_clear_1 22 rfl rfl
theorem dJ54_clear_0 : decode cJ54_clear 0 = .ok (.iload_n 1, 1) := dk_27 (dk_at dksJ54_clear_0 0 rfl rfl)
theorem dJ54_clear_1 : decode cJ54_clear 1 = .ok (.ifCond .ge 30, 3) := dk_156 0 30 (dk_at dksJ54_clear_0 1 rfl rfl)
theorem dJ54_clear_4 : decode cJ54_clear 4 = .ok (.new 142, 3) := dk_187 0 142 (dk_at dksJ54_clear_0 4 rfl rfl)
theorem dJ54_clear_7 : decode cJ54_clear 7 = .ok (.dup, 1) := dk_89 (dk_at dksJ54_clear_0 7 rfl rfl)
theorem dJ54_clear_8 : decode cJ54_clear 8 = .ok (.new 33, 3) := dk_187 0 33 (dk_at dksJ54_clear_0 8 rfl rfl)
theorem dJ54_clear_11 : decode cJ54_clear 11 = .ok (.dup, 1) := dk_89 (dk_at dksJ54_clear_0 11 rfl rfl)
theorem dJ54_clear_12 : decode cJ54_clear 12 = .ok (.invokespecial 35, 3) := dk_183 0 35 (dk_at dksJ54_clear_0 12 rfl rfl)
theorem dJ54_clear_15 : decode cJ54_clear 15 = .ok (.ldc 153, 2) := dk_18 153 (dk_at dksJ54_clear_0 15 rfl rfl)
theorem dJ54_clear_17 : decode cJ54_clear 17 = .ok (.invokevirtual 38, 3) := dk_182 0 38 (dk_at dksJ54_clear_0 17 rfl rfl)
theorem dJ54_clear_20 : decode cJ54_clear 20 = .ok (.iload_n 1, 1) := dk_27 (dk_at dksJ54_clear_0 20 rfl rfl)
theorem dJ54_clear_21 : decode cJ54_clear 21 = .ok (.invokevirtual 42, 3) := dk_182 0 42 (dk_at dksJ54_clear_0 21 rfl rfl)
theorem dJ54_clear_24 : decode cJ54_clear 24 = .ok (.invokevirtual 45, 3) := dk_182 0 45 (dk_at dksJ54_clear_1 0 rfl rfl)
theorem dJ54_clear_27 : decode cJ54_clear 27 = .ok (.invokespecial 146, 3) := dk_183 0 146 (dk_at dksJ54_clear_1 3 rfl rfl)
theorem dJ54_clear_30 : decode cJ54_clear 30 = .ok (.athrow, 1) := dk_191 (dk_at dksJ54_clear_1 6 rfl rfl)
theorem dJ54_clear_31 : decode cJ54_clear 31 = .ok (.iload_n 1, 1) := dk_27 (dk_at dksJ54_clear_1 7 rfl rfl)
theorem dJ54_clear_32 : decode cJ54_clear 32 = .ok (.invokestatic 52, 3) := dk_184 0 52 (dk_at dksJ54_clear_1 8 rfl rfl)
theorem dJ54_clear_35 : decode cJ54_clear 35 = .ok (.istore_n 2, 1) := dk_61 (dk_at dksJ54_clear_1 11 rfl rfl)
theorem dJ54_clear_36 : decode cJ54_clear 36 = .ok (.iload_n 2, 1) := dk_28 (dk_at dksJ54_clear_1 12 rfl rfl)
theorem dJ54_clear_37 : decode cJ54_clear 37 = .ok (.aload_n 0, 1) := dk_42 (dk_at dksJ54_clear_1 13 rfl rfl)
theorem dJ54_clear_38 : decode cJ54_clear 38 = .ok (.getfield 7, 3) := dk_180 0 7 (dk_at dksJ54_clear_1 14 rfl rfl)
theorem dJ54_clear_41 : decode cJ54_clear 41 = .ok (.if_icmp .lt 4, 3) := dk_161 0 4 (dk_at dksJ54_clear_1 17 rfl rfl)
theorem dJ54_clear_44 : decode cJ54_clear 44 = .ok (.return_, 1) := dk_177 (dk_at dksJ54_clear_1 20 rfl rfl)
theorem dJ54_clear_45 : decode cJ54_clear 45 = .ok (.aload_n 0, 1) := dk_42 (dk_at dksJ54_clear_1 21 rfl rfl)
theorem dJ54_clear_46 : decode cJ54_clear 46 = .ok (.getfield 11, 3) := dk_180 0 11 (dk_at dksJ54_clear_2 0 rfl rfl)
theorem dJ54_clear_49 : decode cJ54_clear 49 = .ok (.iload_n 2, 1) := dk_28 (dk_at dksJ54_clear_2 3 rfl rfl)
theorem dJ54_clear_50 : decode cJ54_clear 50 = .ok (.dup2, 1) := dk_92 (dk_at dksJ54_clear_2 4 rfl rfl)
theorem dJ54_clear_51 : decode cJ54_clear 51 = .ok (.laload, 1) := dk_47 (dk_at dksJ54_clear_2 5 rfl rfl)
theorem dJ54_clear_52 : decode cJ54_clear 52 = .ok (.lconst 1, 1) := dk_10 (dk_at dksJ54_clear_2 6 rfl rfl)
theorem dJ54_clear_53 : decode cJ54_clear 53 = .ok (.iload_n 1, 1) := dk_27 (dk_at dksJ54_clear_2 7 rfl rfl)
theorem dJ54_clear_54 : decode cJ54_clear 54 = .ok (.lshl, 1) := dk_121 (dk_at dksJ54_clear_2 8 rfl rfl)
theorem dJ54_clear_55 : decode cJ54_clear 55 = .ok (.ldc2_w 165, 3) := dk_20 0 165 (dk_at dksJ54_clear_2 9 rfl rfl)
theorem dJ54_clear_58 : decode cJ54_clear 58 = .ok (.lxor, 1) := dk_131 (dk_at dksJ54_clear_2 12 rfl rfl)
theorem dJ54_clear_59 : decode cJ54_clear 59 = .ok (.land, 1) := dk_127 (dk_at dksJ54_clear_2 13 rfl rfl)
theorem dJ54_clear_60 : decode cJ54_clear 60 = .ok (.lastore, 1) := dk_80 (dk_at dksJ54_clear_2 14 rfl rfl)
theorem dJ54_clear_61 : decode cJ54_clear 61 = .ok (.aload_n 0, 1) := dk_42 (dk_at dksJ54_clear_2 15 rfl rfl)
theorem dJ54_clear_62 : decode cJ54_clear 62 = .ok (.invokevirtual 158, 3) := dk_182 0 158 (dk_at dksJ54_clear_2 16 rfl rfl)
theorem dJ54_clear_65 : decode cJ54_clear 65 = .ok (.aload_n 0, 1) := dk_42 (dk_at dksJ54_clear_2 19 rfl rfl)
theorem dJ54_clear_66 : decode cJ54_clear 66 = .ok (.invokevirtual 56, 3) := dk_182 0 56 (dk_at dksJ54_clear_2 20 rfl rfl)
theorem dJ54_clear_69 : decode cJ54_clear 69 = .ok (.return_, 1) := dk_177 (dk_at dksJ54_clear_2 23 rfl rfl)
abbrev cJ54_recalculateWordsInUse : ByteArray := prog_60_method_3_code
def yJ54_recalculateWordsInUse : MethodName := ⟨RJ54, "recalculateWordsInUse", "()V"⟩
def dkwJ54_recalculateWordsInUse_1 : List UInt8 := [167, 0, 9, 132, 1, 255, 167, 255, 235, 42, 27, 4, 96, 181, 0, 7, 177]
abbrev dktJ54_recalculateWordsInUse_1 : List UInt8 := dkwJ54_recalculateWordsInUse_1 ++ []
def dkwJ54_recalculateWordsInUse_0 : List UInt8 := [42, 180, 0, 7, 4, 100, 60, 27, 155, 0, 23, 42, 180, 0, 11, 27, 47, 9, 148, 153, 0, 6]
abbrev dktJ54_recalculateWordsInUse_0 : List UInt8 := dkwJ54_recalculateWordsInUse_0 ++ dktJ54_recalculateWordsInUse_1
theorem dksJ54_recalculateWordsInUse_0 : cJ54_recalculateWordsInUse.data.toList.drop 0 = dktJ54_recalculateWordsInUse_0 := by decide +kernel
theorem dksJ54_recalculateWordsInUse_1 : cJ54_recalculateWordsInUse.data.toList.drop 22 = dktJ54_recalculateWordsInUse_1 := dk_seg dksJ54_recalculateWordsInUse_0 22 rfl rfl
theorem dJ54_recalculateWordsInUse_0 : decode cJ54_recalculateWordsInUse 0 = .ok (.aload_n 0, 1) := dk_42 (dk_at dksJ54_recalculateWordsInUse_0 0 rfl rfl)
theorem dJ54_recalculateWordsInUse_1 : decode cJ54_recalculateWordsInUse 1 = .ok (.getfield 7, 3) := dk_180 0 7 (dk_at dksJ54_recalculateWordsInUse_0 1 rfl rfl)
theorem dJ54_recalculateWordsInUse_4 : decode cJ54_recalculateWordsInUse 4 = .ok (.iconst 1, 1) := dk_4 (dk_at dksJ54_recalculateWordsInUse_0 4 rfl rfl)
theorem dJ54_recalculateWordsInUse_5 : decode cJ54_recalculateWordsInUse 5 = .ok (.isub, 1) := dk_100 (dk_at dksJ54_recalculateWordsInUse_0 5 rfl rfl)
theorem dJ54_recalculateWordsInUse_6 : decode cJ54_recalculateWordsInUse 6 = .ok (.istore_n 1, 1) := dk_60 (dk_at dksJ54_recalculateWordsInUse_0 6 rfl rfl)
theorem dJ54_recalculateWordsInUse_7 : decode cJ54_recalculateWordsInUse 7 = .ok (.iload_n 1, 1) := dk_27 (dk_at dksJ54_recalculateWordsInUse_0 7 rfl rfl)
theorem dJ54_recalculateWordsInUse_8 : decode cJ54_recalculateWordsInUse 8 = .ok (.ifCond .lt 23, 3) := dk_155 0 23 (dk_at dksJ54_recalculateWordsInUse_0 8 rfl rfl)
theorem dJ54_recalculateWordsInUse_11 : decode cJ54_recalculateWordsInUse 11 = .ok (.aload_n 0, 1) := dk_42 (dk_at dksJ54_recalculateWordsInUse_0 11 rfl rfl)
theorem dJ54_recalculateWordsInUse_12 : decode cJ54_recalculateWordsInUse 12 = .ok (.getfield 11, 3) := dk_180 0 11 (dk_at dksJ54_recalculateWordsInUse_0 12 rfl rfl)
theorem dJ54_recalculateWordsInUse_15 : decode cJ54_recalculateWordsInUse 15 = .ok (.iload_n 1, 1) := dk_27 (dk_at dksJ54_recalculateWordsInUse_0 15 rfl rfl)
theorem dJ54_recalculateWordsInUse_16 : decode cJ54_recalculateWordsInUse 16 = .ok (.laload, 1) := dk_47 (dk_at dksJ54_recalculateWordsInUse_0 16 rfl rfl)
theorem dJ54_recalculateWordsInUse_17 : decode cJ54_recalculateWordsInUse 17 = .ok (.lconst 0, 1) := dk_9 (dk_at dksJ54_recalculateWordsInUse_0 17 rfl rfl)
theorem dJ54_recalculateWordsInUse_18 : decode cJ54_recalculateWordsInUse 18 = .ok (.lcmp, 1) := dk_148 (dk_at dksJ54_recalculateWordsInUse_0 18 rfl rfl)
theorem dJ54_recalculateWordsInUse_19 : decode cJ54_recalculateWordsInUse 19 = .ok (.ifCond .eq 6, 3) := dk_153 0 6 (dk_at dksJ54_recalculateWordsInUse_0 19 rfl rfl)
theorem dJ54_recalculateWordsInUse_22 : decode cJ54_recalculateWordsInUse 22 = .ok (.goto 9, 3) := dk_167 0 9 (dk_at dksJ54_recalculateWordsInUse_1 0 rfl rfl)
theorem dJ54_recalculateWordsInUse_25 : decode cJ54_recalculateWordsInUse 25 = .ok (.iinc 1 (-1), 3) := dk_132 1 255 (dk_at dksJ54_recalculateWordsInUse_1 3 rfl rfl)
theorem dJ54_recalculateWordsInUse_28 : decode cJ54_recalculateWordsInUse 28 = .ok (.goto (-21), 3) := dk_167 255 235 (dk_at dksJ54_recalculateWordsInUse_1 6 rfl rfl)
theorem dJ54_recalculateWordsInUse_31 : decode cJ54_recalculateWordsInUse 31 = .ok (.aload_n 0, 1) := dk_42 (dk_at dksJ54_recalculateWordsInUse_1 9 rfl rfl)
theorem dJ54_recalculateWordsInUse_32 : decode cJ54_recalculateWordsInUse 32 = .ok (.iload_n 1, 1) := dk_27 (dk_at dksJ54_recalculateWordsInUse_1 10 rfl rfl)
theorem dJ54_recalculateWordsInUse_33 : decode cJ54_recalculateWordsInUse 33 = .ok (.iconst 1, 1) := dk_4 (dk_at dksJ54_recalculateWordsInUse_1 11 rfl rfl)
theorem dJ54_recalculateWordsInUse_34 : decode cJ54_recalculateWordsInUse 34 = .ok (.iadd, 1) := dk_96 (dk_at dksJ54_recalculateWordsInUse_1 12 rfl rfl)
theorem dJ54_recalculateWordsInUse_35 : decode cJ54_recalculateWordsInUse 35 = .ok (.putfield 7, 3) := dk_181 0 7 (dk_at dksJ54_recalculateWordsInUse_1 13 rfl rfl)
theorem dJ54_recalculateWordsInUse_38 : decode cJ54_recalculateWordsInUse 38 = .ok (.return_, 1) := dk_177 (dk_at dksJ54_recalculateWordsInUse_1 16 rfl rfl)
abbrev cJ54_cardinality : ByteArray := prog_60_method_35_code
def yJ54_cardinality : MethodName := ⟨RJ54, "cardinality", "()I"⟩
def dkwJ54_cardinality_1 : List UInt8 := [132, 2, 1, 167, 255, 233, 27, 172]
abbrev dktJ54_cardinality_1 : List UInt8 := dkwJ54_cardinality_1 ++ []
def dkwJ54_cardinality_0 : List UInt8 := [3, 60, 3, 61, 28, 42, 180, 0, 7, 162, 0, 21, 27, 42, 180, 0, 11, 28, 47, 184, 0, 196, 96, 60]
abbrev dktJ54_cardinality_0 : List UInt8 := dkwJ54_cardinality_0 ++ dktJ54_cardinality_1
theorem dksJ54_cardinality_0 : cJ54_cardinality.data.toList.drop 0 = dktJ54_cardinality_0 := by decide +kernel
theorem dksJ54_cardinality_1 : cJ54_cardinality.data.toList.drop 24 = dktJ54_cardinality_1 := dk_seg dksJ54_cardinality_0 24 rfl rfl
theorem dJ54_cardinality_0 : decode cJ54_cardinality 0 = .ok (.iconst 0, 1) := dk_3 (dk_at dksJ54_cardinality_0 0 rfl rfl)
theorem dJ54_cardinality_1 : decode cJ54_cardinality 1 = .ok (.istore_n 1, 1) := dk_60 (dk_at dksJ54_cardinality_0 1 rfl rfl)
theorem dJ54_cardinality_2 : decode cJ54_cardinality 2 = .ok (.iconst 0, 1) := dk_3 (dk_at dksJ54_cardinality_0 2 rfl rfl)
theorem dJ54_cardinality_3 : decode cJ54_cardinality 3 = .ok (.istore_n 2, 1) := dk_61 (dk_at dksJ54_cardinality_0 3 rfl rfl)
theorem dJ54_cardinality_4 : decode cJ54_cardinality 4 = .ok (.iload_n 2, 1) := dk_28 (dk_at dksJ54_cardinality_0 4 rfl rfl)
theorem dJ54_cardinality_5 : decode cJ54_cardinality 5 = .ok (.aload_n 0, 1) := dk_42 (dk_at dksJ54_cardinality_0 5 rfl rfl)
theorem dJ54_cardinality_6 : decode cJ54_cardinality 6 = .ok (.getfield 7, 3) := dk_180 0 7 (dk_at dksJ54_cardinality_0 6 rfl rfl)
theorem dJ54_cardinality_9 : decode cJ54_cardinality 9 = .ok (.if_icmp .ge 21, 3) := dk_162 0 21 (dk_at dksJ54_cardinality_0 9 rfl rfl)
theorem dJ54_cardinality_12 : decode cJ54_cardinality 12 = .ok (.iload_n 1, 1) := dk_27 (dk_at dksJ54_cardinality_0 12 rfl rfl)
theorem dJ54_cardinality_13 : decode cJ54_cardinality 13 = .ok (.aload_n 0, 1) := dk_42 (dk_at dksJ54_cardinality_0 13 rfl rfl)
theorem dJ54_cardinality_14 : decode cJ54_cardinality 14 = .ok (.getfield 11, 3) := dk_180 0 11 (dk_at dksJ54_cardinality_0 14 rfl rfl)
theorem dJ54_cardinality_17 : decode cJ54_cardinality 17 = .ok (.iload_n 2, 1) := dk_28 (dk_at dksJ54_cardinality_0 17 rfl rfl)
theorem dJ54_cardinality_18 : decode cJ54_cardinality 18 = .ok (.laload, 1) := dk_47 (dk_at dksJ54_cardinality_0 18 rfl rfl)
theorem dJ54_cardinality_19 : decode cJ54_cardinality 19 = .ok (.invokestatic 196, 3) := dk_184 0 196 (dk_at dksJ54_cardinality_0 19 rfl rfl)
theorem dJ54_cardinality_22 : decode cJ54_cardinality 22 = .ok (.iadd, 1) := dk_96 (dk_at dksJ54_cardinality_0 22 rfl rfl)
theorem dJ54_cardinality_23 : decode cJ54_cardinality 23 = .ok (.istore_n 1, 1) := dk_60 (dk_at dksJ54_cardinality_0 23 rfl rfl)
theorem dJ54_cardinality_24 : decode cJ54_cardinality 24 = .ok (.iinc 2 1, 3) := dk_132 2 1 (dk_at dksJ54_cardinality_1 0 rfl rfl)
theorem dJ54_cardinality_27 : decode cJ54_cardinality 27 = .ok (.goto (-23), 3) := dk_167 255 233 (dk_at dksJ54_cardinality_1 3 rfl rfl)
theorem dJ54_cardinality_30 : decode cJ54_cardinality 30 = .ok (.iload_n 1, 1) := dk_27 (dk_at dksJ54_cardinality_1 6 rfl rfl)
theorem dJ54_cardinality_31 : decode cJ54_cardinality 31 = .ok (.ireturn, 1) := dk_172 (dk_at dksJ54_cardinality_1 7 rfl rfl)
abbrev cJ54_nextSetBit : ByteArray := prog_60_method_28_code
def yJ54_nextSetBit : MethodName := ⟨RJ54, "nextSetBit", "(I)I"⟩
def dkwJ54_nextSetBit_4 : List UInt8 := [28, 47, 66, 167, 255, 220]
abbrev dktJ54_nextSetBit_4 : List UInt8 := dkwJ54_nextSetBit_4 ++ []
def dkwJ54_nextSetBit_3 : List UInt8 := [104, 33, 184, 0, 182, 96, 172, 132, 2, 1, 28, 42, 180, 0, 7, 160, 0, 5, 2, 172, 42, 180, 0, 11]
abbrev dktJ54_nextSetBit_3 : List UInt8 := dkwJ54_nextSetBit_3 ++ dktJ54_nextSetBit_4
def dkwJ54_nextSetBit_2 : List UInt8 := [2, 172, 42, 180, 0, 11, 28, 47, 20, 0, 165, 27, 121, 127, 66, 33, 9, 148, 153, 0, 13, 28, 16, 64]
abbrev dktJ54_nextSetBit_2 : List UInt8 := dkwJ54_nextSetBit_2 ++ dktJ54_nextSetBit_3
def dkwJ54_nextSetBit_1 : List UInt8 := [182, 0, 45, 183, 0, 146, 191, 42, 182, 0, 56, 27, 184, 0, 52, 61, 28, 42, 180, 0, 7, 161, 0, 5]
abbrev dktJ54_nextSetBit_1 : List UInt8 := dkwJ54_nextSetBit_1 ++ dktJ54_nextSetBit_2
def dkwJ54_nextSetBit_0 : List UInt8 := [27, 156, 0, 30, 187, 0, 142, 89, 187, 0, 33, 89, 183, 0, 35, 18, 144, 182, 0, 38, 27, 182, 0, 42]
abbrev dktJ54_nextSetBit_0 : List UInt8 := dkwJ54_nextSetBit_0 ++ dktJ54_nextSetBit_1
theorem dksJ54_nextSetBit_0 : cJ54_nextSetBit.data.toList.drop 0 = dktJ54_nextSetBit_0 := by decide +kernel
theorem dksJ54_nextSetBit_1 : cJ54_nextSetBit.data.toList.drop 24 = dktJ54_nextSetBit_1 := dk_seg dksJ54_nextSetBit_0 24 rfl rfl
theorem dksJ54_nextSetBit_2 : cJ54_nextSetBit.data.toList.drop 48 = dktJ54_nextSetBit_2 := dk_seg dksJ54_nextSetBit_1 24 rfl rfl
theorem dksJ54_nextSetBit_3 : cJ54_nextSetBit.data.toList.drop 72 = dktJ54_nextSetBit_3 := dk_seg dksJ54_nextSetBit_2 24 rfl rfl
theorem dksJ54_nextSetBit_4 : cJ54_nextSetBit.data.toList.drop 96 = dktJ54_nextSetBit_4 := dk_seg dksJ54_nextSetBit_3 24 rfl rfl
theorem dJ54_nextSetBit_0 : decode cJ54_nextSetBit 0 = .ok (.iload_n 1, 1) := dk_27 (dk_at dksJ54_nextSetBit_0 0 rfl rfl)
theorem dJ54_nextSetBit_1 : decode cJ54_nextSetBit 1 = .ok (.ifCond .ge 30, 3) := dk_156 0 30 (dk_at dksJ54_nextSetBit_0 1 rfl rfl)
theorem dJ54_nextSetBit_4 : decode cJ54_nextSetBit 4 = .ok (.new 142, 3) := dk_187 0 142 (dk_at dksJ54_nextSetBit_0 4 rfl rfl)
theorem dJ54_nextSetBit_7 : decode cJ54_nextSetBit 7 = .ok (.dup, 1) := dk_89 (dk_at dksJ54_nextSetBit_0 7 rfl rfl)
theorem dJ54_nextSetBit_8 : decode cJ54_nextSetBit 8 = .ok (.new 33, 3) := dk_187 0 33 (dk_at dksJ54_nextSetBit_0 8 rfl rfl)
theorem dJ54_nextSetBit_11 : decode cJ54_nextSetBit 11 = .ok (.dup, 1) := dk_89 (dk_at dksJ54_nextSetBit_0 11 rfl rfl)
theorem dJ54_nextSetBit_12 : decode cJ54_nextSetBit 12 = .ok (.invokespecial 35, 3) := dk_183 0 35 (dk_at dksJ54_nextSetBit_0 12 rfl rfl)
theorem dJ54_nextSetBit_15 : decode cJ54_nextSetBit 15 = .ok (.ldc 144, 2) := dk_18 144 (dk_at dksJ54_nextSetBit_0 15 rfl rfl)
theorem dJ54_nextSetBit_17 : decode cJ54_nextSetBit 17 = .ok (.invokevirtual 38, 3) := dk_182 0 38 (dk_at dksJ54_nextSetBit_0 17 rfl rfl)
theorem dJ54_nextSetBit_20 : decode cJ54_nextSetBit 20 = .ok (.iload_n 1, 1) := dk_27 (dk_at dksJ54_nextSetBit_0 20 rfl rfl)
theorem dJ54_nextSetBit_21 : decode cJ54_nextSetBit 21 = .ok (.invokevirtual 42, 3) := dk_182 0 42 (dk_at dksJ54_nextSetBit_0 21 rfl rfl)
theorem dJ54_nextSetBit_24 : decode cJ54_nextSetBit 24 = .ok (.invokevirtual 45, 3) := dk_182 0 45 (dk_at dksJ54_nextSetBit_1 0 rfl rfl)
theorem dJ54_nextSetBit_27 : decode cJ54_nextSetBit 27 = .ok (.invokespecial 146, 3) := dk_183 0 146 (dk_at dksJ54_nextSetBit_1 3 rfl rfl)
theorem dJ54_nextSetBit_30 : decode cJ54_nextSetBit 30 = .ok (.athrow, 1) := dk_191 (dk_at dksJ54_nextSetBit_1 6 rfl rfl)
theorem dJ54_nextSetBit_31 : decode cJ54_nextSetBit 31 = .ok (.aload_n 0, 1) := dk_42 (dk_at dksJ54_nextSetBit_1 7 rfl rfl)
theorem dJ54_nextSetBit_32 : decode cJ54_nextSetBit 32 = .ok (.invokevirtual 56, 3) := dk_182 0 56 (dk_at dksJ54_nextSetBit_1 8 rfl rfl)
theorem dJ54_nextSetBit_35 : decode cJ54_nextSetBit 35 = .ok (.iload_n 1, 1) := dk_27 (dk_at dksJ54_nextSetBit_1 11 rfl rfl)
theorem dJ54_nextSetBit_36 : decode cJ54_nextSetBit 36 = .ok (.invokestatic 52, 3) := dk_184 0 52 (dk_at dksJ54_nextSetBit_1 12 rfl rfl)
theorem dJ54_nextSetBit_39 : decode cJ54_nextSetBit 39 = .ok (.istore_n 2, 1) := dk_61 (dk_at dksJ54_nextSetBit_1 15 rfl rfl)
theorem dJ54_nextSetBit_40 : decode cJ54_nextSetBit 40 = .ok (.iload_n 2, 1) := dk_28 (dk_at dksJ54_nextSetBit_1 16 rfl rfl)
theorem dJ54_nextSetBit_41 : decode cJ54_nextSetBit 41 = .ok (.aload_n 0, 1) := dk_42 (dk_at dksJ54_nextSetBit_1 17 rfl rfl)
theorem dJ54_nextSetBit_42 : decode cJ54_nextSetBit 42 = .ok (.getfield 7, 3) := dk_180 0 7 (dk_at dksJ54_nextSetBit_1 18 rfl rfl)
theorem dJ54_nextSetBit_45 : decode cJ54_nextSetBit 45 = .ok (.if_icmp .lt 5, 3) := dk_161 0 5 (dk_at dksJ54_nextSetBit_1 21 rfl rfl)
theorem dJ54_nextSetBit_48 : decode cJ54_nextSetBit 48 = .ok (.iconst (-1), 1) := dk_2 (dk_at dksJ54_nextSetBit_2 0 rfl rfl)
theorem dJ54_nextSetBit_49 : decode cJ54_nextSetBit 49 = .ok (.ireturn, 1) := dk_172 (dk_at dksJ54_nextSetBit_2 1 rfl rfl)
theorem dJ54_nextSetBit_50 : decode cJ54_nextSetBit 50 = .ok (.aload_n 0, 1) := dk_42 (dk_at dksJ54_nextSetBit_2 2 rfl rfl)
theorem dJ54_nextSetBit_51 : decode cJ54_nextSetBit 51 = .ok (.getfield 11, 3) := dk_180 0 11 (dk_at dksJ54_nextSetBit_2 3 rfl rfl)
theorem dJ54_nextSetBit_54 : decode cJ54_nextSetBit 54 = .ok (.iload_n 2, 1) := dk_28 (dk_at dksJ54_nextSetBit_2 6 rfl rfl)
theorem dJ54_nextSetBit_55 : decode cJ54_nextSetBit 55 = .ok (.laload, 1) := dk_47 (dk_at dksJ54_nextSetBit_2 7 rfl rfl)
theorem dJ54_nextSetBit_56 : decode cJ54_nextSetBit 56 = .ok (.ldc2_w 165, 3) := dk_20 0 165 (dk_at dksJ54_nextSetBit_2 8 rfl rfl)
theorem dJ54_nextSetBit_59 : decode cJ54_nextSetBit 59 = .ok (.iload_n 1, 1) := dk_27 (dk_at dksJ54_nextSetBit_2 11 rfl rfl)
theorem dJ54_nextSetBit_60 : decode cJ54_nextSetBit 60 = .ok (.lshl, 1) := dk_121 (dk_at dksJ54_nextSetBit_2 12 rfl rfl)
theorem dJ54_nextSetBit_61 : decode cJ54_nextSetBit 61 = .ok (.land, 1) := dk_127 (dk_at dksJ54_nextSetBit_2 13 rfl rfl)
theorem dJ54_nextSetBit_62 : decode cJ54_nextSetBit 62 = .ok (.lstore_n 3, 1) := dk_66 (dk_at dksJ54_nextSetBit_2 14 rfl rfl)
theorem dJ54_nextSetBit_63 : decode cJ54_nextSetBit 63 = .ok (.lload_n 3, 1) := dk_33 (dk_at dksJ54_nextSetBit_2 15 rfl rfl)
theorem dJ54_nextSetBit_64 : decode cJ54_nextSetBit 64 = .ok (.lconst 0, 1) := dk_9 (dk_at dksJ54_nextSetBit_2 16 rfl rfl)
theorem dJ54_nextSetBit_65 : decode cJ54_nextSetBit 65 = .ok (.lcmp, 1) := dk_148 (dk_at dksJ54_nextSetBit_2 17 rfl rfl)
theorem dJ54_nextSetBit_66 : decode cJ54_nextSetBit 66 = .ok (.ifCond .eq 13, 3) := dk_153 0 13 (dk_at dksJ54_nextSetBit_2 18 rfl rfl)
theorem dJ54_nextSetBit_69 : decode cJ54_nextSetBit 69 = .ok (.iload_n 2, 1) := dk_28 (dk_at dksJ54_nextSetBit_2 21 rfl rfl)
theorem dJ54_nextSetBit_70 : decode cJ54_nextSetBit 70 = .ok (.bipush 64, 2) := dk_16 64 (dk_at dksJ54_nextSetBit_2 22 rfl rfl)
theorem dJ54_nextSetBit_72 : decode cJ54_nextSetBit 72 = .ok (.imul, 1) := dk_104 (dk_at dksJ54_nextSetBit_3 0 rfl rfl)
theorem dJ54_nextSetBit_73 : decode cJ54_nextSetBit 73 = .ok (.lload_n 3, 1) := dk_33 (dk_at dksJ54_nextSetBit_3 1 rfl rfl)
theorem dJ54_nextSetBit_74 : decode cJ54_nextSetBit 74 = .ok (.invokestatic 182, 3) := dk_184 0 182 (dk_at dksJ54_nextSetBit_3 2 rfl rfl)
theorem dJ54_nextSetBit_77 : decode cJ54_nextSetBit 77 = .ok (.iadd, 1) := dk_96 (dk_at dksJ54_nextSetBit_3 5 rfl rfl)
theorem dJ54_nextSetBit_78 : decode cJ54_nextSetBit 78 = .ok (.ireturn, 1) := dk_172 (dk_at dksJ54_nextSetBit_3 6 rfl rfl)
theorem dJ54_nextSetBit_79 : decode cJ54_nextSetBit 79 = .ok (.iinc 2 1, 3) := dk_132 2 1 (dk_at dksJ54_nextSetBit_3 7 rfl rfl)
theorem dJ54_nextSetBit_82 : decode cJ54_nextSetBit 82 = .ok (.iload_n 2, 1) := dk_28 (dk_at dksJ54_nextSetBit_3 10 rfl rfl)
theorem dJ54_nextSetBit_83 : decode cJ54_nextSetBit 83 = .ok (.aload_n 0, 1) := dk_42 (dk_at dksJ54_nextSetBit_3 11 rfl rfl)
theorem dJ54_nextSetBit_84 : decode cJ54_nextSetBit 84 = .ok (.getfield 7, 3) := dk_180 0 7 (dk_at dksJ54_nextSetBit_3 12 rfl rfl)
theorem dJ54_nextSetBit_87 : decode cJ54_nextSetBit 87 = .ok (.if_icmp .ne 5, 3) := dk_160 0 5 (dk_at dksJ54_nextSetBit_3 15 rfl rfl)
theorem dJ54_nextSetBit_90 : decode cJ54_nextSetBit 90 = .ok (.iconst (-1), 1) := dk_2 (dk_at dksJ54_nextSetBit_3 18 rfl rfl)
theorem dJ54_nextSetBit_91 : decode cJ54_nextSetBit 91 = .ok (.ireturn, 1) := dk_172 (dk_at dksJ54_nextSetBit_3 19 rfl rfl)
theorem dJ54_nextSetBit_92 : decode cJ54_nextSetBit 92 = .ok (.aload_n 0, 1) := dk_42 (dk_at dksJ54_nextSetBit_3 20 rfl rfl)
theorem dJ54_nextSetBit_93 : decode cJ54_nextSetBit 93 = .ok (.getfield 11, 3) := dk_180 0 11 (dk_at dksJ54_nextSetBit_3 21 rfl rfl)
theorem dJ54_nextSetBit_96 : decode cJ54_nextSetBit 96 = .ok (.iload_n 2, 1) := dk_28 (dk_at dksJ54_nextSetBit_4 0 rfl rfl)
theorem dJ54_nextSetBit_97 : decode cJ54_nextSetBit 97 = .ok (.laload, 1) := dk_47 (dk_at dksJ54_nextSetBit_4 1 rfl rfl)
theorem dJ54_nextSetBit_98 : decode cJ54_nextSetBit 98 = .ok (.lstore_n 3, 1) := dk_66 (dk_at dksJ54_nextSetBit_4 2 rfl rfl)
theorem dJ54_nextSetBit_99 : decode cJ54_nextSetBit 99 = .ok (.goto (-36), 3) := dk_167 255 220 (dk_at dksJ54_nextSetBit_4 3 rfl rfl)
theorem q171 : (Jvm.Cond.initialized "java/util/BitSet") ∈ lw_all := lw_g (lw_at lw_m1 70 rfl) rfl
theorem q419 : (Jvm.Cond.selects "java/util/BitSet" ({ cls := "java/lang/Object", name := "getClass", desc := "()Ljava/lang/Class;" } : Jvm.MethodName) ({ cls := "java/lang/Object", name := "getClass", desc := "()Ljava/lang/Class;" } : Jvm.MethodName)) ∈ lw_all := lw_g (lw_at lw_m2 78 rfl) rfl
theorem q3314 : (Jvm.Cond.instantiable "java/util/BitSet" (3 : Nat)) ∈ lw_all := lw_g (lw_at lw_m14 93 rfl) rfl
theorem q3316 : (Jvm.Cond.instanceMethod ({ cls := "java/util/BitSet", name := "<init>", desc := "()V" } : Jvm.MethodName)) ∈ lw_all := lw_g (lw_at lw_m14 95 rfl) rfl
theorem q3317 : (Jvm.Cond.code ({ cls := "java/util/BitSet", name := "<init>", desc := "()V" } : Jvm.MethodName) prog_60_method_4_code (1 : Nat) (Option.none : Option Jvm.ClassFile.FieldType)) ∈ lw_all := lw_g (lw_at lw_m14 96 rfl) rfl
theorem q3318 : (Jvm.Cond.methodLink "java/util/BitSet" (21 : Nat) ({ cls := "java/lang/Object", name := "<init>", desc := "()V" } : Jvm.MethodName)) ∈ lw_all := lw_g (lw_at lw_m14 97 rfl) rfl
theorem q3319 : (Jvm.Cond.methodLink "java/util/BitSet" (27 : Nat) ({ cls := "java/util/BitSet", name := "initWords", desc := "(I)V" } : Jvm.MethodName)) ∈ lw_all := lw_g (lw_at lw_m14 98 rfl) rfl
theorem q3320 : (Jvm.Cond.privateMethod ({ cls := "java/util/BitSet", name := "initWords", desc := "(I)V" } : Jvm.MethodName)) ∈ lw_tbl := lw_at lw_m14 99 rfl
theorem q3321 : (Jvm.Cond.instanceMethod ({ cls := "java/util/BitSet", name := "initWords", desc := "(I)V" } : Jvm.MethodName)) ∈ lw_all := lw_g (lw_at lw_m14 100 rfl) rfl
theorem q3322 : (Jvm.Cond.code ({ cls := "java/util/BitSet", name := "initWords", desc := "(I)V" } : Jvm.MethodName) prog_60_method_6_code (2 : Nat) (Option.none : Option Jvm.ClassFile.FieldType)) ∈ lw_all := lw_g (lw_at lw_m14 101 rfl) rfl
theorem q3323 : (Jvm.Cond.methodLink "java/util/BitSet" (52 : Nat) ({ cls := "java/util/BitSet", name := "wordIndex", desc := "(I)I" } : Jvm.MethodName)) ∈ lw_all := lw_g (lw_at lw_m14 102 rfl) rfl
theorem q3324 : (Jvm.Cond.static ({ cls := "java/util/BitSet", name := "wordIndex", desc := "(I)I" } : Jvm.MethodName)) ∈ lw_all := lw_g (lw_at lw_m14 103 rfl) rfl
theorem q3325 : (Jvm.Cond.code ({ cls := "java/util/BitSet", name := "wordIndex", desc := "(I)I" } : Jvm.MethodName) prog_60_method_1_code (1 : Nat) (Option.some Jvm.ClassFile.FieldType.int)) ∈ lw_all := lw_g (lw_at lw_m14 104 rfl) rfl
theorem q3326 : (Jvm.Cond.fieldLink "java/util/BitSet" (11 : Nat) "java/util/BitSet" "words" "[J") ∈ lw_all := lw_g (lw_at lw_m14 105 rfl) rfl
theorem q3327 : (Jvm.Cond.fieldLink "java/util/BitSet" (7 : Nat) "java/util/BitSet" "wordsInUse" "I") ∈ lw_all := lw_g (lw_at lw_m14 106 rfl) rfl
theorem q3328 : (Jvm.Cond.fieldLink "java/util/BitSet" (24 : Nat) "java/util/BitSet" "sizeIsSticky" "Z") ∈ lw_all := lw_g (lw_at lw_m14 107 rfl) rfl
theorem q3329 : (Jvm.Cond.lays "java/util/BitSet" "java/util/BitSet" "words" "[J") ∈ lw_all := lw_g (lw_at lw_m14 108 rfl) rfl
theorem q3330 : (Jvm.Cond.soleField "java/util/BitSet" "words") ∈ lw_all := lw_g (lw_at lw_m14 109 rfl) rfl
theorem q3331 : (Jvm.Cond.lays "java/util/BitSet" "java/util/BitSet" "wordsInUse" "I") ∈ lw_all := lw_g (lw_at lw_m14 110 rfl) rfl
theorem q3332 : (Jvm.Cond.soleField "java/util/BitSet" "wordsInUse") ∈ lw_all := lw_g (lw_at lw_m14 111 rfl) rfl
theorem q3333 : (Jvm.Cond.lays "java/util/BitSet" "java/util/BitSet" "sizeIsSticky" "Z") ∈ lw_all := lw_g (lw_at lw_m14 112 rfl) rfl
theorem q3334 : (Jvm.Cond.soleField "java/util/BitSet" "sizeIsSticky") ∈ lw_all := lw_g (lw_at lw_m14 113 rfl) rfl
theorem q3335 : (Jvm.Cond.superclass "java/util/BitSet" "java/lang/Object") ∈ lw_all := lw_g (lw_at lw_m14 114 rfl) rfl
theorem q3337 : (Jvm.Cond.instanceMethod ({ cls := "java/util/BitSet", name := "set", desc := "(IZ)V" } : Jvm.MethodName)) ∈ lw_all := lw_g (lw_at lw_m14 116 rfl) rfl
theorem q3338 : (Jvm.Cond.selects "java/util/BitSet" ({ cls := "java/util/BitSet", name := "set", desc := "(IZ)V" } : Jvm.MethodName) ({ cls := "java/util/BitSet", name := "set", desc := "(IZ)V" } : Jvm.MethodName)) ∈ lw_all := lw_g (lw_at lw_m14 117 rfl) rfl
theorem q3339 : (Jvm.Cond.code ({ cls := "java/util/BitSet", name := "set", desc := "(IZ)V" } : Jvm.MethodName) prog_60_method_20_code (3 : Nat) (Option.none : Option Jvm.ClassFile.FieldType)) ∈ lw_all := lw_g (lw_at lw_m14 118 rfl) rfl
theorem q3340 : (Jvm.Cond.methodLink "java/util/BitSet" (167 : Nat) ({ cls := "java/util/BitSet", name := "set", desc := "(I)V" } : Jvm.MethodName)) ∈ lw_all := lw_g (lw_at lw_m14 119 rfl) rfl
theorem q3341 : (Jvm.Cond.instanceMethod ({ cls := "java/util/BitSet", name := "set", desc := "(I)V" } : Jvm.MethodName)) ∈ lw_all := lw_g (lw_at lw_m14 120 rfl) rfl
theorem q3342 : (Jvm.Cond.selects "java/util/BitSet" ({ cls := "java/util/BitSet", name := "set", desc := "(I)V" } : Jvm.MethodName) ({ cls := "java/util/BitSet", name := "set", desc := "(I)V" } : Jvm.MethodName)) ∈ lw_all := lw_g (lw_at lw_m14 121 rfl) rfl
theorem q3343 : (Jvm.Cond.code ({ cls := "java/util/BitSet", name := "set", desc := "(I)V" } : Jvm.MethodName) prog_60_method_19_code (3 : Nat) (Option.none : Option Jvm.ClassFile.FieldType)) ∈ lw_all := lw_g (lw_at lw_m14 122 rfl) rfl
theorem q3344 : (Jvm.Cond.classLink "java/util/BitSet" (142 : Nat) "java/lang/IndexOutOfBoundsException") ∈ lw_all := lw_g (lw_at lw_m14 123 rfl) rfl
theorem q3345 : (Jvm.Cond.classLink "java/util/BitSet" (33 : Nat) "java/lang/StringBuilder") ∈ lw_all := lw_g (lw_at lw_m14 124 rfl) rfl
theorem q3346 : (Jvm.Cond.methodLink "java/util/BitSet" (35 : Nat) ({ cls := "java/lang/StringBuilder", name := "<init>", desc := "()V" } : Jvm.MethodName)) ∈ lw_all := lw_g (lw_at lw_m14 125 rfl) rfl
theorem q3347 : (Jvm.Cond.stringRef "java/util/BitSet" (153 : Nat) "bitIndex < 0: ") ∈ lw_tbl := lw_at lw_m14 126 rfl
theorem q3348 : (Jvm.Cond.methodLink "java/util/BitSet" (38 : Nat) ({ cls := "java/lang/StringBuilder", name := "append", desc := "(Ljava/lang/String;)Ljava/lang/StringBuilder;" } : Jvm.MethodName)) ∈ lw_all := lw_g (lw_at lw_m14 127 rfl) rfl
theorem q3349 : (Jvm.Cond.methodLink "java/util/BitSet" (42 : Nat) ({ cls := "java/lang/StringBuilder", name := "append", desc := "(I)Ljava/lang/StringBuilder;" } : Jvm.MethodName)) ∈ lw_all := lw_g (lw_at lw_m14 128 rfl) rfl
theorem q3350 : (Jvm.Cond.methodLink "java/util/BitSet" (45 : Nat) ({ cls := "java/lang/StringBuilder", name := "toString", desc := "()Ljava/lang/String;" } : Jvm.MethodName)) ∈ lw_all := lw_g (lw_at lw_m14 129 rfl) rfl
theorem q3351 : (Jvm.Cond.methodLink "java/util/BitSet" (146 : Nat) ({ cls := "java/lang/IndexOutOfBoundsException", name := "<init>", desc := "(Ljava/lang/String;)V" } : Jvm.MethodName)) ∈ lw_all := lw_g (lw_at lw_m14 130 rfl) rfl
theorem q3352 : (Jvm.Cond.methodLink "java/util/BitSet" (155 : Nat) ({ cls := "java/util/BitSet", name := "expandTo", desc := "(I)V" } : Jvm.MethodName)) ∈ lw_all := lw_g (lw_at lw_m14 131 rfl) rfl
theorem q3353 : (Jvm.Cond.privateMethod ({ cls := "java/util/BitSet", name := "expandTo", desc := "(I)V" } : Jvm.MethodName)) ∈ lw_tbl := lw_at lw_m14 132 rfl
theorem q3354 : (Jvm.Cond.instanceMethod ({ cls := "java/util/BitSet", name := "expandTo", desc := "(I)V" } : Jvm.MethodName)) ∈ lw_all := lw_g (lw_at lw_m14 133 rfl) rfl
theorem q3355 : (Jvm.Cond.code ({ cls := "java/util/BitSet", name := "expandTo", desc := "(I)V" } : Jvm.MethodName) prog_60_method_15_code (3 : Nat) (Option.none : Option Jvm.ClassFile.FieldType)) ∈ lw_all := lw_g (lw_at lw_m14 134 rfl) rfl
theorem q3356 : (Jvm.Cond.methodLink "java/util/BitSet" (139 : Nat) ({ cls := "java/util/BitSet", name := "ensureCapacity", desc := "(I)V" } : Jvm.MethodName)) ∈ lw_all := lw_g (lw_at lw_m14 135 rfl) rfl
theorem q3357 : (Jvm.Cond.privateMethod ({ cls := "java/util/BitSet", name := "ensureCapacity", desc := "(I)V" } : Jvm.MethodName)) ∈ lw_tbl := lw_at lw_m14 136 rfl
theorem q3358 : (Jvm.Cond.instanceMethod ({ cls := "java/util/BitSet", name := "ensureCapacity", desc := "(I)V" } : Jvm.MethodName)) ∈ lw_all := lw_g (lw_at lw_m14 137 rfl) rfl
theorem q3359 : (Jvm.Cond.code ({ cls := "java/util/BitSet", name := "ensureCapacity", desc := "(I)V" } : Jvm.MethodName) prog_60_method_14_code (3 : Nat) (Option.none : Option Jvm.ClassFile.FieldType)) ∈ lw_all := lw_g (lw_at lw_m14 138 rfl) rfl
theorem q3360 : (Jvm.Cond.methodLink "java/util/BitSet" (133 : Nat) ({ cls := "java/lang/Math", name := "max", desc := "(II)I" } : Jvm.MethodName)) ∈ lw_all := lw_g (lw_at lw_m14 139 rfl) rfl
theorem q3361 : (Jvm.Cond.methodLink "java/util/BitSet" (59 : Nat) ({ cls := "java/util/Arrays", name := "copyOf", desc := "([JI)[J" } : Jvm.MethodName)) ∈ lw_all := lw_g (lw_at lw_m14 140 rfl) rfl
theorem q3366 : (Jvm.Cond.methodLink "java/util/BitSet" (56 : Nat) ({ cls := "java/util/BitSet", name := "checkInvariants", desc := "()V" } : Jvm.MethodName)) ∈ lw_all := lw_g (lw_at lw_m14 145 rfl) rfl
theorem q3367 : (Jvm.Cond.privateMethod ({ cls := "java/util/BitSet", name := "checkInvariants", desc := "()V" } : Jvm.MethodName)) ∈ lw_tbl := lw_at lw_m14 146 rfl
theorem q3368 : (Jvm.Cond.instanceMethod ({ cls := "java/util/BitSet", name := "checkInvariants", desc := "()V" } : Jvm.MethodName)) ∈ lw_all := lw_g (lw_at lw_m14 147 rfl) rfl
theorem q3369 : (Jvm.Cond.code ({ cls := "java/util/BitSet", name := "checkInvariants", desc := "()V" } : Jvm.MethodName) prog_60_method_2_code (1 : Nat) (Option.none : Option Jvm.ClassFile.FieldType)) ∈ lw_all := lw_g (lw_at lw_m14 148 rfl) rfl
theorem q3370 : (Jvm.Cond.fieldLink "java/util/BitSet" (3 : Nat) "java/util/BitSet" "$assertionsDisabled" "Z") ∈ lw_all := lw_g (lw_at lw_m14 149 rfl) rfl
theorem q3371 : (Jvm.Cond.laysStatic "java/util/BitSet" "$assertionsDisabled" "Z") ∈ lw_tbl := lw_at lw_m14 150 rfl
theorem q3372 : (Jvm.Cond.methodLink "java/util/BitSet" (170 : Nat) ({ cls := "java/util/BitSet", name := "clear", desc := "(I)V" } : Jvm.MethodName)) ∈ lw_all := lw_g (lw_at lw_m14 151 rfl) rfl
theorem q3373 : (Jvm.Cond.instanceMethod ({ cls := "java/util/BitSet", name := "clear", desc := "(I)V" } : Jvm.MethodName)) ∈ lw_all := lw_g (lw_at lw_m14 152 rfl) rfl
theorem q3374 : (Jvm.Cond.selects "java/util/BitSet" ({ cls := "java/util/BitSet", name := "clear", desc := "(I)V" } : Jvm.MethodName) ({ cls := "java/util/BitSet", name := "clear", desc := "(I)V" } : Jvm.MethodName)) ∈ lw_all := lw_g (lw_at lw_m14 153 rfl) rfl
theorem q3375 : (Jvm.Cond.code ({ cls := "java/util/BitSet", name := "clear", desc := "(I)V" } : Jvm.MethodName) prog_60_method_23_code (3 : Nat) (Option.none : Option Jvm.ClassFile.FieldType)) ∈ lw_all := lw_g (lw_at lw_m14 154 rfl) rfl
theorem q3376 : (Jvm.Cond.constantLong "java/util/BitSet" (165 : Nat) (-1 : Int64)) ∈ lw_all := lw_g (lw_at lw_m14 155 rfl) rfl
theorem q3377 : (Jvm.Cond.methodLink "java/util/BitSet" (158 : Nat) ({ cls := "java/util/BitSet", name := "recalculateWordsInUse", desc := "()V" } : Jvm.MethodName)) ∈ lw_all := lw_g (lw_at lw_m14 156 rfl) rfl
theorem q3378 : (Jvm.Cond.privateMethod ({ cls := "java/util/BitSet", name := "recalculateWordsInUse", desc := "()V" } : Jvm.MethodName)) ∈ lw_tbl := lw_at lw_m14 157 rfl
theorem q3379 : (Jvm.Cond.instanceMethod ({ cls := "java/util/BitSet", name := "recalculateWordsInUse", desc := "()V" } : Jvm.MethodName)) ∈ lw_all := lw_g (lw_at lw_m14 158 rfl) rfl
theorem q3380 : (Jvm.Cond.code ({ cls := "java/util/BitSet", name := "recalculateWordsInUse", desc := "()V" } : Jvm.MethodName) prog_60_method_3_code (2 : Nat) (Option.none : Option Jvm.ClassFile.FieldType)) ∈ lw_all := lw_g (lw_at lw_m14 159 rfl) rfl
theorem q3382 : (Jvm.Cond.instanceMethod ({ cls := "java/util/BitSet", name := "cardinality", desc := "()I" } : Jvm.MethodName)) ∈ lw_all := lw_g (lw_at lw_m14 161 rfl) rfl
theorem q3383 : (Jvm.Cond.selects "java/util/BitSet" ({ cls := "java/util/BitSet", name := "cardinality", desc := "()I" } : Jvm.MethodName) ({ cls := "java/util/BitSet", name := "cardinality", desc := "()I" } : Jvm.MethodName)) ∈ lw_all := lw_g (lw_at lw_m14 162 rfl) rfl
theorem q3384 : (Jvm.Cond.code ({ cls := "java/util/BitSet", name := "cardinality", desc := "()I" } : Jvm.MethodName) prog_60_method_35_code (3 : Nat) (Option.some Jvm.ClassFile.FieldType.int)) ∈ lw_all := lw_g (lw_at lw_m14 163 rfl) rfl
theorem q3385 : (Jvm.Cond.methodLink "java/util/BitSet" (196 : Nat) ({ cls := "java/lang/Long", name := "bitCount", desc := "(J)I" } : Jvm.MethodName)) ∈ lw_all := lw_g (lw_at lw_m14 164 rfl) rfl
theorem q3400 : (Jvm.Cond.instanceMethod ({ cls := "java/util/BitSet", name := "nextSetBit", desc := "(I)I" } : Jvm.MethodName)) ∈ lw_all := lw_g (lw_at lw_m14 179 rfl) rfl
theorem q3401 : (Jvm.Cond.selects "java/util/BitSet" ({ cls := "java/util/BitSet", name := "nextSetBit", desc := "(I)I" } : Jvm.MethodName) ({ cls := "java/util/BitSet", name := "nextSetBit", desc := "(I)I" } : Jvm.MethodName)) ∈ lw_all := lw_g (lw_at lw_m14 180 rfl) rfl
theorem q3402 : (Jvm.Cond.code ({ cls := "java/util/BitSet", name := "nextSetBit", desc := "(I)I" } : Jvm.MethodName) prog_60_method_28_code (5 : Nat) (Option.some Jvm.ClassFile.FieldType.int)) ∈ lw_all := lw_g (lw_at lw_m14 181 rfl) rfl
theorem q3403 : (Jvm.Cond.stringRef "java/util/BitSet" (144 : Nat) "fromIndex < 0: ") ∈ lw_tbl := lw_at lw_m14 182 rfl
theorem q3404 : (Jvm.Cond.methodLink "java/util/BitSet" (182 : Nat) ({ cls := "java/lang/Long", name := "numberOfTrailingZeros", desc := "(J)I" } : Jvm.MethodName)) ∈ lw_all := lw_g (lw_at lw_m14 183 rfl) rfl
theorem q3989 : (Jvm.Cond.castable "java/util/BitSet" "java/lang/Object") ∈ lw_tbl := lw_at lw_m17 48 rfl

