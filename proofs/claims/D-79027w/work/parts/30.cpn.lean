/-! java/util/ImmutableCollections$List12 -/
set_option maxRecDepth 100000
abbrev cJ4_init : ByteArray := prog_72_method_1_code
def yJ4_init : MethodName := ⟨RJ4, "<init>", "(Ljava/lang/Object;)V"⟩
def dkwJ4_init_0 : List UInt8 := [42, 183, 0, 1, 42, 43, 184, 0, 7, 181, 0, 13, 42, 178, 0, 19, 181, 0, 24, 177]
abbrev dktJ4_init_0 : List UInt8 := dkwJ4_init_0 ++ []
theorem dksJ4_init_0 : cJ4_init.data.toList.drop 0 = dktJ4_init_0 := by decide +kernel
theorem dJ4_init_0 : decode cJ4_init 0 = .ok (.aload_n 0, 1) := dk_42 (dk_at dksJ4_init_0 0 rfl rfl)
theorem dJ4_init_1 : decode cJ4_init 1 = .ok (.invokespecial 1, 3) := dk_183 0 1 (dk_at dksJ4_init_0 1 rfl rfl)
theorem dJ4_init_4 : decode cJ4_init 4 = .ok (.aload_n 0, 1) := dk_42 (dk_at dksJ4_init_0 4 rfl rfl)
theorem dJ4_init_5 : decode cJ4_init 5 = .ok (.aload_n 1, 1) := dk_43 (dk_at dksJ4_init_0 5 rfl rfl)
theorem dJ4_init_6 : decode cJ4_init 6 = .ok (.invokestatic 7, 3) := dk_184 0 7 (dk_at dksJ4_init_0 6 rfl rfl)
theorem dJ4_init_9 : decode cJ4_init 9 = .ok (.putfield 13, 3) := dk_181 0 13 (dk_at dksJ4_init_0 9 rfl rfl)
theorem dJ4_init_12 : decode cJ4_init 12 = .ok (.aload_n 0, 1) := dk_42 (dk_at dksJ4_init_0 12 rfl rfl)
theorem dJ4_init_13 : decode cJ4_init 13 = .ok (.getstatic 19, 3) := dk_178 0 19 (dk_at dksJ4_init_0 13 rfl rfl)
theorem dJ4_init_16 : decode cJ4_init 16 = .ok (.putfield 24, 3) := dk_181 0 24 (dk_at dksJ4_init_0 16 rfl rfl)
theorem dJ4_init_19 : decode cJ4_init 19 = .ok (.return_, 1) := dk_177 (dk_at dksJ4_init_0 19 rfl rfl)
abbrev cJ4_size : ByteArray := prog_72_method_3_code
def yJ4_size : MethodName := ⟨RJ4, "size", "()I"⟩
def dkwJ4_size_0 : List UInt8 := [42, 180, 0, 24, 178, 0, 19, 165, 0, 7, 5, 167, 0, 4, 4, 172]
abbrev dktJ4_size_0 : List UInt8 := dkwJ4_size_0 ++ []
theorem dksJ4_size_0 : cJ4_size.data.toList.drop 0 = dktJ4_size_0 := by decide +kernel
theorem dJ4_size_0 : decode cJ4_size 0 = .ok (.aload_n 0, 1) := dk_42 (dk_at dksJ4_size_0 0 rfl rfl)
theorem dJ4_size_1 : decode cJ4_size 1 = .ok (.getfield 24, 3) := dk_180 0 24 (dk_at dksJ4_size_0 1 rfl rfl)
theorem dJ4_size_4 : decode cJ4_size 4 = .ok (.getstatic 19, 3) := dk_178 0 19 (dk_at dksJ4_size_0 4 rfl rfl)
theorem dJ4_size_7 : decode cJ4_size 7 = .ok (.if_acmp .eq 7, 3) := dk_165 0 7 (dk_at dksJ4_size_0 7 rfl rfl)
theorem dJ4_size_10 : decode cJ4_size 10 = .ok (.iconst 2, 1) := dk_5 (dk_at dksJ4_size_0 10 rfl rfl)
theorem dJ4_size_11 : decode cJ4_size 11 = .ok (.goto 4, 3) := dk_167 0 4 (dk_at dksJ4_size_0 11 rfl rfl)
theorem dJ4_size_14 : decode cJ4_size 14 = .ok (.iconst 1, 1) := dk_4 (dk_at dksJ4_size_0 14 rfl rfl)
theorem dJ4_size_15 : decode cJ4_size 15 = .ok (.ireturn, 1) := dk_172 (dk_at dksJ4_size_0 15 rfl rfl)
abbrev cJ4_get : ByteArray := prog_72_method_5_code
def yJ4_get : MethodName := ⟨RJ4, "get", "(I)Ljava/lang/Object;"⟩
def dkwJ4_get_1 : List UInt8 := [42, 180, 0, 24, 176, 42, 27, 182, 0, 27, 191]
abbrev dktJ4_get_1 : List UInt8 := dkwJ4_get_1 ++ []
def dkwJ4_get_0 : List UInt8 := [27, 154, 0, 8, 42, 180, 0, 13, 176, 27, 4, 160, 0, 18, 42, 180, 0, 24, 178, 0, 19, 165, 0, 8]
abbrev dktJ4_get_0 : List UInt8 := dkwJ4_get_0 ++ dktJ4_get_1
theorem dksJ4_get_0 : cJ4_get.data.toList.drop 0 = dktJ4_get_0 := by decide +kernel
theorem dksJ4_get_1 : cJ4_get.data.toList.drop 24 = dktJ4_get_1 := dk_seg dksJ4_get_0 24 rfl rfl
theorem dJ4_get_0 : decode cJ4_get 0 = .ok (.iload_n 1, 1) := dk_27 (dk_at dksJ4_get_0 0 rfl rfl)
theorem dJ4_get_1 : decode cJ4_get 1 = .ok (.ifCond .ne 8, 3) := dk_154 0 8 (dk_at dksJ4_get_0 1 rfl rfl)
theorem dJ4_get_4 : decode cJ4_get 4 = .ok (.aload_n 0, 1) := dk_42 (dk_at dksJ4_get_0 4 rfl rfl)
theorem dJ4_get_5 : decode cJ4_get 5 = .ok (.getfield 13, 3) := dk_180 0 13 (dk_at dksJ4_get_0 5 rfl rfl)
theorem dJ4_get_8 : decode cJ4_get 8 = .ok (.areturn, 1) := dk_176 (dk_at dksJ4_get_0 8 rfl rfl)
theorem dJ4_get_9 : decode cJ4_get 9 = .ok (.iload_n 1, 1) := dk_27 (dk_at dksJ4_get_0 9 rfl rfl)
theorem dJ4_get_10 : decode cJ4_get 10 = .ok (.iconst 1, 1) := dk_4 (dk_at dksJ4_get_0 10 rfl rfl)
theorem dJ4_get_11 : decode cJ4_get 11 = .ok (.if_icmp .ne 18, 3) := dk_160 0 18 (dk_at dksJ4_get_0 11 rfl rfl)
theorem dJ4_get_14 : decode cJ4_get 14 = .ok (.aload_n 0, 1) := dk_42 (dk_at dksJ4_get_0 14 rfl rfl)
theorem dJ4_get_15 : decode cJ4_get 15 = .ok (.getfield 24, 3) := dk_180 0 24 (dk_at dksJ4_get_0 15 rfl rfl)
theorem dJ4_get_18 : decode cJ4_get 18 = .ok (.getstatic 19, 3) := dk_178 0 19 (dk_at dksJ4_get_0 18 rfl rfl)
theorem dJ4_get_21 : decode cJ4_get 21 = .ok (.if_acmp .eq 8, 3) := dk_165 0 8 (dk_at dksJ4_get_0 21 rfl rfl)
theorem dJ4_get_24 : decode cJ4_get 24 = .ok (.aload_n 0, 1) := dk_42 (dk_at dksJ4_get_1 0 rfl rfl)
theorem dJ4_get_25 : decode cJ4_get 25 = .ok (.getfield 24, 3) := dk_180 0 24 (dk_at dksJ4_get_1 1 rfl rfl)
theorem dJ4_get_28 : decode cJ4_get 28 = .ok (.areturn, 1) := dk_176 (dk_at dksJ4_get_1 4 rfl rfl)
theorem dJ4_get_29 : decode cJ4_get 29 = .ok (.aload_n 0, 1) := dk_42 (dk_at dksJ4_get_1 5 rfl rfl)
theorem dJ4_get_30 : decode cJ4_get 30 = .ok (.iload_n 1, 1) := dk_27 (dk_at dksJ4_get_1 6 rfl rfl)
theorem dJ4_get_31 : decode cJ4_get 31 = .ok (.invokevirtual 27, 3) := dk_182 0 27 (dk_at dksJ4_get_1 7 rfl rfl)
theorem dJ4_get_34 : decode cJ4_get 34 = .ok (.athrow, 1) := dk_191 (dk_at dksJ4_get_1 10 rfl rfl)
abbrev cJ4_toArray : ByteArray := prog_72_method_10_code
def yJ4_toArray : MethodName := ⟨RJ4, "toArray", "()[Ljava/lang/Object;"⟩
def dkwJ4_toArray_1 : List UInt8 := [189, 0, 32, 89, 3, 42, 180, 0, 13, 83, 89, 4, 42, 180, 0, 24, 83, 176]
abbrev dktJ4_toArray_1 : List UInt8 := dkwJ4_toArray_1 ++ []
def dkwJ4_toArray_0 : List UInt8 := [42, 180, 0, 24, 178, 0, 19, 166, 0, 15, 4, 189, 0, 32, 89, 3, 42, 180, 0, 13, 83, 176, 5]
abbrev dktJ4_toArray_0 : List UInt8 := dkwJ4_toArray_0 ++ dktJ4_toArray_1
theorem dksJ4_toArray_0 : cJ4_toArray.data.toList.drop 0 = dktJ4_toArray_0 := by decide +kernel
theorem dksJ4_toArray_1 : cJ4_toArray.data.toList.drop 23 = dktJ4_toArray_1 := dk_seg dksJ4_toArray_0 23 rfl rfl
theorem dJ4_toArray_0 : decode cJ4_toArray 0 = .ok (.aload_n 0, 1) := dk_42 (dk_at dksJ4_toArray_0 0 rfl rfl)
theorem dJ4_toArray_1 : decode cJ4_toArray 1 = .ok (.getfield 24, 3) := dk_180 0 24 (dk_at dksJ4_toArray_0 1 rfl rfl)
theorem dJ4_toArray_4 : decode cJ4_toArray 4 = .ok (.getstatic 19, 3) := dk_178 0 19 (dk_at dksJ4_toArray_0 4 rfl rfl)
theorem dJ4_toArray_7 : decode cJ4_toArray 7 = .ok (.if_acmp .ne 15, 3) := dk_166 0 15 (dk_at dksJ4_toArray_0 7 rfl rfl)
theorem dJ4_toArray_10 : decode cJ4_toArray 10 = .ok (.iconst 1, 1) := dk_4 (dk_at dksJ4_toArray_0 10 rfl rfl)
theorem dJ4_toArray_11 : decode cJ4_toArray 11 = .ok (.anewarray 32, 3) := dk_189 0 32 (dk_at dksJ4_toArray_0 11 rfl rfl)
theorem dJ4_toArray_14 : decode cJ4_toArray 14 = .ok (.dup, 1) := dk_89 (dk_at dksJ4_toArray_0 14 rfl rfl)
theorem dJ4_toArray_15 : decode cJ4_toArray 15 = .ok (.iconst 0, 1) := dk_3 (dk_at dksJ4_toArray_0 15 rfl rfl)
theorem dJ4_toArray_16 : decode cJ4_toArray 16 = .ok (.aload_n 0, 1) := dk_42 (dk_at dksJ4_toArray_0 16 rfl rfl)
theorem dJ4_toArray_17 : decode cJ4_toArray 17 = .ok (.getfield 13, 3) := dk_180 0 13 (dk_at dksJ4_toArray_0 17 rfl rfl)
theorem dJ4_toArray_20 : decode cJ4_toArray 20 = .ok (.aastore, 1) := dk_83 (dk_at dksJ4_toArray_0 20 rfl rfl)
theorem dJ4_toArray_21 : decode cJ4_toArray 21 = .ok (.areturn, 1) := dk_176 (dk_at dksJ4_toArray_0 21 rfl rfl)
theorem dJ4_toArray_22 : decode cJ4_toArray 22 = .ok (.iconst 2, 1) := dk_5 (dk_at dksJ4_toArray_0 22 rfl rfl)
theorem dJ4_toArray_23 : decode cJ4_toArray 23 = .ok (.anewarray 32, 3) := dk_189 0 32 (dk_at dksJ4_toArray_1 0 rfl rfl)
theorem dJ4_toArray_26 : decode cJ4_toArray 26 = .ok (.dup, 1) := dk_89 (dk_at dksJ4_toArray_1 3 rfl rfl)
theorem dJ4_toArray_27 : decode cJ4_toArray 27 = .ok (.iconst 0, 1) := dk_3 (dk_at dksJ4_toArray_1 4 rfl rfl)
theorem dJ4_toArray_28 : decode cJ4_toArray 28 = .ok (.aload_n 0, 1) := dk_42 (dk_at dksJ4_toArray_1 5 rfl rfl)
theorem dJ4_toArray_29 : decode cJ4_toArray 29 = .ok (.getfield 13, 3) := dk_180 0 13 (dk_at dksJ4_toArray_1 6 rfl rfl)
theorem dJ4_toArray_32 : decode cJ4_toArray 32 = .ok (.aastore, 1) := dk_83 (dk_at dksJ4_toArray_1 9 rfl rfl)
theorem dJ4_toArray_33 : decode cJ4_toArray 33 = .ok (.dup, 1) := dk_89 (dk_at dksJ4_toArray_1 10 rfl rfl)
theorem dJ4_toArray_34 : decode cJ4_toArray 34 = .ok (.iconst 1, 1) := dk_4 (dk_at dksJ4_toArray_1 11 rfl rfl)
theorem dJ4_toArray_35 : decode cJ4_toArray 35 = .ok (.aload_n 0, 1) := dk_42 (dk_at dksJ4_toArray_1 12 rfl rfl)
theorem dJ4_toArray_36 : decode cJ4_toArray 36 = .ok (.getfield 24, 3) := dk_180 0 24 (dk_at dksJ4_toArray_1 13 rfl rfl)
theorem dJ4_toArray_39 : decode cJ4_toArray 39 = .ok (.aastore, 1) := dk_83 (dk_at dksJ4_toArray_1 16 rfl rfl)
theorem dJ4_toArray_40 : decode cJ4_toArray 40 = .ok (.areturn, 1) := dk_176 (dk_at dksJ4_toArray_1 17 rfl rfl)
theorem q110 : (Jvm.Cond.initialized "java/util/ImmutableCollections$List12") ∈ lw_all := lw_g (lw_at lw_m1 9 rfl) rfl
theorem q214 : (Jvm.Cond.instantiable "java/util/ImmutableCollections$List12" (2 : Nat)) ∈ lw_all := lw_g (lw_at lw_m1 113 rfl) rfl
theorem q216 : (Jvm.Cond.instanceMethod ({ cls := "java/util/ImmutableCollections$List12", name := "<init>", desc := "(Ljava/lang/Object;)V" } : Jvm.MethodName)) ∈ lw_all := lw_g (lw_at lw_m1 115 rfl) rfl
theorem q217 : (Jvm.Cond.code ({ cls := "java/util/ImmutableCollections$List12", name := "<init>", desc := "(Ljava/lang/Object;)V" } : Jvm.MethodName) prog_72_method_1_code (2 : Nat) (Option.none : Option Jvm.ClassFile.FieldType)) ∈ lw_all := lw_g (lw_at lw_m1 116 rfl) rfl
theorem q218 : (Jvm.Cond.methodLink "java/util/ImmutableCollections$List12" (1 : Nat) ({ cls := "java/util/ImmutableCollections$AbstractImmutableList", name := "<init>", desc := "()V" } : Jvm.MethodName)) ∈ lw_all := lw_g (lw_at lw_m1 117 rfl) rfl
theorem q228 : (Jvm.Cond.methodLink "java/util/ImmutableCollections$List12" (7 : Nat) ({ cls := "java/util/Objects", name := "requireNonNull", desc := "(Ljava/lang/Object;)Ljava/lang/Object;" } : Jvm.MethodName)) ∈ lw_all := lw_g (lw_at lw_m1 127 rfl) rfl
theorem q231 : (Jvm.Cond.fieldLinkNest "java/util/ImmutableCollections$List12" (19 : Nat) "java/util/ImmutableCollections" "EMPTY" "Ljava/lang/Object;" "java/util/ImmutableCollections") ∈ lw_tbl := lw_at lw_m1 130 rfl
theorem q233 : (Jvm.Cond.fieldLink "java/util/ImmutableCollections$List12" (13 : Nat) "java/util/ImmutableCollections$List12" "e0" "Ljava/lang/Object;") ∈ lw_all := lw_g (lw_at lw_m1 132 rfl) rfl
theorem q234 : (Jvm.Cond.fieldLink "java/util/ImmutableCollections$List12" (24 : Nat) "java/util/ImmutableCollections$List12" "e1" "Ljava/lang/Object;") ∈ lw_all := lw_g (lw_at lw_m1 133 rfl) rfl
theorem q235 : (Jvm.Cond.laysFinal "java/util/ImmutableCollections$List12" "java/util/ImmutableCollections$List12" "e0" "Ljava/lang/Object;") ∈ lw_all := lw_g (lw_at lw_m1 134 rfl) rfl
theorem q236 : (Jvm.Cond.soleField "java/util/ImmutableCollections$List12" "e0") ∈ lw_all := lw_g (lw_at lw_m1 135 rfl) rfl
theorem q237 : (Jvm.Cond.laysFinal "java/util/ImmutableCollections$List12" "java/util/ImmutableCollections$List12" "e1" "Ljava/lang/Object;") ∈ lw_all := lw_g (lw_at lw_m1 136 rfl) rfl
theorem q238 : (Jvm.Cond.soleField "java/util/ImmutableCollections$List12" "e1") ∈ lw_all := lw_g (lw_at lw_m1 137 rfl) rfl
theorem q239 : (Jvm.Cond.superclass "java/util/ImmutableCollections$List12" "java/util/ImmutableCollections$AbstractImmutableList") ∈ lw_all := lw_g (lw_at lw_m1 138 rfl) rfl
theorem q424 : (Jvm.Cond.selects "java/util/ImmutableCollections$List12" ({ cls := "java/lang/Object", name := "getClass", desc := "()Ljava/lang/Class;" } : Jvm.MethodName) ({ cls := "java/lang/Object", name := "getClass", desc := "()Ljava/lang/Class;" } : Jvm.MethodName)) ∈ lw_all := lw_g (lw_at lw_m2 83 rfl) rfl
theorem q649 : (Jvm.Cond.selects "java/util/ImmutableCollections$List12" ({ cls := "java/util/AbstractCollection", name := "size", desc := "()I" } : Jvm.MethodName) ({ cls := "java/util/ImmutableCollections$List12", name := "size", desc := "()I" } : Jvm.MethodName)) ∈ lw_all := lw_g (lw_at lw_m3 68 rfl) rfl
theorem q650 : (Jvm.Cond.instanceMethod ({ cls := "java/util/ImmutableCollections$List12", name := "size", desc := "()I" } : Jvm.MethodName)) ∈ lw_all := lw_g (lw_at lw_m3 69 rfl) rfl
theorem q651 : (Jvm.Cond.code ({ cls := "java/util/ImmutableCollections$List12", name := "size", desc := "()I" } : Jvm.MethodName) prog_72_method_3_code (1 : Nat) (Option.some Jvm.ClassFile.FieldType.int)) ∈ lw_all := lw_g (lw_at lw_m3 70 rfl) rfl
theorem q1202 : (Jvm.Cond.selects "java/util/ImmutableCollections$List12" ({ cls := "java/util/AbstractCollection", name := "iterator", desc := "()Ljava/util/Iterator;" } : Jvm.MethodName) ({ cls := "java/util/ImmutableCollections$AbstractImmutableList", name := "iterator", desc := "()Ljava/util/Iterator;" } : Jvm.MethodName)) ∈ lw_all := lw_g (lw_at lw_m5 141 rfl) rfl
theorem q1209 : (Jvm.Cond.selects "java/util/ImmutableCollections$List12" ({ cls := "java/util/ImmutableCollections$AbstractImmutableList", name := "size", desc := "()I" } : Jvm.MethodName) ({ cls := "java/util/ImmutableCollections$List12", name := "size", desc := "()I" } : Jvm.MethodName)) ∈ lw_all := lw_g (lw_at lw_m5 148 rfl) rfl
theorem q1572 : (Jvm.Cond.castable "java/util/ImmutableCollections$List12" "java/util/List") ∈ lw_tbl := lw_at lw_m7 31 rfl
theorem q1573 : (Jvm.Cond.selects "java/util/ImmutableCollections$List12" ({ cls := "java/util/List", name := "get", desc := "(I)Ljava/lang/Object;" } : Jvm.MethodName) ({ cls := "java/util/ImmutableCollections$List12", name := "get", desc := "(I)Ljava/lang/Object;" } : Jvm.MethodName)) ∈ lw_all := lw_g (lw_at lw_m7 32 rfl) rfl
theorem q1574 : (Jvm.Cond.unhidden "java/util/ImmutableCollections$List12" "get" "(I)Ljava/lang/Object;") ∈ lw_tbl := lw_at lw_m7 33 rfl
theorem q1575 : (Jvm.Cond.instanceMethod ({ cls := "java/util/ImmutableCollections$List12", name := "get", desc := "(I)Ljava/lang/Object;" } : Jvm.MethodName)) ∈ lw_all := lw_g (lw_at lw_m7 34 rfl) rfl
theorem q1576 : (Jvm.Cond.publicMethod ({ cls := "java/util/ImmutableCollections$List12", name := "get", desc := "(I)Ljava/lang/Object;" } : Jvm.MethodName)) ∈ lw_tbl := lw_at lw_m7 35 rfl
theorem q1577 : (Jvm.Cond.code ({ cls := "java/util/ImmutableCollections$List12", name := "get", desc := "(I)Ljava/lang/Object;" } : Jvm.MethodName) prog_72_method_5_code (2 : Nat) (Option.some (Jvm.ClassFile.FieldType.object "java/lang/Object"))) ∈ lw_all := lw_g (lw_at lw_m7 36 rfl) rfl
theorem q1578 : (Jvm.Cond.methodLink "java/util/ImmutableCollections$List12" (27 : Nat) ({ cls := "java/util/ImmutableCollections$List12", name := "outOfBounds", desc := "(I)Ljava/lang/IndexOutOfBoundsException;" } : Jvm.MethodName)) ∈ lw_all := lw_g (lw_at lw_m7 37 rfl) rfl
theorem q1579 : (Jvm.Cond.sameMethod "java/util/ImmutableCollections$List12" "java/util/ImmutableCollections$AbstractImmutableList" "outOfBounds" "(I)Ljava/lang/IndexOutOfBoundsException;") ∈ lw_all := lw_g (lw_at lw_m7 38 rfl) rfl
theorem q1581 : (Jvm.Cond.selects "java/util/ImmutableCollections$List12" ({ cls := "java/util/ImmutableCollections$List12", name := "outOfBounds", desc := "(I)Ljava/lang/IndexOutOfBoundsException;" } : Jvm.MethodName) ({ cls := "java/util/ImmutableCollections$AbstractImmutableList", name := "outOfBounds", desc := "(I)Ljava/lang/IndexOutOfBoundsException;" } : Jvm.MethodName)) ∈ lw_all := lw_g (lw_at lw_m7 40 rfl) rfl
theorem q1690 : (Jvm.Cond.castable "java/util/ImmutableCollections$List12" "java/util/Collection") ∈ lw_tbl := lw_at lw_m7 149 rfl
theorem q1691 : (Jvm.Cond.selects "java/util/ImmutableCollections$List12" ({ cls := "java/util/Collection", name := "toArray", desc := "()[Ljava/lang/Object;" } : Jvm.MethodName) ({ cls := "java/util/ImmutableCollections$List12", name := "toArray", desc := "()[Ljava/lang/Object;" } : Jvm.MethodName)) ∈ lw_all := lw_g (lw_at lw_m7 150 rfl) rfl
theorem q1692 : (Jvm.Cond.unhidden "java/util/ImmutableCollections$List12" "toArray" "()[Ljava/lang/Object;") ∈ lw_tbl := lw_at lw_m7 151 rfl
theorem q1693 : (Jvm.Cond.instanceMethod ({ cls := "java/util/ImmutableCollections$List12", name := "toArray", desc := "()[Ljava/lang/Object;" } : Jvm.MethodName)) ∈ lw_all := lw_g (lw_at lw_m7 152 rfl) rfl
theorem q1694 : (Jvm.Cond.publicMethod ({ cls := "java/util/ImmutableCollections$List12", name := "toArray", desc := "()[Ljava/lang/Object;" } : Jvm.MethodName)) ∈ lw_tbl := lw_at lw_m7 153 rfl
theorem q1695 : (Jvm.Cond.code ({ cls := "java/util/ImmutableCollections$List12", name := "toArray", desc := "()[Ljava/lang/Object;" } : Jvm.MethodName) prog_72_method_10_code (1 : Nat) (Option.some (Jvm.ClassFile.FieldType.array (Jvm.ClassFile.FieldType.object "java/lang/Object")))) ∈ lw_all := lw_g (lw_at lw_m7 154 rfl) rfl
theorem q1696 : (Jvm.Cond.classLink "java/util/ImmutableCollections$List12" (32 : Nat) "java/lang/Object") ∈ lw_all := lw_g (lw_at lw_m7 155 rfl) rfl
theorem q1847 : (Jvm.Cond.selects "java/util/ImmutableCollections$List12" ({ cls := "java/util/Collection", name := "size", desc := "()I" } : Jvm.MethodName) ({ cls := "java/util/ImmutableCollections$List12", name := "size", desc := "()I" } : Jvm.MethodName)) ∈ lw_all := lw_g (lw_at lw_m8 66 rfl) rfl
theorem q1848 : (Jvm.Cond.unhidden "java/util/ImmutableCollections$List12" "size" "()I") ∈ lw_tbl := lw_at lw_m8 67 rfl
theorem q1849 : (Jvm.Cond.publicMethod ({ cls := "java/util/ImmutableCollections$List12", name := "size", desc := "()I" } : Jvm.MethodName)) ∈ lw_tbl := lw_at lw_m8 68 rfl
theorem q1857 : (Jvm.Cond.selects "java/util/ImmutableCollections$List12" ({ cls := "java/util/List", name := "size", desc := "()I" } : Jvm.MethodName) ({ cls := "java/util/ImmutableCollections$List12", name := "size", desc := "()I" } : Jvm.MethodName)) ∈ lw_all := lw_g (lw_at lw_m8 76 rfl) rfl
theorem q2218 : (Jvm.Cond.unhidden "java/util/ImmutableCollections$List12" "getClass" "()Ljava/lang/Class;") ∈ lw_tbl := lw_at lw_m9 197 rfl
theorem q2710 : (Jvm.Cond.selects "java/util/ImmutableCollections$List12" ({ cls := "java/util/List", name := "set", desc := "(ILjava/lang/Object;)Ljava/lang/Object;" } : Jvm.MethodName) ({ cls := "java/util/ImmutableCollections$AbstractImmutableList", name := "set", desc := "(ILjava/lang/Object;)Ljava/lang/Object;" } : Jvm.MethodName)) ∈ lw_all := lw_g (lw_at lw_m11 209 rfl) rfl
theorem q2711 : (Jvm.Cond.unhidden "java/util/ImmutableCollections$List12" "set" "(ILjava/lang/Object;)Ljava/lang/Object;") ∈ lw_tbl := lw_at lw_m11 210 rfl
theorem q2807 : (Jvm.Cond.selects "java/util/ImmutableCollections$List12" ({ cls := "java/util/List", name := "subList", desc := "(II)Ljava/util/List;" } : Jvm.MethodName) ({ cls := "java/util/ImmutableCollections$AbstractImmutableList", name := "subList", desc := "(II)Ljava/util/List;" } : Jvm.MethodName)) ∈ lw_all := lw_g (lw_at lw_m12 66 rfl) rfl
theorem q2808 : (Jvm.Cond.unhidden "java/util/ImmutableCollections$List12" "subList" "(II)Ljava/util/List;") ∈ lw_tbl := lw_at lw_m12 67 rfl
theorem q2933 : (Jvm.Cond.selects "java/util/ImmutableCollections$List12" ({ cls := "java/util/List", name := "listIterator", desc := "(I)Ljava/util/ListIterator;" } : Jvm.MethodName) ({ cls := "java/util/ImmutableCollections$AbstractImmutableList", name := "listIterator", desc := "(I)Ljava/util/ListIterator;" } : Jvm.MethodName)) ∈ lw_all := lw_g (lw_at lw_m12 192 rfl) rfl
theorem q2934 : (Jvm.Cond.unhidden "java/util/ImmutableCollections$List12" "listIterator" "(I)Ljava/util/ListIterator;") ∈ lw_tbl := lw_at lw_m12 193 rfl
theorem q2970 : (Jvm.Cond.selects "java/util/ImmutableCollections$List12" ({ cls := "java/util/List", name := "listIterator", desc := "()Ljava/util/ListIterator;" } : Jvm.MethodName) ({ cls := "java/util/ImmutableCollections$AbstractImmutableList", name := "listIterator", desc := "()Ljava/util/ListIterator;" } : Jvm.MethodName)) ∈ lw_all := lw_g (lw_at lw_m12 229 rfl) rfl
theorem q2971 : (Jvm.Cond.unhidden "java/util/ImmutableCollections$List12" "listIterator" "()Ljava/util/ListIterator;") ∈ lw_tbl := lw_at lw_m12 230 rfl
theorem q3935 : (Jvm.Cond.selects "java/util/ImmutableCollections$List12" ({ cls := "java/util/ImmutableCollections$AbstractImmutableList", name := "outOfBounds", desc := "(I)Ljava/lang/IndexOutOfBoundsException;" } : Jvm.MethodName) ({ cls := "java/util/ImmutableCollections$AbstractImmutableList", name := "outOfBounds", desc := "(I)Ljava/lang/IndexOutOfBoundsException;" } : Jvm.MethodName)) ∈ lw_all := lw_g (lw_at lw_m16 234 rfl) rfl
theorem q3938 : (Jvm.Cond.selects "java/util/ImmutableCollections$List12" ({ cls := "java/util/ImmutableCollections$AbstractImmutableList", name := "listIterator", desc := "(I)Ljava/util/ListIterator;" } : Jvm.MethodName) ({ cls := "java/util/ImmutableCollections$AbstractImmutableList", name := "listIterator", desc := "(I)Ljava/util/ListIterator;" } : Jvm.MethodName)) ∈ lw_all := lw_g (lw_at lw_m16 237 rfl) rfl
theorem q3946 : (Jvm.Cond.castable "java/util/ImmutableCollections$List12" "java/util/RandomAccess") ∈ lw_tbl := lw_at lw_m17 5 rfl
theorem q3953 : (Jvm.Cond.castable "java/util/ImmutableCollections$List12" "java/lang/Object") ∈ lw_tbl := lw_at lw_m17 12 rfl

/-! java/util/Objects -/
set_option maxRecDepth 100000
def RJ5 : String := "java/util/Objects"
abbrev cJ5_requireNonNull : ByteArray := prog_83_method_10_code
def yJ5_requireNonNull : MethodName := ⟨RJ5, "requireNonNull", "(Ljava/lang/Object;)Ljava/lang/Object;"⟩
def dkwJ5_requireNonNull_0 : List UInt8 := [42, 199, 0, 11, 187, 0, 84, 89, 183, 0, 86, 191, 42, 176]
abbrev dktJ5_requireNonNull_0 : List UInt8 := dkwJ5_requireNonNull_0 ++ []
theorem dksJ5_requireNonNull_0 : cJ5_requireNonNull.data.toList.drop 0 = dktJ5_requireNonNull_0 := by decide +kernel
theorem dJ5_requireNonNull_0 : decode cJ5_requireNonNull 0 = .ok (.aload_n 0, 1) := dk_42 (dk_at dksJ5_requireNonNull_0 0 rfl rfl)
theorem dJ5_requireNonNull_1 : decode cJ5_requireNonNull 1 = .ok (.ifnonnull 11, 3) := dk_199 0 11 (dk_at dksJ5_requireNonNull_0 1 rfl rfl)
theorem dJ5_requireNonNull_4 : decode cJ5_requireNonNull 4 = .ok (.new 84, 3) := dk_187 0 84 (dk_at dksJ5_requireNonNull_0 4 rfl rfl)
theorem dJ5_requireNonNull_7 : decode cJ5_requireNonNull 7 = .ok (.dup, 1) := dk_89 (dk_at dksJ5_requireNonNull_0 7 rfl rfl)
theorem dJ5_requireNonNull_8 : decode cJ5_requireNonNull 8 = .ok (.invokespecial 86, 3) := dk_183 0 86 (dk_at dksJ5_requireNonNull_0 8 rfl rfl)
theorem dJ5_requireNonNull_11 : decode cJ5_requireNonNull 11 = .ok (.athrow, 1) := dk_191 (dk_at dksJ5_requireNonNull_0 11 rfl rfl)
theorem dJ5_requireNonNull_12 : decode cJ5_requireNonNull 12 = .ok (.aload_n 0, 1) := dk_42 (dk_at dksJ5_requireNonNull_0 12 rfl rfl)
theorem dJ5_requireNonNull_13 : decode cJ5_requireNonNull 13 = .ok (.areturn, 1) := dk_176 (dk_at dksJ5_requireNonNull_0 13 rfl rfl)
abbrev cJ5_checkIndex : ByteArray := prog_83_method_17_code
def yJ5_checkIndex : MethodName := ⟨RJ5, "checkIndex", "(II)I"⟩
def dkwJ5_checkIndex_0 : List UInt8 := [26, 27, 1, 184, 0, 105, 172]
abbrev dktJ5_checkIndex_0 : List UInt8 := dkwJ5_checkIndex_0 ++ []
theorem dksJ5_checkIndex_0 : cJ5_checkIndex.data.toList.drop 0 = dktJ5_checkIndex_0 := by decide +kernel
theorem dJ5_checkIndex_0 : decode cJ5_checkIndex 0 = .ok (.iload_n 0, 1) := dk_26 (dk_at dksJ5_checkIndex_0 0 rfl rfl)
theorem dJ5_checkIndex_1 : decode cJ5_checkIndex 1 = .ok (.iload_n 1, 1) := dk_27 (dk_at dksJ5_checkIndex_0 1 rfl rfl)
theorem dJ5_checkIndex_2 : decode cJ5_checkIndex 2 = .ok (.aconst_null, 1) := dk_1 (dk_at dksJ5_checkIndex_0 2 rfl rfl)
theorem dJ5_checkIndex_3 : decode cJ5_checkIndex 3 = .ok (.invokestatic 105, 3) := dk_184 0 105 (dk_at dksJ5_checkIndex_0 3 rfl rfl)
theorem dJ5_checkIndex_6 : decode cJ5_checkIndex 6 = .ok (.ireturn, 1) := dk_172 (dk_at dksJ5_checkIndex_0 6 rfl rfl)
theorem q111 : (Jvm.Cond.initialized "java/util/Objects") ∈ lw_all := lw_g (lw_at lw_m1 10 rfl) rfl
theorem q229 : (Jvm.Cond.static ({ cls := "java/util/Objects", name := "requireNonNull", desc := "(Ljava/lang/Object;)Ljava/lang/Object;" } : Jvm.MethodName)) ∈ lw_all := lw_g (lw_at lw_m1 128 rfl) rfl
theorem q230 : (Jvm.Cond.code ({ cls := "java/util/Objects", name := "requireNonNull", desc := "(Ljava/lang/Object;)Ljava/lang/Object;" } : Jvm.MethodName) prog_83_method_10_code (1 : Nat) (Option.some (Jvm.ClassFile.FieldType.object "java/lang/Object"))) ∈ lw_all := lw_g (lw_at lw_m1 129 rfl) rfl
theorem q1385 : (Jvm.Cond.static ({ cls := "java/util/Objects", name := "checkIndex", desc := "(II)I" } : Jvm.MethodName)) ∈ lw_all := lw_g (lw_at lw_m6 84 rfl) rfl
theorem q1386 : (Jvm.Cond.code ({ cls := "java/util/Objects", name := "checkIndex", desc := "(II)I" } : Jvm.MethodName) prog_83_method_17_code (2 : Nat) (Option.some Jvm.ClassFile.FieldType.int)) ∈ lw_all := lw_g (lw_at lw_m6 85 rfl) rfl
theorem q1387 : (Jvm.Cond.methodLink "java/util/Objects" (105 : Nat) ({ cls := "jdk/internal/util/Preconditions", name := "checkIndex", desc := "(IILjava/util/function/BiFunction;)I" } : Jvm.MethodName)) ∈ lw_all := lw_g (lw_at lw_m6 86 rfl) rfl

/-! java/util/ArrayList -/
set_option maxRecDepth 100000
abbrev cJ8_init : ByteArray := prog_54_method_2_code
def yJ8_init : MethodName := ⟨RJ8, "<init>", "()V"⟩
def dkwJ8_init_0 : List UInt8 := [42, 183, 0, 1, 42, 178, 0, 39, 181, 0, 9, 177]
abbrev dktJ8_init_0 : List UInt8 := dkwJ8_init_0 ++ []
theorem dksJ8_init_0 : cJ8_init.data.toList.drop 0 = dktJ8_init_0 := by decide +kernel
theorem dJ8_init_0 : decode cJ8_init 0 = .ok (.aload_n 0, 1) := dk_42 (dk_at dksJ8_init_0 0 rfl rfl)
theorem dJ8_init_1 : decode cJ8_init 1 = .ok (.invokespecial 1, 3) := dk_183 0 1 (dk_at dksJ8_init_0 1 rfl rfl)
theorem dJ8_init_4 : decode cJ8_init 4 = .ok (.aload_n 0, 1) := dk_42 (dk_at dksJ8_init_0 4 rfl rfl)
theorem dJ8_init_5 : decode cJ8_init 5 = .ok (.getstatic 39, 3) := dk_178 0 39 (dk_at dksJ8_init_0 5 rfl rfl)
theorem dJ8_init_8 : decode cJ8_init 8 = .ok (.putfield 9, 3) := dk_181 0 9 (dk_at dksJ8_init_0 8 rfl rfl)
theorem dJ8_init_11 : decode cJ8_init 11 = .ok (.return_, 1) := dk_177 (dk_at dksJ8_init_0 11 rfl rfl)
abbrev cJ8_add : ByteArray := prog_54_method_25_code
def yJ8_add : MethodName := ⟨RJ8, "add", "(Ljava/lang/Object;)Z"⟩
def dkwJ8_add_1 : List UInt8 := [172]
abbrev dktJ8_add_1 : List UInt8 := dkwJ8_add_1 ++ []
def dkwJ8_add_0 : List UInt8 := [42, 89, 180, 0, 63, 4, 96, 181, 0, 63, 42, 43, 42, 180, 0, 9, 42, 180, 0, 48, 182, 0, 131, 4]
abbrev dktJ8_add_0 : List UInt8 := dkwJ8_add_0 ++ dktJ8_add_1
theorem dksJ8_add_0 : cJ8_add.data.toList.drop 0 = dktJ8_add_0 := by decide +kernel
theorem dksJ8_add_1 : cJ8_add.data.toList.drop 24 = dktJ8_add_1 := dk_seg dksJ8_add_0 24 rfl rfl
theorem dJ8_add_0 : decode cJ8_add 0 = .ok (.aload_n 0, 1) := dk_42 (dk_at dksJ8_add_0 0 rfl rfl)
theorem dJ8_add_1 : decode cJ8_add 1 = .ok (.dup, 1) := dk_89 (dk_at dksJ8_add_0 1 rfl rfl)
theorem dJ8_add_2 : decode cJ8_add 2 = .ok (.getfield 63, 3) := dk_180 0 63 (dk_at dksJ8_add_0 2 rfl rfl)
theorem dJ8_add_5 : decode cJ8_add 5 = .ok (.iconst 1, 1) := dk_4 (dk_at dksJ8_add_0 5 rfl rfl)
theorem dJ8_add_6 : decode cJ8_add 6 = .ok (.iadd, 1) := dk_96 (dk_at dksJ8_add_0 6 rfl rfl)
theorem dJ8_add_7 : decode cJ8_add 7 = .ok (.putfield 63, 3) := dk_181 0 63 (dk_at dksJ8_add_0 7 rfl rfl)
theorem dJ8_add_10 : decode cJ8_add 10 = .ok (.aload_n 0, 1) := dk_42 (dk_at dksJ8_add_0 10 rfl rfl)
theorem dJ8_add_11 : decode cJ8_add 11 = .ok (.aload_n 1, 1) := dk_43 (dk_at dksJ8_add_0 11 rfl rfl)
theorem dJ8_add_12 : decode cJ8_add 12 = .ok (.aload_n 0, 1) := dk_42 (dk_at dksJ8_add_0 12 rfl rfl)
theorem dJ8_add_13 : decode cJ8_add 13 = .ok (.getfield 9, 3) := dk_180 0 9 (dk_at dksJ8_add_0 13 rfl rfl)
theorem dJ8_add_16 : decode cJ8_add 16 = .ok (.aload_n 0, 1) := dk_42 (dk_at dksJ8_add_0 16 rfl rfl)
theorem dJ8_add_17 : decode cJ8_add 17 = .ok (.getfield 48, 3) := dk_180 0 48 (dk_at dksJ8_add_0 17 rfl rfl)
theorem dJ8_add_20 : decode cJ8_add 20 = .ok (.invokevirtual 131, 3) := dk_182 0 131 (dk_at dksJ8_add_0 20 rfl rfl)
theorem dJ8_add_23 : decode cJ8_add 23 = .ok (.iconst 1, 1) := dk_4 (dk_at dksJ8_add_0 23 rfl rfl)
theorem dJ8_add_24 : decode cJ8_add 24 = .ok (.ireturn, 1) := dk_172 (dk_at dksJ8_add_1 0 rfl rfl)
abbrev cJ8_add_2 : ByteArray := prog_54_method_24_code
def yJ8_add_2 : MethodName := ⟨RJ8, "add", "(Ljava/lang/Object;[Ljava/lang/Object;I)V"⟩
def dkwJ8_add_2_0 : List UInt8 := [29, 44, 190, 160, 0, 8, 42, 182, 0, 129, 77, 44, 29, 43, 83, 42, 29, 4, 96, 181, 0, 48, 177]
abbrev dktJ8_add_2_0 : List UInt8 := dkwJ8_add_2_0 ++ []
theorem dksJ8_add_2_0 : cJ8_add_2.data.toList.drop 0 = dktJ8_add_2_0 := by decide +kernel
theorem dJ8_add_2_0 : decode cJ8_add_2 0 = .ok (.iload_n 3, 1) := dk_29 (dk_at dksJ8_add_2_0 0 rfl rfl)
theorem dJ8_add_2_1 : decode cJ8_add_2 1 = .ok (.aload_n 2, 1) := dk_44 (dk_at dksJ8_add_2_0 1 rfl rfl)
theorem dJ8_add_2_2 : decode cJ8_add_2 2 = .ok (.arraylength, 1) := dk_190 (dk_at dksJ8_add_2_0 2 rfl rfl)
theorem dJ8_add_2_3 : decode cJ8_add_2 3 = .ok (.if_icmp .ne 8, 3) := dk_160 0 8 (dk_at dksJ8_add_2_0 3 rfl rfl)
theorem dJ8_add_2_6 : decode cJ8_add_2 6 = .ok (.aload_n 0, 1) := dk_42 (dk_at dksJ8_add_2_0 6 rfl rfl)
theorem dJ8_add_2_7 : decode cJ8_add_2 7 = .ok (.invokevirtual 129, 3) := dk_182 0 129 (dk_at dksJ8_add_2_0 7 rfl rfl)
theorem dJ8_add_2_10 : decode cJ8_add_2 10 = .ok (.astore_n 2, 1) := dk_77 (dk_at dksJ8_add_2_0 10 rfl rfl)
theorem dJ8_add_2_11 : decode cJ8_add_2 11 = .ok (.aload_n 2, 1) := dk_44 (dk_at dksJ8_add_2_0 11 rfl rfl)
theorem dJ8_add_2_12 : decode cJ8_add_2 12 = .ok (.iload_n 3, 1) := dk_29 (dk_at dksJ8_add_2_0 12 rfl rfl)
theorem dJ8_add_2_13 : decode cJ8_add_2 13 = .ok (.aload_n 1, 1) := dk_43 (dk_at dksJ8_add_2_0 13 rfl rfl)
theorem dJ8_add_2_14 : decode cJ8_add_2 14 = .ok (.aastore, 1) := dk_83 (dk_at dksJ8_add_2_0 14 rfl rfl)
theorem dJ8_add_2_15 : decode cJ8_add_2 15 = .ok (.aload_n 0, 1) := dk_42 (dk_at dksJ8_add_2_0 15 rfl rfl)
theorem dJ8_add_2_16 : decode cJ8_add_2 16 = .ok (.iload_n 3, 1) := dk_29 (dk_at dksJ8_add_2_0 16 rfl rfl)
theorem dJ8_add_2_17 : decode cJ8_add_2 17 = .ok (.iconst 1, 1) := dk_4 (dk_at dksJ8_add_2_0 17 rfl rfl)
theorem dJ8_add_2_18 : decode cJ8_add_2 18 = .ok (.iadd, 1) := dk_96 (dk_at dksJ8_add_2_0 18 rfl rfl)
theorem dJ8_add_2_19 : decode cJ8_add_2 19 = .ok (.putfield 48, 3) := dk_181 0 48 (dk_at dksJ8_add_2_0 19 rfl rfl)
theorem dJ8_add_2_22 : decode cJ8_add_2 22 = .ok (.return_, 1) := dk_177 (dk_at dksJ8_add_2_0 22 rfl rfl)
abbrev cJ8_grow : ByteArray := prog_54_method_7_code
def yJ8_grow : MethodName := ⟨RJ8, "grow", "()[Ljava/lang/Object;"⟩
def dkwJ8_grow_0 : List UInt8 := [42, 42, 180, 0, 48, 4, 96, 182, 0, 69, 176]
abbrev dktJ8_grow_0 : List UInt8 := dkwJ8_grow_0 ++ []
theorem dksJ8_grow_0 : cJ8_grow.data.toList.drop 0 = dktJ8_grow_0 := by decide +kernel
theorem dJ8_grow_0 : decode cJ8_grow 0 = .ok (.aload_n 0, 1) := dk_42 (dk_at dksJ8_grow_0 0 rfl rfl)
theorem dJ8_grow_1 : decode cJ8_grow 1 = .ok (.aload_n 0, 1) := dk_42 (dk_at dksJ8_grow_0 1 rfl rfl)
theorem dJ8_grow_2 : decode cJ8_grow 2 = .ok (.getfield 48, 3) := dk_180 0 48 (dk_at dksJ8_grow_0 2 rfl rfl)
theorem dJ8_grow_5 : decode cJ8_grow 5 = .ok (.iconst 1, 1) := dk_4 (dk_at dksJ8_grow_0 5 rfl rfl)
theorem dJ8_grow_6 : decode cJ8_grow 6 = .ok (.iadd, 1) := dk_96 (dk_at dksJ8_grow_0 6 rfl rfl)
theorem dJ8_grow_7 : decode cJ8_grow 7 = .ok (.invokevirtual 69, 3) := dk_182 0 69 (dk_at dksJ8_grow_0 7 rfl rfl)
theorem dJ8_grow_10 : decode cJ8_grow 10 = .ok (.areturn, 1) := dk_176 (dk_at dksJ8_grow_0 10 rfl rfl)
abbrev cJ8_grow_2 : ByteArray := prog_54_method_6_code
def yJ8_grow_2 : MethodName := ⟨RJ8, "grow", "(I)[Ljava/lang/Object;"⟩
def dkwJ8_grow_2_2 : List UInt8 := [27, 184, 0, 79, 189, 0, 7, 90, 181, 0, 9, 176]
abbrev dktJ8_grow_2_2 : List UInt8 := dkwJ8_grow_2_2 ++ []
def dkwJ8_grow_2_1 : List UInt8 := [28, 4, 122, 184, 0, 73, 62, 42, 42, 180, 0, 9, 29, 184, 0, 66, 90, 181, 0, 9, 176, 42, 16, 10]
abbrev dktJ8_grow_2_1 : List UInt8 := dkwJ8_grow_2_1 ++ dktJ8_grow_2_2
def dkwJ8_grow_2_0 : List UInt8 := [42, 180, 0, 9, 190, 61, 28, 157, 0, 13, 42, 180, 0, 9, 178, 0, 39, 165, 0, 28, 28, 27, 28, 100]
abbrev dktJ8_grow_2_0 : List UInt8 := dkwJ8_grow_2_0 ++ dktJ8_grow_2_1
theorem dksJ8_grow_2_0 : cJ8_grow_2.data.toList.drop 0 = dktJ8_grow_2_0 := by decide +kernel
theorem dksJ8_grow_2_1 : cJ8_grow_2.data.toList.drop 24 = dktJ8_grow_2_1 := dk_seg dksJ8_grow_2_0 24 rfl rfl
theorem dksJ8_grow_2_2 : cJ8_grow_2.data.toList.drop 48 = dktJ8_grow_2_2 := dk_seg dksJ8_grow_2_1 24 rfl rfl
theorem dJ8_grow_2_0 : decode cJ8_grow_2 0 = .ok (.aload_n 0, 1) := dk_42 (dk_at dksJ8_grow_2_0 0 rfl rfl)
theorem dJ8_grow_2_1 : decode cJ8_grow_2 1 = .ok (.getfield 9, 3) := dk_180 0 9 (dk_at dksJ8_grow_2_0 1 rfl rfl)
theorem dJ8_grow_2_4 : decode cJ8_grow_2 4 = .ok (.arraylength, 1) := dk_190 (dk_at dksJ8_grow_2_0 4 rfl rfl)
theorem dJ8_grow_2_5 : decode cJ8_grow_2 5 = .ok (.istore_n 2, 1) := dk_61 (dk_at dksJ8_grow_2_0 5 rfl rfl)
theorem dJ8_grow_2_6 : decode cJ8_grow_2 6 = .ok (.iload_n 2, 1) := dk_28 (dk_at dksJ8_grow_2_0 6 rfl rfl)
theorem dJ8_grow_2_7 : decode cJ8_grow_2 7 = .ok (.ifCond .gt 13, 3) := dk_157 0 13 (dk_at dksJ8_grow_2_0 7 rfl rfl)
theorem dJ8_grow_2_10 : decode cJ8_grow_2 10 = .ok (.aload_n 0, 1) := dk_42 (dk_at dksJ8_grow_2_0 10 rfl rfl)
theorem dJ8_grow_2_11 : decode cJ8_grow_2 11 = .ok (.getfield 9, 3) := dk_180 0 9 (dk_at dksJ8_grow_2_0 11 rfl rfl)
theorem dJ8_grow_2_14 : decode cJ8_grow_2 14 = .ok (.getstatic 39, 3) := dk_178 0 39 (dk_at dksJ8_grow_2_0 14 rfl rfl)
theorem dJ8_grow_2_17 : decode cJ8_grow_2 17 = .ok (.if_acmp .eq 28, 3) := dk_165 0 28 (dk_at dksJ8_grow_2_0 17 rfl rfl)
theorem dJ8_grow_2_20 : decode cJ8_grow_2 20 = .ok (.iload_n 2, 1) := dk_28 (dk_at dksJ8_grow_2_0 20 rfl rfl)
theorem dJ8_grow_2_21 : decode cJ8_grow_2 21 = .ok (.iload_n 1, 1) := dk_27 (dk_at dksJ8_grow_2_0 21 rfl rfl)
theorem dJ8_grow_2_22 : decode cJ8_grow_2 22 = .ok (.iload_n 2, 1) := dk_28 (dk_at dksJ8_grow_2_0 22 rfl rfl)
theorem dJ8_grow_2_23 : decode cJ8_grow_2 23 = .ok (.isub, 1) := dk_100 (dk_at dksJ8_grow_2_0 23 rfl rfl)
theorem dJ8_grow_2_24 : decode cJ8_grow_2 24 = .ok (.iload_n 2, 1) := dk_28 (dk_at dksJ8_grow_2_1 0 rfl rfl)
theorem dJ8_grow_2_25 : decode cJ8_grow_2 25 = .ok (.iconst 1, 1) := dk_4 (dk_at dksJ8_grow_2_1 1 rfl rfl)
theorem dJ8_grow_2_26 : decode cJ8_grow_2 26 = .ok (.ishr, 1) := dk_122 (dk_at dksJ8_grow_2_1 2 rfl rfl)
theorem dJ8_grow_2_27 : decode cJ8_grow_2 27 = .ok (.invokestatic 73, 3) := dk_184 0 73 (dk_at dksJ8_grow_2_1 3 rfl rfl)
theorem dJ8_grow_2_30 : decode cJ8_grow_2 30 = .ok (.istore_n 3, 1) := dk_62 (dk_at dksJ8_grow_2_1 6 rfl rfl)
theorem dJ8_grow_2_31 : decode cJ8_grow_2 31 = .ok (.aload_n 0, 1) := dk_42 (dk_at dksJ8_grow_2_1 7 rfl rfl)
theorem dJ8_grow_2_32 : decode cJ8_grow_2 32 = .ok (.aload_n 0, 1) := dk_42 (dk_at dksJ8_grow_2_1 8 rfl rfl)
theorem dJ8_grow_2_33 : decode cJ8_grow_2 33 = .ok (.getfield 9, 3) := dk_180 0 9 (dk_at dksJ8_grow_2_1 9 rfl rfl)
theorem dJ8_grow_2_36 : decode cJ8_grow_2 36 = .ok (.iload_n 3, 1) := dk_29 (dk_at dksJ8_grow_2_1 12 rfl rfl)
theorem dJ8_grow_2_37 : decode cJ8_grow_2 37 = .ok (.invokestatic 66, 3) := dk_184 0 66 (dk_at dksJ8_grow_2_1 13 rfl rfl)
theorem dJ8_grow_2_40 : decode cJ8_grow_2 40 = .ok (.dup_x1, 1) := dk_90 (dk_at dksJ8_grow_2_1 16 rfl rfl)
theorem dJ8_grow_2_41 : decode cJ8_grow_2 41 = .ok (.putfield 9, 3) := dk_181 0 9 (dk_at dksJ8_grow_2_1 17 rfl rfl)
theorem dJ8_grow_2_44 : decode cJ8_grow_2 44 = .ok (.areturn, 1) := dk_176 (dk_at dksJ8_grow_2_1 20 rfl rfl)
theorem dJ8_grow_2_45 : decode cJ8_grow_2 45 = .ok (.aload_n 0, 1) := dk_42 (dk_at dksJ8_grow_2_1 21 rfl rfl)
theorem dJ8_grow_2_46 : decode cJ8_grow_2 46 = .ok (.bipush 10, 2) := dk_16 10 (dk_at dksJ8_grow_2_1 22 rfl rfl)
theorem dJ8_grow_2_48 : decode cJ8_grow_2 48 = .ok (.iload_n 1, 1) := dk_27 (dk_at dksJ8_grow_2_2 0 rfl rfl)
theorem dJ8_grow_2_49 : decode cJ8_grow_2 49 = .ok (.invokestatic 79, 3) := dk_184 0 79 (dk_at dksJ8_grow_2_2 1 rfl rfl)
theorem dJ8_grow_2_52 : decode cJ8_grow_2 52 = .ok (.anewarray 7, 3) := dk_189 0 7 (dk_at dksJ8_grow_2_2 4 rfl rfl)
theorem dJ8_grow_2_55 : decode cJ8_grow_2 55 = .ok (.dup_x1, 1) := dk_90 (dk_at dksJ8_grow_2_2 7 rfl rfl)
theorem dJ8_grow_2_56 : decode cJ8_grow_2 56 = .ok (.putfield 9, 3) := dk_181 0 9 (dk_at dksJ8_grow_2_2 8 rfl rfl)
theorem dJ8_grow_2_59 : decode cJ8_grow_2 59 = .ok (.areturn, 1) := dk_176 (dk_at dksJ8_grow_2_2 11 rfl rfl)
abbrev cJ8_size : ByteArray := prog_54_method_8_code
def yJ8_size : MethodName := ⟨RJ8, "size", "()I"⟩
theorem dJ8_size_0 : decode cJ8_size 0 = .ok (.aload_n 0, 1) := by decide +kernel
theorem dJ8_size_1 : decode cJ8_size 1 = .ok (.getfield 48, 3) := by decide +kernel
theorem dJ8_size_4 : decode cJ8_size 4 = .ok (.ireturn, 1) := by decide +kernel
abbrev cJ8_addAll : ByteArray := prog_54_method_41_code
def yJ8_addAll : MethodName := ⟨RJ8, "addAll", "(Ljava/util/Collection;)Z"⟩
def dkwJ8_addAll_3 : List UInt8 := [181, 0, 48, 4, 172]
abbrev dktJ8_addAll_3 : List UInt8 := dkwJ8_addAll_3 ++ []
def dkwJ8_addAll_2 : List UInt8 := [21, 5, 29, 96, 182, 0, 69, 58, 4, 44, 3, 25, 4, 21, 5, 29, 184, 0, 112, 42, 21, 5, 29, 96]
abbrev dktJ8_addAll_2 : List UInt8 := dkwJ8_addAll_2 ++ dktJ8_addAll_3
def dkwJ8_addAll_1 : List UInt8 := [3, 172, 29, 42, 180, 0, 9, 89, 58, 4, 190, 42, 180, 0, 48, 89, 54, 5, 100, 164, 0, 13, 42]
abbrev dktJ8_addAll_1 : List UInt8 := dkwJ8_addAll_1 ++ dktJ8_addAll_2
def dkwJ8_addAll_0 : List UInt8 := [43, 185, 0, 42, 1, 0, 77, 42, 89, 180, 0, 63, 4, 96, 181, 0, 63, 44, 190, 62, 29, 154, 0, 5]
abbrev dktJ8_addAll_0 : List UInt8 := dkwJ8_addAll_0 ++ dktJ8_addAll_1
theorem dksJ8_addAll_0 : cJ8_addAll.data.toList.drop 0 = dktJ8_addAll_0 := by decide +kernel
theorem dksJ8_addAll_1 : cJ8_addAll.data.toList.drop 24 = dktJ8_addAll_1 := dk_seg dksJ8_addAll_0 24 rfl rfl
theorem dksJ8_addAll_2 : cJ8_addAll.data.toList.drop 47 = dktJ8_addAll_2 := dk_seg dksJ8_addAll_1 23 rfl rfl
theorem dksJ8_addAll_3 : cJ8_addAll.data.toList.drop 71 = dktJ8_addAll_3 := dk_seg dksJ8_addAll_2 24 rfl rfl
theorem dJ8_addAll_0 : decode cJ8_addAll 0 = .ok (.aload_n 1, 1) := dk_43 (dk_at dksJ8_addAll_0 0 rfl rfl)
theorem dJ8_addAll_1 : decode cJ8_addAll 1 = .ok (.invokeinterface 42 1, 5) := by decide +kernel
theorem dJ8_addAll_6 : decode cJ8_addAll 6 = .ok (.astore_n 2, 1) := dk_77 (dk_at dksJ8_addAll_0 6 rfl rfl)
theorem dJ8_addAll_7 : decode cJ8_addAll 7 = .ok (.aload_n 0, 1) := dk_42 (dk_at dksJ8_addAll_0 7 rfl rfl)
theorem dJ8_addAll_8 : decode cJ8_addAll 8 = .ok (.dup, 1) := dk_89 (dk_at dksJ8_addAll_0 8 rfl rfl)
theorem dJ8_addAll_9 : decode cJ8_addAll 9 = .ok (.getfield 63, 3) := dk_180 0 63 (dk_at dksJ8_addAll_0 9 rfl rfl)
theorem dJ8_addAll_12 : decode cJ8_addAll 12 = .ok (.iconst 1, 1) := dk_4 (dk_at dksJ8_addAll_0 12 rfl rfl)
theorem dJ8_addAll_13 : decode cJ8_addAll 13 = .ok (.iadd, 1) := dk_96 (dk_at dksJ8_addAll_0 13 rfl rfl)
theorem dJ8_addAll_14 : decode cJ8_addAll 14 = .ok (.putfield 63, 3) := dk_181 0 63 (dk_at dksJ8_addAll_0 14 rfl rfl)
theorem dJ8_addAll_17 : decode cJ8_addAll 17 = .ok (.aload_n 2, 1) := dk_44 (dk_at dksJ8_addAll_0 17 rfl rfl)
theorem dJ8_addAll_18 : decode cJ8_addAll 18 = .ok (.arraylength, 1) := dk_190 (dk_at dksJ8_addAll_0 18 rfl rfl)
theorem dJ8_addAll_19 : decode cJ8_addAll 19 = .ok (.istore_n 3, 1) := dk_62 (dk_at dksJ8_addAll_0 19 rfl rfl)
theorem dJ8_addAll_20 : decode cJ8_addAll 20 = .ok (.iload_n 3, 1) := dk_29 (dk_at dksJ8_addAll_0 20 rfl rfl)
theorem dJ8_addAll_21 : decode cJ8_addAll 21 = .ok (.ifCond .ne 5, 3) := dk_154 0 5 (dk_at dksJ8_addAll_0 21 rfl rfl)
theorem dJ8_addAll_24 : decode cJ8_addAll 24 = .ok (.iconst 0, 1) := dk_3 (dk_at dksJ8_addAll_1 0 rfl rfl)
theorem dJ8_addAll_25 : decode cJ8_addAll 25 = .ok (.ireturn, 1) := dk_172 (dk_at dksJ8_addAll_1 1 rfl rfl)
theorem dJ8_addAll_26 : decode cJ8_addAll 26 = .ok (.iload_n 3, 1) := dk_29 (dk_at dksJ8_addAll_1 2 rfl rfl)
theorem dJ8_addAll_27 : decode cJ8_addAll 27 = .ok (.aload_n 0, 1) := dk_42 (dk_at dksJ8_addAll_1 3 rfl rfl)
theorem dJ8_addAll_28 : decode cJ8_addAll 28 = .ok (.getfield 9, 3) := dk_180 0 9 (dk_at dksJ8_addAll_1 4 rfl rfl)
theorem dJ8_addAll_31 : decode cJ8_addAll 31 = .ok (.dup, 1) := dk_89 (dk_at dksJ8_addAll_1 7 rfl rfl)
theorem dJ8_addAll_32 : decode cJ8_addAll 32 = .ok (.astore 4, 2) := dk_58 4 (dk_at dksJ8_addAll_1 8 rfl rfl)
theorem dJ8_addAll_34 : decode cJ8_addAll 34 = .ok (.arraylength, 1) := dk_190 (dk_at dksJ8_addAll_1 10 rfl rfl)
theorem dJ8_addAll_35 : decode cJ8_addAll 35 = .ok (.aload_n 0, 1) := dk_42 (dk_at dksJ8_addAll_1 11 rfl rfl)
theorem dJ8_addAll_36 : decode cJ8_addAll 36 = .ok (.getfield 48, 3) := dk_180 0 48 (dk_at dksJ8_addAll_1 12 rfl rfl)
theorem dJ8_addAll_39 : decode cJ8_addAll 39 = .ok (.dup, 1) := dk_89 (dk_at dksJ8_addAll_1 15 rfl rfl)
theorem dJ8_addAll_40 : decode cJ8_addAll 40 = .ok (.istore 5, 2) := dk_54 5 (dk_at dksJ8_addAll_1 16 rfl rfl)
theorem dJ8_addAll_42 : decode cJ8_addAll 42 = .ok (.isub, 1) := dk_100 (dk_at dksJ8_addAll_1 18 rfl rfl)
theorem dJ8_addAll_43 : decode cJ8_addAll 43 = .ok (.if_icmp .le 13, 3) := dk_164 0 13 (dk_at dksJ8_addAll_1 19 rfl rfl)
theorem dJ8_addAll_46 : decode cJ8_addAll 46 = .ok (.aload_n 0, 1) := dk_42 (dk_at dksJ8_addAll_1 22 rfl rfl)
theorem dJ8_addAll_47 : decode cJ8_addAll 47 = .ok (.iload 5, 2) := dk_21 5 (dk_at dksJ8_addAll_2 0 rfl rfl)
theorem dJ8_addAll_49 : decode cJ8_addAll 49 = .ok (.iload_n 3, 1) := dk_29 (dk_at dksJ8_addAll_2 2 rfl rfl)
theorem dJ8_addAll_50 : decode cJ8_addAll 50 = .ok (.iadd, 1) := dk_96 (dk_at dksJ8_addAll_2 3 rfl rfl)
theorem dJ8_addAll_51 : decode cJ8_addAll 51 = .ok (.invokevirtual 69, 3) := dk_182 0 69 (dk_at dksJ8_addAll_2 4 rfl rfl)
theorem dJ8_addAll_54 : decode cJ8_addAll 54 = .ok (.astore 4, 2) := dk_58 4 (dk_at dksJ8_addAll_2 7 rfl rfl)
theorem dJ8_addAll_56 : decode cJ8_addAll 56 = .ok (.aload_n 2, 1) := dk_44 (dk_at dksJ8_addAll_2 9 rfl rfl)
theorem dJ8_addAll_57 : decode cJ8_addAll 57 = .ok (.iconst 0, 1) := dk_3 (dk_at dksJ8_addAll_2 10 rfl rfl)
theorem dJ8_addAll_58 : decode cJ8_addAll 58 = .ok (.aload 4, 2) := dk_25 4 (dk_at dksJ8_addAll_2 11 rfl rfl)
theorem dJ8_addAll_60 : decode cJ8_addAll 60 = .ok (.iload 5, 2) := dk_21 5 (dk_at dksJ8_addAll_2 13 rfl rfl)
theorem dJ8_addAll_62 : decode cJ8_addAll 62 = .ok (.iload_n 3, 1) := dk_29 (dk_at dksJ8_addAll_2 15 rfl rfl)
theorem dJ8_addAll_63 : decode cJ8_addAll 63 = .ok (.invokestatic 112, 3) := dk_184 0 112 (dk_at dksJ8_addAll_2 16 rfl rfl)
theorem dJ8_addAll_66 : decode cJ8_addAll 66 = .ok (.aload_n 0, 1) := dk_42 (dk_at dksJ8_addAll_2 19 rfl rfl)
theorem dJ8_addAll_67 : decode cJ8_addAll 67 = .ok (.iload 5, 2) := dk_21 5 (dk_at dksJ8_addAll_2 20 rfl rfl)
theorem dJ8_addAll_69 : decode cJ8_addAll 69 = .ok (.iload_n 3, 1) := dk_29 (dk_at dksJ8_addAll_2 22 rfl rfl)
theorem dJ8_addAll_70 : decode cJ8_addAll 70 = .ok (.iadd, 1) := dk_96 (dk_at dksJ8_addAll_2 23 rfl rfl)
theorem dJ8_addAll_71 : decode cJ8_addAll 71 = .ok (.putfield 48, 3) := dk_181 0 48 (dk_at dksJ8_addAll_3 0 rfl rfl)
theorem dJ8_addAll_74 : decode cJ8_addAll 74 = .ok (.iconst 1, 1) := dk_4 (dk_at dksJ8_addAll_3 3 rfl rfl)
theorem dJ8_addAll_75 : decode cJ8_addAll 75 = .ok (.ireturn, 1) := dk_172 (dk_at dksJ8_addAll_3 4 rfl rfl)
abbrev cJ8_listIterator : ByteArray := prog_54_method_53_code
def yJ8_listIterator : MethodName := ⟨RJ8, "listIterator", "(I)Ljava/util/ListIterator;"⟩
def dkwJ8_listIterator_0 : List UInt8 := [42, 27, 182, 0, 135, 187, 1, 6, 89, 42, 27, 183, 1, 8, 176]
abbrev dktJ8_listIterator_0 : List UInt8 := dkwJ8_listIterator_0 ++ []
theorem dksJ8_listIterator_0 : cJ8_listIterator.data.toList.drop 0 = dktJ8_listIterator_0 := by decide +kernel
theorem dJ8_listIterator_0 : decode cJ8_listIterator 0 = .ok (.aload_n 0, 1) := dk_42 (dk_at dksJ8_listIterator_0 0 rfl rfl)
theorem dJ8_listIterator_1 : decode cJ8_listIterator 1 = .ok (.iload_n 1, 1) := dk_27 (dk_at dksJ8_listIterator_0 1 rfl rfl)
theorem dJ8_listIterator_2 : decode cJ8_listIterator 2 = .ok (.invokevirtual 135, 3) := dk_182 0 135 (dk_at dksJ8_listIterator_0 2 rfl rfl)
theorem dJ8_listIterator_5 : decode cJ8_listIterator 5 = .ok (.new 262, 3) := dk_187 1 6 (dk_at dksJ8_listIterator_0 5 rfl rfl)
theorem dJ8_listIterator_8 : decode cJ8_listIterator 8 = .ok (.dup, 1) := dk_89 (dk_at dksJ8_listIterator_0 8 rfl rfl)
theorem dJ8_listIterator_9 : decode cJ8_listIterator 9 = .ok (.aload_n 0, 1) := dk_42 (dk_at dksJ8_listIterator_0 9 rfl rfl)
theorem dJ8_listIterator_10 : decode cJ8_listIterator 10 = .ok (.iload_n 1, 1) := dk_27 (dk_at dksJ8_listIterator_0 10 rfl rfl)
theorem dJ8_listIterator_11 : decode cJ8_listIterator 11 = .ok (.invokespecial 264, 3) := dk_183 1 8 (dk_at dksJ8_listIterator_0 11 rfl rfl)
theorem dJ8_listIterator_14 : decode cJ8_listIterator 14 = .ok (.areturn, 1) := dk_176 (dk_at dksJ8_listIterator_0 14 rfl rfl)
abbrev cJ8_rangeCheckForAdd : ByteArray := prog_54_method_45_code
def yJ8_rangeCheckForAdd : MethodName := ⟨RJ8, "rangeCheckForAdd", "(I)V"⟩
def dkwJ8_rangeCheckForAdd_1 : List UInt8 := [191, 177]
abbrev dktJ8_rangeCheckForAdd_1 : List UInt8 := dkwJ8_rangeCheckForAdd_1 ++ []
def dkwJ8_rangeCheckForAdd_0 : List UInt8 := [27, 42, 180, 0, 48, 163, 0, 7, 27, 156, 0, 16, 187, 0, 187, 89, 42, 27, 182, 0, 198, 183, 0, 193]
abbrev dktJ8_rangeCheckForAdd_0 : List UInt8 := dkwJ8_rangeCheckForAdd_0 ++ dktJ8_rangeCheckForAdd_1
theorem dksJ8_rangeCheckForAdd_0 : cJ8_rangeCheckForAdd.data.toList.drop 0 = dktJ8_rangeCheckForAdd_0 := by decide +kernel
theorem dksJ8_rangeCheckForAdd_1 : cJ8_rangeCheckForAdd.data.toList.drop 24 = dktJ8_rangeCheckForAdd_1 := dk_seg dksJ8_rangeCheckForAdd_0 24 rfl rfl
theorem dJ8_rangeCheckForAdd_0 : decode cJ8_rangeCheckForAdd 0 = .ok (.iload_n 1, 1) := dk_27 (dk_at dksJ8_rangeCheckForAdd_0 0 rfl rfl)
theorem dJ8_rangeCheckForAdd_1 : decode cJ8_rangeCheckForAdd 1 = .ok (.aload_n 0, 1) := dk_42 (dk_at dksJ8_rangeCheckForAdd_0 1 rfl rfl)
theorem dJ8_rangeCheckForAdd_2 : decode cJ8_rangeCheckForAdd 2 = .ok (.getfield 48, 3) := dk_180 0 48 (dk_at dksJ8_rangeCheckForAdd_0 2 rfl rfl)
theorem dJ8_rangeCheckForAdd_5 : decode cJ8_rangeCheckForAdd 5 = .ok (.if_icmp .gt 7, 3) := dk_163 0 7 (dk_at dksJ8_rangeCheckForAdd_0 5 rfl rfl)
theorem dJ8_rangeCheckForAdd_8 : decode cJ8_rangeCheckForAdd 8 = .ok (.iload_n 1, 1) := dk_27 (dk_at dksJ8_rangeCheckForAdd_0 8 rfl rfl)
theorem dJ8_rangeCheckForAdd_9 : decode cJ8_rangeCheckForAdd 9 = .ok (.ifCond .ge 16, 3) := dk_156 0 16 (dk_at dksJ8_rangeCheckForAdd_0 9 rfl rfl)
theorem dJ8_rangeCheckForAdd_12 : decode cJ8_rangeCheckForAdd 12 = .ok (.new 187, 3) := dk_187 0 187 (dk_at dksJ8_rangeCheckForAdd_0 12 rfl rfl)
theorem dJ8_rangeCheckForAdd_15 : decode cJ8_rangeCheckForAdd 15 = .ok (.dup, 1) := dk_89 (dk_at dksJ8_rangeCheckForAdd_0 15 rfl rfl)
theorem dJ8_rangeCheckForAdd_16 : decode cJ8_rangeCheckForAdd 16 = .ok (.aload_n 0, 1) := dk_42 (dk_at dksJ8_rangeCheckForAdd_0 16 rfl rfl)
theorem dJ8_rangeCheckForAdd_17 : decode cJ8_rangeCheckForAdd 17 = .ok (.iload_n 1, 1) := dk_27 (dk_at dksJ8_rangeCheckForAdd_0 17 rfl rfl)
theorem dJ8_rangeCheckForAdd_18 : decode cJ8_rangeCheckForAdd 18 = .ok (.invokevirtual 198, 3) := dk_182 0 198 (dk_at dksJ8_rangeCheckForAdd_0 18 rfl rfl)
theorem dJ8_rangeCheckForAdd_21 : decode cJ8_rangeCheckForAdd 21 = .ok (.invokespecial 193, 3) := dk_183 0 193 (dk_at dksJ8_rangeCheckForAdd_0 21 rfl rfl)
theorem dJ8_rangeCheckForAdd_24 : decode cJ8_rangeCheckForAdd 24 = .ok (.athrow, 1) := dk_191 (dk_at dksJ8_rangeCheckForAdd_1 0 rfl rfl)
theorem dJ8_rangeCheckForAdd_25 : decode cJ8_rangeCheckForAdd 25 = .ok (.return_, 1) := dk_177 (dk_at dksJ8_rangeCheckForAdd_1 1 rfl rfl)
abbrev cJ8_outOfBoundsMsg : ByteArray := prog_54_method_46_code
def yJ8_outOfBoundsMsg : MethodName := ⟨RJ8, "outOfBoundsMsg", "(I)Ljava/lang/String;"⟩
def dkwJ8_outOfBoundsMsg_1 : List UInt8 := [180, 0, 48, 182, 0, 29, 182, 0, 32, 176]
abbrev dktJ8_outOfBoundsMsg_1 : List UInt8 := dkwJ8_outOfBoundsMsg_1 ++ []
def dkwJ8_outOfBoundsMsg_0 : List UInt8 := [187, 0, 20, 89, 183, 0, 22, 18, 201, 182, 0, 25, 27, 182, 0, 29, 18, 203, 182, 0, 25, 42]
abbrev dktJ8_outOfBoundsMsg_0 : List UInt8 := dkwJ8_outOfBoundsMsg_0 ++ dktJ8_outOfBoundsMsg_1
theorem dksJ8_outOfBoundsMsg_0 : cJ8_outOfBoundsMsg.data.toList.drop 0 = dktJ8_outOfBoundsMsg_0 := by decide +kernel
theorem dksJ8_outOfBoundsMsg_1 : cJ8_outOfBoundsMsg.data.toList.drop 22 = dktJ8_outOfBoundsMsg_1 := dk_seg dksJ8_outOfBoundsMsg_0 22 rfl rfl
theorem dJ8_outOfBoundsMsg_0 : decode cJ8_outOfBoundsMsg 0 = .ok (.new 20, 3) := dk_187 0 20 (dk_at dksJ8_outOfBoundsMsg_0 0 rfl rfl)
theorem dJ8_outOfBoundsMsg_3 : decode cJ8_outOfBoundsMsg 3 = .ok (.dup, 1) := dk_89 (dk_at dksJ8_outOfBoundsMsg_0 3 rfl rfl)
theorem dJ8_outOfBoundsMsg_4 : decode cJ8_outOfBoundsMsg 4 = .ok (.invokespecial 22, 3) := dk_183 0 22 (dk_at dksJ8_outOfBoundsMsg_0 4 rfl rfl)
theorem dJ8_outOfBoundsMsg_7 : decode cJ8_outOfBoundsMsg 7 = .ok (.ldc 201, 2) := dk_18 201 (dk_at dksJ8_outOfBoundsMsg_0 7 rfl rfl)
theorem dJ8_outOfBoundsMsg_9 : decode cJ8_outOfBoundsMsg 9 = .ok (.invokevirtual 25, 3) := dk_182 0 25 (dk_at dksJ8_outOfBoundsMsg_0 9 rfl rfl)
theorem dJ8_outOfBoundsMsg_12 : decode cJ8_outOfBoundsMsg 12 = .ok (.iload_n 1, 1) := dk_27 (dk_at dksJ8_outOfBoundsMsg_0 12 rfl rfl)
theorem dJ8_outOfBoundsMsg_13 : decode cJ8_outOfBoundsMsg 13 = .ok (.invokevirtual 29, 3) := dk_182 0 29 (dk_at dksJ8_outOfBoundsMsg_0 13 rfl rfl)
theorem dJ8_outOfBoundsMsg_16 : decode cJ8_outOfBoundsMsg 16 = .ok (.ldc 203, 2) := dk_18 203 (dk_at dksJ8_outOfBoundsMsg_0 16 rfl rfl)
theorem dJ8_outOfBoundsMsg_18 : decode cJ8_outOfBoundsMsg 18 = .ok (.invokevirtual 25, 3) := dk_182 0 25 (dk_at dksJ8_outOfBoundsMsg_0 18 rfl rfl)
theorem dJ8_outOfBoundsMsg_21 : decode cJ8_outOfBoundsMsg 21 = .ok (.aload_n 0, 1) := dk_42 (dk_at dksJ8_outOfBoundsMsg_0 21 rfl rfl)
theorem dJ8_outOfBoundsMsg_22 : decode cJ8_outOfBoundsMsg 22 = .ok (.getfield 48, 3) := dk_180 0 48 (dk_at dksJ8_outOfBoundsMsg_1 0 rfl rfl)
theorem dJ8_outOfBoundsMsg_25 : decode cJ8_outOfBoundsMsg 25 = .ok (.invokevirtual 29, 3) := dk_182 0 29 (dk_at dksJ8_outOfBoundsMsg_1 3 rfl rfl)
theorem dJ8_outOfBoundsMsg_28 : decode cJ8_outOfBoundsMsg 28 = .ok (.invokevirtual 32, 3) := dk_182 0 32 (dk_at dksJ8_outOfBoundsMsg_1 6 rfl rfl)
theorem dJ8_outOfBoundsMsg_31 : decode cJ8_outOfBoundsMsg 31 = .ok (.areturn, 1) := dk_176 (dk_at dksJ8_outOfBoundsMsg_1 9 rfl rfl)
abbrev cJ8_iterator : ByteArray := prog_54_method_55_code
def yJ8_iterator : MethodName := ⟨RJ8, "iterator", "()Ljava/util/Iterator;"⟩
def dkwJ8_iterator_0 : List UInt8 := [187, 1, 11, 89, 42, 183, 1, 13, 176]
abbrev dktJ8_iterator_0 : List UInt8 := dkwJ8_iterator_0 ++ []
theorem dksJ8_iterator_0 : cJ8_iterator.data.toList.drop 0 = dktJ8_iterator_0 := by decide +kernel
theorem dJ8_iterator_0 : decode cJ8_iterator 0 = .ok (.new 267, 3) := dk_187 1 11 (dk_at dksJ8_iterator_0 0 rfl rfl)
theorem dJ8_iterator_3 : decode cJ8_iterator 3 = .ok (.dup, 1) := dk_89 (dk_at dksJ8_iterator_0 3 rfl rfl)
theorem dJ8_iterator_4 : decode cJ8_iterator 4 = .ok (.aload_n 0, 1) := dk_42 (dk_at dksJ8_iterator_0 4 rfl rfl)
theorem dJ8_iterator_5 : decode cJ8_iterator 5 = .ok (.invokespecial 269, 3) := dk_183 1 13 (dk_at dksJ8_iterator_0 5 rfl rfl)
theorem dJ8_iterator_8 : decode cJ8_iterator 8 = .ok (.areturn, 1) := dk_176 (dk_at dksJ8_iterator_0 8 rfl rfl)
abbrev cJ8_get : ByteArray := prog_54_method_20_code
def yJ8_get : MethodName := ⟨RJ8, "get", "(I)Ljava/lang/Object;"⟩
def dkwJ8_get_0 : List UInt8 := [27, 42, 180, 0, 48, 184, 0, 118, 87, 42, 27, 182, 0, 123, 176]
abbrev dktJ8_get_0 : List UInt8 := dkwJ8_get_0 ++ []
theorem dksJ8_get_0 : cJ8_get.data.toList.drop 0 = dktJ8_get_0 := by decide +kernel
theorem dJ8_get_0 : decode cJ8_get 0 = .ok (.iload_n 1, 1) := dk_27 (dk_at dksJ8_get_0 0 rfl rfl)
theorem dJ8_get_1 : decode cJ8_get 1 = .ok (.aload_n 0, 1) := dk_42 (dk_at dksJ8_get_0 1 rfl rfl)
theorem dJ8_get_2 : decode cJ8_get 2 = .ok (.getfield 48, 3) := dk_180 0 48 (dk_at dksJ8_get_0 2 rfl rfl)
theorem dJ8_get_5 : decode cJ8_get 5 = .ok (.invokestatic 118, 3) := dk_184 0 118 (dk_at dksJ8_get_0 5 rfl rfl)
theorem dJ8_get_8 : decode cJ8_get 8 = .ok (.pop, 1) := dk_87 (dk_at dksJ8_get_0 8 rfl rfl)
theorem dJ8_get_9 : decode cJ8_get 9 = .ok (.aload_n 0, 1) := dk_42 (dk_at dksJ8_get_0 9 rfl rfl)
theorem dJ8_get_10 : decode cJ8_get 10 = .ok (.iload_n 1, 1) := dk_27 (dk_at dksJ8_get_0 10 rfl rfl)
theorem dJ8_get_11 : decode cJ8_get 11 = .ok (.invokevirtual 123, 3) := dk_182 0 123 (dk_at dksJ8_get_0 11 rfl rfl)
theorem dJ8_get_14 : decode cJ8_get 14 = .ok (.areturn, 1) := dk_176 (dk_at dksJ8_get_0 14 rfl rfl)
abbrev cJ8_elementData : ByteArray := prog_54_method_18_code
def yJ8_elementData : MethodName := ⟨RJ8, "elementData", "(I)Ljava/lang/Object;"⟩
def dkwJ8_elementData_0 : List UInt8 := [42, 180, 0, 9, 27, 50, 176]
abbrev dktJ8_elementData_0 : List UInt8 := dkwJ8_elementData_0 ++ []
theorem dksJ8_elementData_0 : cJ8_elementData.data.toList.drop 0 = dktJ8_elementData_0 := by decide +kernel
theorem dJ8_elementData_0 : decode cJ8_elementData 0 = .ok (.aload_n 0, 1) := dk_42 (dk_at dksJ8_elementData_0 0 rfl rfl)
theorem dJ8_elementData_1 : decode cJ8_elementData 1 = .ok (.getfield 9, 3) := dk_180 0 9 (dk_at dksJ8_elementData_0 1 rfl rfl)
theorem dJ8_elementData_4 : decode cJ8_elementData 4 = .ok (.iload_n 1, 1) := dk_27 (dk_at dksJ8_elementData_0 4 rfl rfl)
theorem dJ8_elementData_5 : decode cJ8_elementData 5 = .ok (.aaload, 1) := dk_50 (dk_at dksJ8_elementData_0 5 rfl rfl)
theorem dJ8_elementData_6 : decode cJ8_elementData 6 = .ok (.areturn, 1) := dk_176 (dk_at dksJ8_elementData_0 6 rfl rfl)
abbrev cJ8_toArray : ByteArray := prog_54_method_16_code
def yJ8_toArray : MethodName := ⟨RJ8, "toArray", "()[Ljava/lang/Object;"⟩
def dkwJ8_toArray_0 : List UInt8 := [42, 180, 0, 9, 42, 180, 0, 48, 184, 0, 66, 176]
abbrev dktJ8_toArray_0 : List UInt8 := dkwJ8_toArray_0 ++ []
theorem dksJ8_toArray_0 : cJ8_toArray.data.toList.drop 0 = dktJ8_toArray_0 := by decide +kernel
theorem dJ8_toArray_0 : decode cJ8_toArray 0 = .ok (.aload_n 0, 1) := dk_42 (dk_at dksJ8_toArray_0 0 rfl rfl)
theorem dJ8_toArray_1 : decode cJ8_toArray 1 = .ok (.getfield 9, 3) := dk_180 0 9 (dk_at dksJ8_toArray_0 1 rfl rfl)
theorem dJ8_toArray_4 : decode cJ8_toArray 4 = .ok (.aload_n 0, 1) := dk_42 (dk_at dksJ8_toArray_0 4 rfl rfl)
theorem dJ8_toArray_5 : decode cJ8_toArray 5 = .ok (.getfield 48, 3) := dk_180 0 48 (dk_at dksJ8_toArray_0 5 rfl rfl)
theorem dJ8_toArray_8 : decode cJ8_toArray 8 = .ok (.invokestatic 66, 3) := dk_184 0 66 (dk_at dksJ8_toArray_0 8 rfl rfl)
theorem dJ8_toArray_11 : decode cJ8_toArray 11 = .ok (.areturn, 1) := dk_176 (dk_at dksJ8_toArray_0 11 rfl rfl)
abbrev cJ8_set : ByteArray := prog_54_method_23_code
def yJ8_set : MethodName := ⟨RJ8, "set", "(ILjava/lang/Object;)Ljava/lang/Object;"⟩
def dkwJ8_set_0 : List UInt8 := [27, 42, 180, 0, 48, 184, 0, 118, 87, 42, 27, 182, 0, 123, 78, 42, 180, 0, 9, 27, 44, 83, 45, 176]
abbrev dktJ8_set_0 : List UInt8 := dkwJ8_set_0 ++ []
theorem dksJ8_set_0 : cJ8_set.data.toList.drop 0 = dktJ8_set_0 := by decide +kernel
theorem dJ8_set_0 : decode cJ8_set 0 = .ok (.iload_n 1, 1) := dk_27 (dk_at dksJ8_set_0 0 rfl rfl)
theorem dJ8_set_1 : decode cJ8_set 1 = .ok (.aload_n 0, 1) := dk_42 (dk_at dksJ8_set_0 1 rfl rfl)
theorem dJ8_set_2 : decode cJ8_set 2 = .ok (.getfield 48, 3) := dk_180 0 48 (dk_at dksJ8_set_0 2 rfl rfl)
theorem dJ8_set_5 : decode cJ8_set 5 = .ok (.invokestatic 118, 3) := dk_184 0 118 (dk_at dksJ8_set_0 5 rfl rfl)
theorem dJ8_set_8 : decode cJ8_set 8 = .ok (.pop, 1) := dk_87 (dk_at dksJ8_set_0 8 rfl rfl)
theorem dJ8_set_9 : decode cJ8_set 9 = .ok (.aload_n 0, 1) := dk_42 (dk_at dksJ8_set_0 9 rfl rfl)
theorem dJ8_set_10 : decode cJ8_set 10 = .ok (.iload_n 1, 1) := dk_27 (dk_at dksJ8_set_0 10 rfl rfl)
theorem dJ8_set_11 : decode cJ8_set 11 = .ok (.invokevirtual 123, 3) := dk_182 0 123 (dk_at dksJ8_set_0 11 rfl rfl)
theorem dJ8_set_14 : decode cJ8_set 14 = .ok (.astore_n 3, 1) := dk_78 (dk_at dksJ8_set_0 14 rfl rfl)
theorem dJ8_set_15 : decode cJ8_set 15 = .ok (.aload_n 0, 1) := dk_42 (dk_at dksJ8_set_0 15 rfl rfl)
theorem dJ8_set_16 : decode cJ8_set 16 = .ok (.getfield 9, 3) := dk_180 0 9 (dk_at dksJ8_set_0 16 rfl rfl)
theorem dJ8_set_19 : decode cJ8_set 19 = .ok (.iload_n 1, 1) := dk_27 (dk_at dksJ8_set_0 19 rfl rfl)
theorem dJ8_set_20 : decode cJ8_set 20 = .ok (.aload_n 2, 1) := dk_44 (dk_at dksJ8_set_0 20 rfl rfl)
theorem dJ8_set_21 : decode cJ8_set 21 = .ok (.aastore, 1) := dk_83 (dk_at dksJ8_set_0 21 rfl rfl)
theorem dJ8_set_22 : decode cJ8_set 22 = .ok (.aload_n 3, 1) := dk_45 (dk_at dksJ8_set_0 22 rfl rfl)
theorem dJ8_set_23 : decode cJ8_set 23 = .ok (.areturn, 1) := dk_176 (dk_at dksJ8_set_0 23 rfl rfl)
abbrev cJ8_remove : ByteArray := prog_54_method_29_code
def yJ8_remove : MethodName := ⟨RJ8, "remove", "(I)Ljava/lang/Object;"⟩
def dkwJ8_remove_1 : List UInt8 := [45, 176]
abbrev dktJ8_remove_1 : List UInt8 := dkwJ8_remove_1 ++ []
def dkwJ8_remove_0 : List UInt8 := [27, 42, 180, 0, 48, 184, 0, 118, 87, 42, 180, 0, 9, 77, 44, 27, 50, 78, 42, 44, 27, 182, 0, 144]
abbrev dktJ8_remove_0 : List UInt8 := dkwJ8_remove_0 ++ dktJ8_remove_1
theorem dksJ8_remove_0 : cJ8_remove.data.toList.drop 0 = dktJ8_remove_0 := by decide +kernel
theorem dksJ8_remove_1 : cJ8_remove.data.toList.drop 24 = dktJ8_remove_1 := dk_seg dksJ8_remove_0 24 rfl rfl
theorem dJ8_remove_0 : decode cJ8_remove 0 = .ok (.iload_n 1, 1) := dk_27 (dk_at dksJ8_remove_0 0 rfl rfl)
theorem dJ8_remove_1 : decode cJ8_remove 1 = .ok (.aload_n 0, 1) := dk_42 (dk_at dksJ8_remove_0 1 rfl rfl)
theorem dJ8_remove_2 : decode cJ8_remove 2 = .ok (.getfield 48, 3) := dk_180 0 48 (dk_at dksJ8_remove_0 2 rfl rfl)
theorem dJ8_remove_5 : decode cJ8_remove 5 = .ok (.invokestatic 118, 3) := dk_184 0 118 (dk_at dksJ8_remove_0 5 rfl rfl)
theorem dJ8_remove_8 : decode cJ8_remove 8 = .ok (.pop, 1) := dk_87 (dk_at dksJ8_remove_0 8 rfl rfl)
theorem dJ8_remove_9 : decode cJ8_remove 9 = .ok (.aload_n 0, 1) := dk_42 (dk_at dksJ8_remove_0 9 rfl rfl)
theorem dJ8_remove_10 : decode cJ8_remove 10 = .ok (.getfield 9, 3) := dk_180 0 9 (dk_at dksJ8_remove_0 10 rfl rfl)
theorem dJ8_remove_13 : decode cJ8_remove 13 = .ok (.astore_n 2, 1) := dk_77 (dk_at dksJ8_remove_0 13 rfl rfl)
theorem dJ8_remove_14 : decode cJ8_remove 14 = .ok (.aload_n 2, 1) := dk_44 (dk_at dksJ8_remove_0 14 rfl rfl)
theorem dJ8_remove_15 : decode cJ8_remove 15 = .ok (.iload_n 1, 1) := dk_27 (dk_at dksJ8_remove_0 15 rfl rfl)
theorem dJ8_remove_16 : decode cJ8_remove 16 = .ok (.aaload, 1) := dk_50 (dk_at dksJ8_remove_0 16 rfl rfl)
theorem dJ8_remove_17 : decode cJ8_remove 17 = .ok (.astore_n 3, 1) := dk_78 (dk_at dksJ8_remove_0 17 rfl rfl)
theorem dJ8_remove_18 : decode cJ8_remove 18 = .ok (.aload_n 0, 1) := dk_42 (dk_at dksJ8_remove_0 18 rfl rfl)
theorem dJ8_remove_19 : decode cJ8_remove 19 = .ok (.aload_n 2, 1) := dk_44 (dk_at dksJ8_remove_0 19 rfl rfl)
theorem dJ8_remove_20 : decode cJ8_remove 20 = .ok (.iload_n 1, 1) := dk_27 (dk_at dksJ8_remove_0 20 rfl rfl)
theorem dJ8_remove_21 : decode cJ8_remove 21 = .ok (.invokevirtual 144, 3) := dk_182 0 144 (dk_at dksJ8_remove_0 21 rfl rfl)
theorem dJ8_remove_24 : decode cJ8_remove 24 = .ok (.aload_n 3, 1) := dk_45 (dk_at dksJ8_remove_1 0 rfl rfl)
theorem dJ8_remove_25 : decode cJ8_remove 25 = .ok (.areturn, 1) := dk_176 (dk_at dksJ8_remove_1 1 rfl rfl)
abbrev cJ8_fastRemove : ByteArray := prog_54_method_39_code
def yJ8_fastRemove : MethodName := ⟨RJ8, "fastRemove", "([Ljava/lang/Object;I)V"⟩
def dkwJ8_fastRemove_1 : List UInt8 := [4, 96, 43, 28, 29, 28, 100, 184, 0, 112, 43, 42, 29, 90, 181, 0, 48, 1, 83, 177]
abbrev dktJ8_fastRemove_1 : List UInt8 := dkwJ8_fastRemove_1 ++ []
def dkwJ8_fastRemove_0 : List UInt8 := [42, 89, 180, 0, 63, 4, 96, 181, 0, 63, 42, 180, 0, 48, 4, 100, 89, 62, 28, 164, 0, 15, 43, 28]
abbrev dktJ8_fastRemove_0 : List UInt8 := dkwJ8_fastRemove_0 ++ dktJ8_fastRemove_1
theorem dksJ8_fastRemove_0 : cJ8_fastRemove.data.toList.drop 0 = dktJ8_fastRemove_0 := by decide +kernel
theorem dksJ8_fastRemove_1 : cJ8_fastRemove.data.toList.drop 24 = dktJ8_fastRemove_1 := dk_seg dksJ8_fastRemove_0 24 rfl rfl
theorem dJ8_fastRemove_0 : decode cJ8_fastRemove 0 = .ok (.aload_n 0, 1) := dk_42 (dk_at dksJ8_fastRemove_0 0 rfl rfl)
theorem dJ8_fastRemove_1 : decode cJ8_fastRemove 1 = .ok (.dup, 1) := dk_89 (dk_at dksJ8_fastRemove_0 1 rfl rfl)
theorem dJ8_fastRemove_2 : decode cJ8_fastRemove 2 = .ok (.getfield 63, 3) := dk_180 0 63 (dk_at dksJ8_fastRemove_0 2 rfl rfl)
theorem dJ8_fastRemove_5 : decode cJ8_fastRemove 5 = .ok (.iconst 1, 1) := dk_4 (dk_at dksJ8_fastRemove_0 5 rfl rfl)
theorem dJ8_fastRemove_6 : decode cJ8_fastRemove 6 = .ok (.iadd, 1) := dk_96 (dk_at dksJ8_fastRemove_0 6 rfl rfl)
theorem dJ8_fastRemove_7 : decode cJ8_fastRemove 7 = .ok (.putfield 63, 3) := dk_181 0 63 (dk_at dksJ8_fastRemove_0 7 rfl rfl)
theorem dJ8_fastRemove_10 : decode cJ8_fastRemove 10 = .ok (.aload_n 0, 1) := dk_42 (dk_at dksJ8_fastRemove_0 10 rfl rfl)
theorem dJ8_fastRemove_11 : decode cJ8_fastRemove 11 = .ok (.getfield 48, 3) := dk_180 0 48 (dk_at dksJ8_fastRemove_0 11 rfl rfl)
theorem dJ8_fastRemove_14 : decode cJ8_fastRemove 14 = .ok (.iconst 1, 1) := dk_4 (dk_at dksJ8_fastRemove_0 14 rfl rfl)
theorem dJ8_fastRemove_15 : decode cJ8_fastRemove 15 = .ok (.isub, 1) := dk_100 (dk_at dksJ8_fastRemove_0 15 rfl rfl)
theorem dJ8_fastRemove_16 : decode cJ8_fastRemove 16 = .ok (.dup, 1) := dk_89 (dk_at dksJ8_fastRemove_0 16 rfl rfl)
theorem dJ8_fastRemove_17 : decode cJ8_fastRemove 17 = .ok (.istore_n 3, 1) := dk_62 (dk_at dksJ8_fastRemove_0 17 rfl rfl)
theorem dJ8_fastRemove_18 : decode cJ8_fastRemove 18 = .ok (.iload_n 2, 1) := dk_28 (dk_at dksJ8_fastRemove_0 18 rfl rfl)
theorem dJ8_fastRemove_19 : decode cJ8_fastRemove 19 = .ok (.if_icmp .le 15, 3) := dk_164 0 15 (dk_at dksJ8_fastRemove_0 19 rfl rfl)
theorem dJ8_fastRemove_22 : decode cJ8_fastRemove 22 = .ok (.aload_n 1, 1) := dk_43 (dk_at dksJ8_fastRemove_0 22 rfl rfl)
theorem dJ8_fastRemove_23 : decode cJ8_fastRemove 23 = .ok (.iload_n 2, 1) := dk_28 (dk_at dksJ8_fastRemove_0 23 rfl rfl)
theorem dJ8_fastRemove_24 : decode cJ8_fastRemove 24 = .ok (.iconst 1, 1) := dk_4 (dk_at dksJ8_fastRemove_1 0 rfl rfl)
theorem dJ8_fastRemove_25 : decode cJ8_fastRemove 25 = .ok (.iadd, 1) := dk_96 (dk_at dksJ8_fastRemove_1 1 rfl rfl)
theorem dJ8_fastRemove_26 : decode cJ8_fastRemove 26 = .ok (.aload_n 1, 1) := dk_43 (dk_at dksJ8_fastRemove_1 2 rfl rfl)
theorem dJ8_fastRemove_27 : decode cJ8_fastRemove 27 = .ok (.iload_n 2, 1) := dk_28 (dk_at dksJ8_fastRemove_1 3 rfl rfl)
theorem dJ8_fastRemove_28 : decode cJ8_fastRemove 28 = .ok (.iload_n 3, 1) := dk_29 (dk_at dksJ8_fastRemove_1 4 rfl rfl)
theorem dJ8_fastRemove_29 : decode cJ8_fastRemove 29 = .ok (.iload_n 2, 1) := dk_28 (dk_at dksJ8_fastRemove_1 5 rfl rfl)
theorem dJ8_fastRemove_30 : decode cJ8_fastRemove 30 = .ok (.isub, 1) := dk_100 (dk_at dksJ8_fastRemove_1 6 rfl rfl)
theorem dJ8_fastRemove_31 : decode cJ8_fastRemove 31 = .ok (.invokestatic 112, 3) := dk_184 0 112 (dk_at dksJ8_fastRemove_1 7 rfl rfl)
theorem dJ8_fastRemove_34 : decode cJ8_fastRemove 34 = .ok (.aload_n 1, 1) := dk_43 (dk_at dksJ8_fastRemove_1 10 rfl rfl)
theorem dJ8_fastRemove_35 : decode cJ8_fastRemove 35 = .ok (.aload_n 0, 1) := dk_42 (dk_at dksJ8_fastRemove_1 11 rfl rfl)
theorem dJ8_fastRemove_36 : decode cJ8_fastRemove 36 = .ok (.iload_n 3, 1) := dk_29 (dk_at dksJ8_fastRemove_1 12 rfl rfl)
theorem dJ8_fastRemove_37 : decode cJ8_fastRemove 37 = .ok (.dup_x1, 1) := dk_90 (dk_at dksJ8_fastRemove_1 13 rfl rfl)
theorem dJ8_fastRemove_38 : decode cJ8_fastRemove 38 = .ok (.putfield 48, 3) := dk_181 0 48 (dk_at dksJ8_fastRemove_1 14 rfl rfl)
theorem dJ8_fastRemove_41 : decode cJ8_fastRemove 41 = .ok (.aconst_null, 1) := dk_1 (dk_at dksJ8_fastRemove_1 17 rfl rfl)
theorem dJ8_fastRemove_42 : decode cJ8_fastRemove 42 = .ok (.aastore, 1) := dk_83 (dk_at dksJ8_fastRemove_1 18 rfl rfl)
theorem dJ8_fastRemove_43 : decode cJ8_fastRemove 43 = .ok (.return_, 1) := dk_177 (dk_at dksJ8_fastRemove_1 19 rfl rfl)
abbrev cJ8_subList : ByteArray := prog_54_method_56_code
def yJ8_subList : MethodName := ⟨RJ8, "subList", "(II)Ljava/util/List;"⟩
def dkwJ8_subList_0 : List UInt8 := [27, 28, 42, 180, 0, 48, 184, 1, 16, 187, 1, 20, 89, 42, 27, 28, 183, 1, 22, 176]
abbrev dktJ8_subList_0 : List UInt8 := dkwJ8_subList_0 ++ []
theorem dksJ8_subList_0 : cJ8_subList.data.toList.drop 0 = dktJ8_subList_0 := by decide +kernel
theorem dJ8_subList_0 : decode cJ8_subList 0 = .ok (.iload_n 1, 1) := dk_27 (dk_at dksJ8_subList_0 0 rfl rfl)
theorem dJ8_subList_1 : decode cJ8_subList 1 = .ok (.iload_n 2, 1) := dk_28 (dk_at dksJ8_subList_0 1 rfl rfl)
theorem dJ8_subList_2 : decode cJ8_subList 2 = .ok (.aload_n 0, 1) := dk_42 (dk_at dksJ8_subList_0 2 rfl rfl)
theorem dJ8_subList_3 : decode cJ8_subList 3 = .ok (.getfield 48, 3) := dk_180 0 48 (dk_at dksJ8_subList_0 3 rfl rfl)
theorem dJ8_subList_6 : decode cJ8_subList 6 = .ok (.invokestatic 272, 3) := dk_184 1 16 (dk_at dksJ8_subList_0 6 rfl rfl)
theorem dJ8_subList_9 : decode cJ8_subList 9 = .ok (.new 276, 3) := dk_187 1 20 (dk_at dksJ8_subList_0 9 rfl rfl)
theorem dJ8_subList_12 : decode cJ8_subList 12 = .ok (.dup, 1) := dk_89 (dk_at dksJ8_subList_0 12 rfl rfl)
theorem dJ8_subList_13 : decode cJ8_subList 13 = .ok (.aload_n 0, 1) := dk_42 (dk_at dksJ8_subList_0 13 rfl rfl)
theorem dJ8_subList_14 : decode cJ8_subList 14 = .ok (.iload_n 1, 1) := dk_27 (dk_at dksJ8_subList_0 14 rfl rfl)
theorem dJ8_subList_15 : decode cJ8_subList 15 = .ok (.iload_n 2, 1) := dk_28 (dk_at dksJ8_subList_0 15 rfl rfl)
theorem dJ8_subList_16 : decode cJ8_subList 16 = .ok (.invokespecial 278, 3) := dk_183 1 22 (dk_at dksJ8_subList_0 16 rfl rfl)
theorem dJ8_subList_19 : decode cJ8_subList 19 = .ok (.areturn, 1) := dk_176 (dk_at dksJ8_subList_0 19 rfl rfl)
abbrev cJ8_listIterator_2 : ByteArray := prog_54_method_54_code
def yJ8_listIterator_2 : MethodName := ⟨RJ8, "listIterator", "()Ljava/util/ListIterator;"⟩
def dkwJ8_listIterator_2_0 : List UInt8 := [187, 1, 6, 89, 42, 3, 183, 1, 8, 176]
abbrev dktJ8_listIterator_2_0 : List UInt8 := dkwJ8_listIterator_2_0 ++ []
theorem dksJ8_listIterator_2_0 : cJ8_listIterator_2.data.toList.drop 0 = dktJ8_listIterator_2_0 := by decide +kernel
theorem dJ8_listIterator_2_0 : decode cJ8_listIterator_2 0 = .ok (.new 262, 3) := dk_187 1 6 (dk_at dksJ8_listIterator_2_0 0 rfl rfl)
theorem dJ8_listIterator_2_3 : decode cJ8_listIterator_2 3 = .ok (.dup, 1) := dk_89 (dk_at dksJ8_listIterator_2_0 3 rfl rfl)
theorem dJ8_listIterator_2_4 : decode cJ8_listIterator_2 4 = .ok (.aload_n 0, 1) := dk_42 (dk_at dksJ8_listIterator_2_0 4 rfl rfl)
theorem dJ8_listIterator_2_5 : decode cJ8_listIterator_2 5 = .ok (.iconst 0, 1) := dk_3 (dk_at dksJ8_listIterator_2_0 5 rfl rfl)
theorem dJ8_listIterator_2_6 : decode cJ8_listIterator_2 6 = .ok (.invokespecial 264, 3) := dk_183 1 8 (dk_at dksJ8_listIterator_2_0 6 rfl rfl)
theorem dJ8_listIterator_2_9 : decode cJ8_listIterator_2 9 = .ok (.areturn, 1) := dk_176 (dk_at dksJ8_listIterator_2_0 9 rfl rfl)
theorem q114 : (Jvm.Cond.initialized "java/util/ArrayList") ∈ lw_all := lw_g (lw_at lw_m1 13 rfl) rfl
theorem q241 : (Jvm.Cond.instantiable "java/util/ArrayList" (3 : Nat)) ∈ lw_all := lw_g (lw_at lw_m1 140 rfl) rfl
theorem q243 : (Jvm.Cond.instanceMethod ({ cls := "java/util/ArrayList", name := "<init>", desc := "()V" } : Jvm.MethodName)) ∈ lw_all := lw_g (lw_at lw_m1 142 rfl) rfl
theorem q244 : (Jvm.Cond.code ({ cls := "java/util/ArrayList", name := "<init>", desc := "()V" } : Jvm.MethodName) prog_54_method_2_code (1 : Nat) (Option.none : Option Jvm.ClassFile.FieldType)) ∈ lw_all := lw_g (lw_at lw_m1 143 rfl) rfl
theorem q245 : (Jvm.Cond.methodLink "java/util/ArrayList" (1 : Nat) ({ cls := "java/util/AbstractList", name := "<init>", desc := "()V" } : Jvm.MethodName)) ∈ lw_all := lw_g (lw_at lw_m1 144 rfl) rfl
theorem q249 : (Jvm.Cond.fieldLink "java/util/ArrayList" (39 : Nat) "java/util/ArrayList" "DEFAULTCAPACITY_EMPTY_ELEMENTDATA" "[Ljava/lang/Object;") ∈ lw_all := lw_g (lw_at lw_m1 148 rfl) rfl
theorem q250 : (Jvm.Cond.laysStatic "java/util/ArrayList" "DEFAULTCAPACITY_EMPTY_ELEMENTDATA" "[Ljava/lang/Object;") ∈ lw_tbl := lw_at lw_m1 149 rfl
theorem q251 : (Jvm.Cond.fieldLink "java/util/ArrayList" (9 : Nat) "java/util/ArrayList" "elementData" "[Ljava/lang/Object;") ∈ lw_all := lw_g (lw_at lw_m1 150 rfl) rfl
theorem q257 : (Jvm.Cond.fieldLink "java/util/ArrayList" (48 : Nat) "java/util/ArrayList" "size" "I") ∈ lw_all := lw_g (lw_at lw_m1 156 rfl) rfl
theorem q262 : (Jvm.Cond.sameField "java/util/ArrayList" "java/util/AbstractList" "modCount" "I") ∈ lw_all := lw_g (lw_at lw_m1 161 rfl) rfl
theorem q274 : (Jvm.Cond.fieldLink "java/util/ArrayList" (63 : Nat) "java/util/ArrayList" "modCount" "I") ∈ lw_all := lw_g (lw_at lw_m1 173 rfl) rfl
theorem q275 : (Jvm.Cond.lays "java/util/ArrayList" "java/util/ArrayList" "elementData" "[Ljava/lang/Object;") ∈ lw_all := lw_g (lw_at lw_m1 174 rfl) rfl
theorem q276 : (Jvm.Cond.soleField "java/util/ArrayList" "elementData") ∈ lw_all := lw_g (lw_at lw_m1 175 rfl) rfl
theorem q277 : (Jvm.Cond.lays "java/util/ArrayList" "java/util/ArrayList" "size" "I") ∈ lw_all := lw_g (lw_at lw_m1 176 rfl) rfl
theorem q278 : (Jvm.Cond.soleField "java/util/ArrayList" "size") ∈ lw_all := lw_g (lw_at lw_m1 177 rfl) rfl
theorem q279 : (Jvm.Cond.lays "java/util/ArrayList" "java/util/AbstractList" "modCount" "I") ∈ lw_all := lw_g (lw_at lw_m1 178 rfl) rfl
theorem q281 : (Jvm.Cond.superclass "java/util/ArrayList" "java/util/AbstractList") ∈ lw_all := lw_g (lw_at lw_m1 180 rfl) rfl
theorem q355 : (Jvm.Cond.instanceMethod ({ cls := "java/util/ArrayList", name := "add", desc := "(Ljava/lang/Object;)Z" } : Jvm.MethodName)) ∈ lw_all := lw_g (lw_at lw_m2 14 rfl) rfl
theorem q356 : (Jvm.Cond.selects "java/util/ArrayList" ({ cls := "java/util/ArrayList", name := "add", desc := "(Ljava/lang/Object;)Z" } : Jvm.MethodName) ({ cls := "java/util/ArrayList", name := "add", desc := "(Ljava/lang/Object;)Z" } : Jvm.MethodName)) ∈ lw_all := lw_g (lw_at lw_m2 15 rfl) rfl
theorem q357 : (Jvm.Cond.code ({ cls := "java/util/ArrayList", name := "add", desc := "(Ljava/lang/Object;)Z" } : Jvm.MethodName) prog_54_method_25_code (2 : Nat) (Option.some Jvm.ClassFile.FieldType.boolean)) ∈ lw_all := lw_g (lw_at lw_m2 16 rfl) rfl
theorem q358 : (Jvm.Cond.methodLink "java/util/ArrayList" (131 : Nat) ({ cls := "java/util/ArrayList", name := "add", desc := "(Ljava/lang/Object;[Ljava/lang/Object;I)V" } : Jvm.MethodName)) ∈ lw_all := lw_g (lw_at lw_m2 17 rfl) rfl
theorem q359 : (Jvm.Cond.privateMethod ({ cls := "java/util/ArrayList", name := "add", desc := "(Ljava/lang/Object;[Ljava/lang/Object;I)V" } : Jvm.MethodName)) ∈ lw_tbl := lw_at lw_m2 18 rfl
theorem q360 : (Jvm.Cond.instanceMethod ({ cls := "java/util/ArrayList", name := "add", desc := "(Ljava/lang/Object;[Ljava/lang/Object;I)V" } : Jvm.MethodName)) ∈ lw_all := lw_g (lw_at lw_m2 19 rfl) rfl
theorem q361 : (Jvm.Cond.code ({ cls := "java/util/ArrayList", name := "add", desc := "(Ljava/lang/Object;[Ljava/lang/Object;I)V" } : Jvm.MethodName) prog_54_method_24_code (4 : Nat) (Option.none : Option Jvm.ClassFile.FieldType)) ∈ lw_all := lw_g (lw_at lw_m2 20 rfl) rfl
theorem q362 : (Jvm.Cond.methodLink "java/util/ArrayList" (129 : Nat) ({ cls := "java/util/ArrayList", name := "grow", desc := "()[Ljava/lang/Object;" } : Jvm.MethodName)) ∈ lw_all := lw_g (lw_at lw_m2 21 rfl) rfl
theorem q363 : (Jvm.Cond.privateMethod ({ cls := "java/util/ArrayList", name := "grow", desc := "()[Ljava/lang/Object;" } : Jvm.MethodName)) ∈ lw_tbl := lw_at lw_m2 22 rfl
theorem q364 : (Jvm.Cond.instanceMethod ({ cls := "java/util/ArrayList", name := "grow", desc := "()[Ljava/lang/Object;" } : Jvm.MethodName)) ∈ lw_all := lw_g (lw_at lw_m2 23 rfl) rfl
theorem q365 : (Jvm.Cond.code ({ cls := "java/util/ArrayList", name := "grow", desc := "()[Ljava/lang/Object;" } : Jvm.MethodName) prog_54_method_7_code (1 : Nat) (Option.some (Jvm.ClassFile.FieldType.array (Jvm.ClassFile.FieldType.object "java/lang/Object")))) ∈ lw_all := lw_g (lw_at lw_m2 24 rfl) rfl
theorem q366 : (Jvm.Cond.methodLink "java/util/ArrayList" (69 : Nat) ({ cls := "java/util/ArrayList", name := "grow", desc := "(I)[Ljava/lang/Object;" } : Jvm.MethodName)) ∈ lw_all := lw_g (lw_at lw_m2 25 rfl) rfl
theorem q367 : (Jvm.Cond.privateMethod ({ cls := "java/util/ArrayList", name := "grow", desc := "(I)[Ljava/lang/Object;" } : Jvm.MethodName)) ∈ lw_tbl := lw_at lw_m2 26 rfl
theorem q368 : (Jvm.Cond.instanceMethod ({ cls := "java/util/ArrayList", name := "grow", desc := "(I)[Ljava/lang/Object;" } : Jvm.MethodName)) ∈ lw_all := lw_g (lw_at lw_m2 27 rfl) rfl
theorem q369 : (Jvm.Cond.code ({ cls := "java/util/ArrayList", name := "grow", desc := "(I)[Ljava/lang/Object;" } : Jvm.MethodName) prog_54_method_6_code (4 : Nat) (Option.some (Jvm.ClassFile.FieldType.array (Jvm.ClassFile.FieldType.object "java/lang/Object")))) ∈ lw_all := lw_g (lw_at lw_m2 28 rfl) rfl
theorem q370 : (Jvm.Cond.methodLink "java/util/ArrayList" (73 : Nat) ({ cls := "jdk/internal/util/ArraysSupport", name := "newLength", desc := "(III)I" } : Jvm.MethodName)) ∈ lw_all := lw_g (lw_at lw_m2 29 rfl) rfl
theorem q380 : (Jvm.Cond.methodLink "java/util/ArrayList" (66 : Nat) ({ cls := "java/util/Arrays", name := "copyOf", desc := "([Ljava/lang/Object;I)[Ljava/lang/Object;" } : Jvm.MethodName)) ∈ lw_all := lw_g (lw_at lw_m2 39 rfl) rfl
theorem q414 : (Jvm.Cond.selects "java/util/ArrayList" ({ cls := "java/lang/Object", name := "getClass", desc := "()Ljava/lang/Class;" } : Jvm.MethodName) ({ cls := "java/lang/Object", name := "getClass", desc := "()Ljava/lang/Class;" } : Jvm.MethodName)) ∈ lw_all := lw_g (lw_at lw_m2 73 rfl) rfl
theorem q444 : (Jvm.Cond.methodLink "java/util/ArrayList" (79 : Nat) ({ cls := "java/lang/Math", name := "max", desc := "(II)I" } : Jvm.MethodName)) ∈ lw_all := lw_g (lw_at lw_m2 103 rfl) rfl
theorem q445 : (Jvm.Cond.classLink "java/util/ArrayList" (7 : Nat) "java/lang/Object") ∈ lw_all := lw_g (lw_at lw_m2 104 rfl) rfl
theorem q584 : (Jvm.Cond.instanceMethod ({ cls := "java/util/ArrayList", name := "size", desc := "()I" } : Jvm.MethodName)) ∈ lw_all := lw_g (lw_at lw_m3 3 rfl) rfl
theorem q585 : (Jvm.Cond.selects "java/util/ArrayList" ({ cls := "java/util/ArrayList", name := "size", desc := "()I" } : Jvm.MethodName) ({ cls := "java/util/ArrayList", name := "size", desc := "()I" } : Jvm.MethodName)) ∈ lw_all := lw_g (lw_at lw_m3 4 rfl) rfl
theorem q586 : (Jvm.Cond.code ({ cls := "java/util/ArrayList", name := "size", desc := "()I" } : Jvm.MethodName) prog_54_method_8_code (1 : Nat) (Option.some Jvm.ClassFile.FieldType.int)) ∈ lw_all := lw_g (lw_at lw_m3 5 rfl) rfl
theorem q609 : (Jvm.Cond.instanceMethod ({ cls := "java/util/ArrayList", name := "addAll", desc := "(Ljava/util/Collection;)Z" } : Jvm.MethodName)) ∈ lw_all := lw_g (lw_at lw_m3 28 rfl) rfl
theorem q610 : (Jvm.Cond.selects "java/util/ArrayList" ({ cls := "java/util/ArrayList", name := "addAll", desc := "(Ljava/util/Collection;)Z" } : Jvm.MethodName) ({ cls := "java/util/ArrayList", name := "addAll", desc := "(Ljava/util/Collection;)Z" } : Jvm.MethodName)) ∈ lw_all := lw_g (lw_at lw_m3 29 rfl) rfl
theorem q611 : (Jvm.Cond.code ({ cls := "java/util/ArrayList", name := "addAll", desc := "(Ljava/util/Collection;)Z" } : Jvm.MethodName) prog_54_method_41_code (6 : Nat) (Option.some Jvm.ClassFile.FieldType.boolean)) ∈ lw_all := lw_g (lw_at lw_m3 30 rfl) rfl
theorem q612 : (Jvm.Cond.interfaceEntry "java/util/ArrayList" (42 : Nat)) ∈ lw_tbl := lw_at lw_m3 31 rfl
theorem q613 : (Jvm.Cond.methodLink "java/util/ArrayList" (42 : Nat) ({ cls := "java/util/Collection", name := "toArray", desc := "()[Ljava/lang/Object;" } : Jvm.MethodName)) ∈ lw_all := lw_g (lw_at lw_m3 32 rfl) rfl
theorem q640 : (Jvm.Cond.selects "java/util/ArrayList" ({ cls := "java/util/AbstractCollection", name := "size", desc := "()I" } : Jvm.MethodName) ({ cls := "java/util/ArrayList", name := "size", desc := "()I" } : Jvm.MethodName)) ∈ lw_all := lw_g (lw_at lw_m3 59 rfl) rfl
theorem q1008 : (Jvm.Cond.instanceMethod ({ cls := "java/util/ArrayList", name := "listIterator", desc := "(I)Ljava/util/ListIterator;" } : Jvm.MethodName)) ∈ lw_all := lw_g (lw_at lw_m4 187 rfl) rfl
theorem q1009 : (Jvm.Cond.code ({ cls := "java/util/ArrayList", name := "listIterator", desc := "(I)Ljava/util/ListIterator;" } : Jvm.MethodName) prog_54_method_53_code (2 : Nat) (Option.some (Jvm.ClassFile.FieldType.object "java/util/ListIterator"))) ∈ lw_all := lw_g (lw_at lw_m4 188 rfl) rfl
theorem q1010 : (Jvm.Cond.methodLink "java/util/ArrayList" (135 : Nat) ({ cls := "java/util/ArrayList", name := "rangeCheckForAdd", desc := "(I)V" } : Jvm.MethodName)) ∈ lw_all := lw_g (lw_at lw_m4 189 rfl) rfl
theorem q1011 : (Jvm.Cond.privateMethod ({ cls := "java/util/ArrayList", name := "rangeCheckForAdd", desc := "(I)V" } : Jvm.MethodName)) ∈ lw_tbl := lw_at lw_m4 190 rfl
theorem q1012 : (Jvm.Cond.instanceMethod ({ cls := "java/util/ArrayList", name := "rangeCheckForAdd", desc := "(I)V" } : Jvm.MethodName)) ∈ lw_all := lw_g (lw_at lw_m4 191 rfl) rfl
theorem q1013 : (Jvm.Cond.code ({ cls := "java/util/ArrayList", name := "rangeCheckForAdd", desc := "(I)V" } : Jvm.MethodName) prog_54_method_45_code (2 : Nat) (Option.none : Option Jvm.ClassFile.FieldType)) ∈ lw_all := lw_g (lw_at lw_m4 192 rfl) rfl
theorem q1014 : (Jvm.Cond.classLink "java/util/ArrayList" (187 : Nat) "java/lang/IndexOutOfBoundsException") ∈ lw_all := lw_g (lw_at lw_m4 193 rfl) rfl
theorem q1015 : (Jvm.Cond.methodLink "java/util/ArrayList" (198 : Nat) ({ cls := "java/util/ArrayList", name := "outOfBoundsMsg", desc := "(I)Ljava/lang/String;" } : Jvm.MethodName)) ∈ lw_all := lw_g (lw_at lw_m4 194 rfl) rfl
theorem q1016 : (Jvm.Cond.privateMethod ({ cls := "java/util/ArrayList", name := "outOfBoundsMsg", desc := "(I)Ljava/lang/String;" } : Jvm.MethodName)) ∈ lw_tbl := lw_at lw_m4 195 rfl
theorem q1017 : (Jvm.Cond.instanceMethod ({ cls := "java/util/ArrayList", name := "outOfBoundsMsg", desc := "(I)Ljava/lang/String;" } : Jvm.MethodName)) ∈ lw_all := lw_g (lw_at lw_m4 196 rfl) rfl
theorem q1018 : (Jvm.Cond.code ({ cls := "java/util/ArrayList", name := "outOfBoundsMsg", desc := "(I)Ljava/lang/String;" } : Jvm.MethodName) prog_54_method_46_code (2 : Nat) (Option.some (Jvm.ClassFile.FieldType.object "java/lang/String"))) ∈ lw_all := lw_g (lw_at lw_m4 197 rfl) rfl
theorem q1019 : (Jvm.Cond.classLink "java/util/ArrayList" (20 : Nat) "java/lang/StringBuilder") ∈ lw_all := lw_g (lw_at lw_m4 198 rfl) rfl
theorem q1020 : (Jvm.Cond.methodLink "java/util/ArrayList" (22 : Nat) ({ cls := "java/lang/StringBuilder", name := "<init>", desc := "()V" } : Jvm.MethodName)) ∈ lw_all := lw_g (lw_at lw_m4 199 rfl) rfl
theorem q1021 : (Jvm.Cond.stringRef "java/util/ArrayList" (201 : Nat) "Index: ") ∈ lw_tbl := lw_at lw_m4 200 rfl
theorem q1022 : (Jvm.Cond.methodLink "java/util/ArrayList" (25 : Nat) ({ cls := "java/lang/StringBuilder", name := "append", desc := "(Ljava/lang/String;)Ljava/lang/StringBuilder;" } : Jvm.MethodName)) ∈ lw_all := lw_g (lw_at lw_m4 201 rfl) rfl
theorem q1023 : (Jvm.Cond.methodLink "java/util/ArrayList" (29 : Nat) ({ cls := "java/lang/StringBuilder", name := "append", desc := "(I)Ljava/lang/StringBuilder;" } : Jvm.MethodName)) ∈ lw_all := lw_g (lw_at lw_m4 202 rfl) rfl
theorem q1024 : (Jvm.Cond.stringRef "java/util/ArrayList" (203 : Nat) ", Size: ") ∈ lw_tbl := lw_at lw_m4 203 rfl
theorem q1025 : (Jvm.Cond.methodLink "java/util/ArrayList" (32 : Nat) ({ cls := "java/lang/StringBuilder", name := "toString", desc := "()Ljava/lang/String;" } : Jvm.MethodName)) ∈ lw_all := lw_g (lw_at lw_m4 204 rfl) rfl
theorem q1026 : (Jvm.Cond.methodLink "java/util/ArrayList" (193 : Nat) ({ cls := "java/lang/IndexOutOfBoundsException", name := "<init>", desc := "(Ljava/lang/String;)V" } : Jvm.MethodName)) ∈ lw_all := lw_g (lw_at lw_m4 205 rfl) rfl
theorem q1027 : (Jvm.Cond.classLink "java/util/ArrayList" (262 : Nat) "java/util/ArrayList$ListItr") ∈ lw_all := lw_g (lw_at lw_m4 206 rfl) rfl
theorem q1029 : (Jvm.Cond.methodLink "java/util/ArrayList" (264 : Nat) ({ cls := "java/util/ArrayList$ListItr", name := "<init>", desc := "(Ljava/util/ArrayList;I)V" } : Jvm.MethodName)) ∈ lw_all := lw_g (lw_at lw_m4 208 rfl) rfl
theorem q1157 : (Jvm.Cond.selects "java/util/ArrayList" ({ cls := "java/util/AbstractList", name := "listIterator", desc := "(I)Ljava/util/ListIterator;" } : Jvm.MethodName) ({ cls := "java/util/ArrayList", name := "listIterator", desc := "(I)Ljava/util/ListIterator;" } : Jvm.MethodName)) ∈ lw_all := lw_g (lw_at lw_m5 96 rfl) rfl
theorem q1185 : (Jvm.Cond.selects "java/util/ArrayList" ({ cls := "java/util/AbstractCollection", name := "iterator", desc := "()Ljava/util/Iterator;" } : Jvm.MethodName) ({ cls := "java/util/ArrayList", name := "iterator", desc := "()Ljava/util/Iterator;" } : Jvm.MethodName)) ∈ lw_all := lw_g (lw_at lw_m5 124 rfl) rfl
theorem q1186 : (Jvm.Cond.instanceMethod ({ cls := "java/util/ArrayList", name := "iterator", desc := "()Ljava/util/Iterator;" } : Jvm.MethodName)) ∈ lw_all := lw_g (lw_at lw_m5 125 rfl) rfl
theorem q1187 : (Jvm.Cond.code ({ cls := "java/util/ArrayList", name := "iterator", desc := "()Ljava/util/Iterator;" } : Jvm.MethodName) prog_54_method_55_code (1 : Nat) (Option.some (Jvm.ClassFile.FieldType.object "java/util/Iterator"))) ∈ lw_all := lw_g (lw_at lw_m5 126 rfl) rfl
theorem q1188 : (Jvm.Cond.classLink "java/util/ArrayList" (267 : Nat) "java/util/ArrayList$Itr") ∈ lw_all := lw_g (lw_at lw_m5 127 rfl) rfl
theorem q1190 : (Jvm.Cond.methodLink "java/util/ArrayList" (269 : Nat) ({ cls := "java/util/ArrayList$Itr", name := "<init>", desc := "(Ljava/util/ArrayList;)V" } : Jvm.MethodName)) ∈ lw_all := lw_g (lw_at lw_m5 129 rfl) rfl
theorem q1254 : (Jvm.Cond.selects "java/util/ArrayList" ({ cls := "java/util/AbstractList", name := "size", desc := "()I" } : Jvm.MethodName) ({ cls := "java/util/ArrayList", name := "size", desc := "()I" } : Jvm.MethodName)) ∈ lw_all := lw_g (lw_at lw_m5 193 rfl) rfl
theorem q1391 : (Jvm.Cond.instanceMethod ({ cls := "java/util/ArrayList", name := "get", desc := "(I)Ljava/lang/Object;" } : Jvm.MethodName)) ∈ lw_all := lw_g (lw_at lw_m6 90 rfl) rfl
theorem q1392 : (Jvm.Cond.code ({ cls := "java/util/ArrayList", name := "get", desc := "(I)Ljava/lang/Object;" } : Jvm.MethodName) prog_54_method_20_code (2 : Nat) (Option.some (Jvm.ClassFile.FieldType.object "java/lang/Object"))) ∈ lw_all := lw_g (lw_at lw_m6 91 rfl) rfl
theorem q1393 : (Jvm.Cond.methodLink "java/util/ArrayList" (118 : Nat) ({ cls := "java/util/Objects", name := "checkIndex", desc := "(II)I" } : Jvm.MethodName)) ∈ lw_all := lw_g (lw_at lw_m6 92 rfl) rfl
theorem q1394 : (Jvm.Cond.methodLink "java/util/ArrayList" (123 : Nat) ({ cls := "java/util/ArrayList", name := "elementData", desc := "(I)Ljava/lang/Object;" } : Jvm.MethodName)) ∈ lw_all := lw_g (lw_at lw_m6 93 rfl) rfl
theorem q1395 : (Jvm.Cond.instanceMethod ({ cls := "java/util/ArrayList", name := "elementData", desc := "(I)Ljava/lang/Object;" } : Jvm.MethodName)) ∈ lw_all := lw_g (lw_at lw_m6 94 rfl) rfl
theorem q1396 : (Jvm.Cond.selects "java/util/ArrayList" ({ cls := "java/util/ArrayList", name := "elementData", desc := "(I)Ljava/lang/Object;" } : Jvm.MethodName) ({ cls := "java/util/ArrayList", name := "elementData", desc := "(I)Ljava/lang/Object;" } : Jvm.MethodName)) ∈ lw_all := lw_g (lw_at lw_m6 95 rfl) rfl
theorem q1397 : (Jvm.Cond.code ({ cls := "java/util/ArrayList", name := "elementData", desc := "(I)Ljava/lang/Object;" } : Jvm.MethodName) prog_54_method_18_code (2 : Nat) (Option.some (Jvm.ClassFile.FieldType.object "java/lang/Object"))) ∈ lw_all := lw_g (lw_at lw_m6 96 rfl) rfl
theorem q1414 : (Jvm.Cond.selects "java/util/ArrayList" ({ cls := "java/util/AbstractList", name := "get", desc := "(I)Ljava/lang/Object;" } : Jvm.MethodName) ({ cls := "java/util/ArrayList", name := "get", desc := "(I)Ljava/lang/Object;" } : Jvm.MethodName)) ∈ lw_all := lw_g (lw_at lw_m6 113 rfl) rfl
theorem q1553 : (Jvm.Cond.castable "java/util/ArrayList" "java/util/List") ∈ lw_tbl := lw_at lw_m7 12 rfl
theorem q1554 : (Jvm.Cond.selects "java/util/ArrayList" ({ cls := "java/util/List", name := "get", desc := "(I)Ljava/lang/Object;" } : Jvm.MethodName) ({ cls := "java/util/ArrayList", name := "get", desc := "(I)Ljava/lang/Object;" } : Jvm.MethodName)) ∈ lw_all := lw_g (lw_at lw_m7 13 rfl) rfl
theorem q1555 : (Jvm.Cond.unhidden "java/util/ArrayList" "get" "(I)Ljava/lang/Object;") ∈ lw_tbl := lw_at lw_m7 14 rfl
theorem q1556 : (Jvm.Cond.publicMethod ({ cls := "java/util/ArrayList", name := "get", desc := "(I)Ljava/lang/Object;" } : Jvm.MethodName)) ∈ lw_tbl := lw_at lw_m7 15 rfl
theorem q1663 : (Jvm.Cond.castable "java/util/ArrayList" "java/util/Collection") ∈ lw_tbl := lw_at lw_m7 122 rfl
theorem q1664 : (Jvm.Cond.selects "java/util/ArrayList" ({ cls := "java/util/Collection", name := "toArray", desc := "()[Ljava/lang/Object;" } : Jvm.MethodName) ({ cls := "java/util/ArrayList", name := "toArray", desc := "()[Ljava/lang/Object;" } : Jvm.MethodName)) ∈ lw_all := lw_g (lw_at lw_m7 123 rfl) rfl
theorem q1665 : (Jvm.Cond.unhidden "java/util/ArrayList" "toArray" "()[Ljava/lang/Object;") ∈ lw_tbl := lw_at lw_m7 124 rfl
theorem q1666 : (Jvm.Cond.instanceMethod ({ cls := "java/util/ArrayList", name := "toArray", desc := "()[Ljava/lang/Object;" } : Jvm.MethodName)) ∈ lw_all := lw_g (lw_at lw_m7 125 rfl) rfl
theorem q1667 : (Jvm.Cond.publicMethod ({ cls := "java/util/ArrayList", name := "toArray", desc := "()[Ljava/lang/Object;" } : Jvm.MethodName)) ∈ lw_tbl := lw_at lw_m7 126 rfl
theorem q1668 : (Jvm.Cond.code ({ cls := "java/util/ArrayList", name := "toArray", desc := "()[Ljava/lang/Object;" } : Jvm.MethodName) prog_54_method_16_code (1 : Nat) (Option.some (Jvm.ClassFile.FieldType.array (Jvm.ClassFile.FieldType.object "java/lang/Object")))) ∈ lw_all := lw_g (lw_at lw_m7 127 rfl) rfl
theorem q1712 : (Jvm.Cond.methodLink "java/util/ArrayList" (112 : Nat) ({ cls := "java/lang/System", name := "arraycopy", desc := "(Ljava/lang/Object;ILjava/lang/Object;II)V" } : Jvm.MethodName)) ∈ lw_all := lw_g (lw_at lw_m7 171 rfl) rfl
theorem q1753 : (Jvm.Cond.instanceMethod ({ cls := "java/util/ArrayList", name := "set", desc := "(ILjava/lang/Object;)Ljava/lang/Object;" } : Jvm.MethodName)) ∈ lw_all := lw_g (lw_at lw_m7 212 rfl) rfl
theorem q1754 : (Jvm.Cond.selects "java/util/ArrayList" ({ cls := "java/util/ArrayList", name := "set", desc := "(ILjava/lang/Object;)Ljava/lang/Object;" } : Jvm.MethodName) ({ cls := "java/util/ArrayList", name := "set", desc := "(ILjava/lang/Object;)Ljava/lang/Object;" } : Jvm.MethodName)) ∈ lw_all := lw_g (lw_at lw_m7 213 rfl) rfl
theorem q1755 : (Jvm.Cond.code ({ cls := "java/util/ArrayList", name := "set", desc := "(ILjava/lang/Object;)Ljava/lang/Object;" } : Jvm.MethodName) prog_54_method_23_code (4 : Nat) (Option.some (Jvm.ClassFile.FieldType.object "java/lang/Object"))) ∈ lw_all := lw_g (lw_at lw_m7 214 rfl) rfl
theorem q1822 : (Jvm.Cond.selects "java/util/ArrayList" ({ cls := "java/util/List", name := "size", desc := "()I" } : Jvm.MethodName) ({ cls := "java/util/ArrayList", name := "size", desc := "()I" } : Jvm.MethodName)) ∈ lw_all := lw_g (lw_at lw_m8 41 rfl) rfl
theorem q1823 : (Jvm.Cond.unhidden "java/util/ArrayList" "size" "()I") ∈ lw_tbl := lw_at lw_m8 42 rfl
theorem q1824 : (Jvm.Cond.publicMethod ({ cls := "java/util/ArrayList", name := "size", desc := "()I" } : Jvm.MethodName)) ∈ lw_tbl := lw_at lw_m8 43 rfl
theorem q1842 : (Jvm.Cond.selects "java/util/ArrayList" ({ cls := "java/util/Collection", name := "size", desc := "()I" } : Jvm.MethodName) ({ cls := "java/util/ArrayList", name := "size", desc := "()I" } : Jvm.MethodName)) ∈ lw_all := lw_g (lw_at lw_m8 61 rfl) rfl
theorem q2214 : (Jvm.Cond.unhidden "java/util/ArrayList" "getClass" "()Ljava/lang/Class;") ∈ lw_tbl := lw_at lw_m9 193 rfl
theorem q2328 : (Jvm.Cond.instanceMethod ({ cls := "java/util/ArrayList", name := "remove", desc := "(I)Ljava/lang/Object;" } : Jvm.MethodName)) ∈ lw_all := lw_g (lw_at lw_m10 67 rfl) rfl
theorem q2329 : (Jvm.Cond.selects "java/util/ArrayList" ({ cls := "java/util/ArrayList", name := "remove", desc := "(I)Ljava/lang/Object;" } : Jvm.MethodName) ({ cls := "java/util/ArrayList", name := "remove", desc := "(I)Ljava/lang/Object;" } : Jvm.MethodName)) ∈ lw_all := lw_g (lw_at lw_m10 68 rfl) rfl
theorem q2330 : (Jvm.Cond.code ({ cls := "java/util/ArrayList", name := "remove", desc := "(I)Ljava/lang/Object;" } : Jvm.MethodName) prog_54_method_29_code (4 : Nat) (Option.some (Jvm.ClassFile.FieldType.object "java/lang/Object"))) ∈ lw_all := lw_g (lw_at lw_m10 69 rfl) rfl
theorem q2331 : (Jvm.Cond.methodLink "java/util/ArrayList" (144 : Nat) ({ cls := "java/util/ArrayList", name := "fastRemove", desc := "([Ljava/lang/Object;I)V" } : Jvm.MethodName)) ∈ lw_all := lw_g (lw_at lw_m10 70 rfl) rfl
theorem q2332 : (Jvm.Cond.privateMethod ({ cls := "java/util/ArrayList", name := "fastRemove", desc := "([Ljava/lang/Object;I)V" } : Jvm.MethodName)) ∈ lw_tbl := lw_at lw_m10 71 rfl
theorem q2333 : (Jvm.Cond.instanceMethod ({ cls := "java/util/ArrayList", name := "fastRemove", desc := "([Ljava/lang/Object;I)V" } : Jvm.MethodName)) ∈ lw_all := lw_g (lw_at lw_m10 72 rfl) rfl
theorem q2334 : (Jvm.Cond.code ({ cls := "java/util/ArrayList", name := "fastRemove", desc := "([Ljava/lang/Object;I)V" } : Jvm.MethodName) prog_54_method_39_code (4 : Nat) (Option.none : Option Jvm.ClassFile.FieldType)) ∈ lw_all := lw_g (lw_at lw_m10 73 rfl) rfl
theorem q2481 : (Jvm.Cond.selects "java/util/ArrayList" ({ cls := "java/util/AbstractList", name := "remove", desc := "(I)Ljava/lang/Object;" } : Jvm.MethodName) ({ cls := "java/util/ArrayList", name := "remove", desc := "(I)Ljava/lang/Object;" } : Jvm.MethodName)) ∈ lw_all := lw_g (lw_at lw_m10 220 rfl) rfl
theorem q2620 : (Jvm.Cond.instanceMethod ({ cls := "java/util/ArrayList", name := "subList", desc := "(II)Ljava/util/List;" } : Jvm.MethodName)) ∈ lw_all := lw_g (lw_at lw_m11 119 rfl) rfl
theorem q2621 : (Jvm.Cond.selects "java/util/ArrayList" ({ cls := "java/util/ArrayList", name := "subList", desc := "(II)Ljava/util/List;" } : Jvm.MethodName) ({ cls := "java/util/ArrayList", name := "subList", desc := "(II)Ljava/util/List;" } : Jvm.MethodName)) ∈ lw_all := lw_g (lw_at lw_m11 120 rfl) rfl
theorem q2622 : (Jvm.Cond.code ({ cls := "java/util/ArrayList", name := "subList", desc := "(II)Ljava/util/List;" } : Jvm.MethodName) prog_54_method_56_code (3 : Nat) (Option.some (Jvm.ClassFile.FieldType.object "java/util/List"))) ∈ lw_all := lw_g (lw_at lw_m11 121 rfl) rfl
theorem q2623 : (Jvm.Cond.methodLink "java/util/ArrayList" (272 : Nat) ({ cls := "java/util/ArrayList", name := "subListRangeCheck", desc := "(III)V" } : Jvm.MethodName)) ∈ lw_all := lw_g (lw_at lw_m11 122 rfl) rfl
theorem q2624 : (Jvm.Cond.sameMethod "java/util/ArrayList" "java/util/AbstractList" "subListRangeCheck" "(III)V") ∈ lw_all := lw_g (lw_at lw_m11 123 rfl) rfl
theorem q2641 : (Jvm.Cond.classLink "java/util/ArrayList" (276 : Nat) "java/util/ArrayList$SubList") ∈ lw_all := lw_g (lw_at lw_m11 140 rfl) rfl
theorem q2642 : (Jvm.Cond.methodLink "java/util/ArrayList" (278 : Nat) ({ cls := "java/util/ArrayList$SubList", name := "<init>", desc := "(Ljava/util/ArrayList;II)V" } : Jvm.MethodName)) ∈ lw_all := lw_g (lw_at lw_m11 141 rfl) rfl
theorem q2687 : (Jvm.Cond.selects "java/util/ArrayList" ({ cls := "java/util/AbstractList", name := "set", desc := "(ILjava/lang/Object;)Ljava/lang/Object;" } : Jvm.MethodName) ({ cls := "java/util/ArrayList", name := "set", desc := "(ILjava/lang/Object;)Ljava/lang/Object;" } : Jvm.MethodName)) ∈ lw_all := lw_g (lw_at lw_m11 186 rfl) rfl
theorem q2697 : (Jvm.Cond.selects "java/util/ArrayList" ({ cls := "java/util/List", name := "set", desc := "(ILjava/lang/Object;)Ljava/lang/Object;" } : Jvm.MethodName) ({ cls := "java/util/ArrayList", name := "set", desc := "(ILjava/lang/Object;)Ljava/lang/Object;" } : Jvm.MethodName)) ∈ lw_all := lw_g (lw_at lw_m11 196 rfl) rfl
theorem q2698 : (Jvm.Cond.unhidden "java/util/ArrayList" "set" "(ILjava/lang/Object;)Ljava/lang/Object;") ∈ lw_tbl := lw_at lw_m11 197 rfl
theorem q2699 : (Jvm.Cond.publicMethod ({ cls := "java/util/ArrayList", name := "set", desc := "(ILjava/lang/Object;)Ljava/lang/Object;" } : Jvm.MethodName)) ∈ lw_tbl := lw_at lw_m11 198 rfl
theorem q2777 : (Jvm.Cond.selects "java/util/ArrayList" ({ cls := "java/util/List", name := "subList", desc := "(II)Ljava/util/List;" } : Jvm.MethodName) ({ cls := "java/util/ArrayList", name := "subList", desc := "(II)Ljava/util/List;" } : Jvm.MethodName)) ∈ lw_all := lw_g (lw_at lw_m12 36 rfl) rfl
theorem q2778 : (Jvm.Cond.unhidden "java/util/ArrayList" "subList" "(II)Ljava/util/List;") ∈ lw_tbl := lw_at lw_m12 37 rfl
theorem q2779 : (Jvm.Cond.publicMethod ({ cls := "java/util/ArrayList", name := "subList", desc := "(II)Ljava/util/List;" } : Jvm.MethodName)) ∈ lw_tbl := lw_at lw_m12 38 rfl
theorem q2889 : (Jvm.Cond.selects "java/util/ArrayList" ({ cls := "java/util/List", name := "listIterator", desc := "()Ljava/util/ListIterator;" } : Jvm.MethodName) ({ cls := "java/util/ArrayList", name := "listIterator", desc := "()Ljava/util/ListIterator;" } : Jvm.MethodName)) ∈ lw_all := lw_g (lw_at lw_m12 148 rfl) rfl
theorem q2890 : (Jvm.Cond.unhidden "java/util/ArrayList" "listIterator" "()Ljava/util/ListIterator;") ∈ lw_tbl := lw_at lw_m12 149 rfl
theorem q2891 : (Jvm.Cond.instanceMethod ({ cls := "java/util/ArrayList", name := "listIterator", desc := "()Ljava/util/ListIterator;" } : Jvm.MethodName)) ∈ lw_all := lw_g (lw_at lw_m12 150 rfl) rfl
theorem q2892 : (Jvm.Cond.publicMethod ({ cls := "java/util/ArrayList", name := "listIterator", desc := "()Ljava/util/ListIterator;" } : Jvm.MethodName)) ∈ lw_tbl := lw_at lw_m12 151 rfl
theorem q2893 : (Jvm.Cond.code ({ cls := "java/util/ArrayList", name := "listIterator", desc := "()Ljava/util/ListIterator;" } : Jvm.MethodName) prog_54_method_54_code (1 : Nat) (Option.some (Jvm.ClassFile.FieldType.object "java/util/ListIterator"))) ∈ lw_all := lw_g (lw_at lw_m12 152 rfl) rfl
theorem q2922 : (Jvm.Cond.selects "java/util/ArrayList" ({ cls := "java/util/List", name := "listIterator", desc := "(I)Ljava/util/ListIterator;" } : Jvm.MethodName) ({ cls := "java/util/ArrayList", name := "listIterator", desc := "(I)Ljava/util/ListIterator;" } : Jvm.MethodName)) ∈ lw_all := lw_g (lw_at lw_m12 181 rfl) rfl
theorem q2923 : (Jvm.Cond.unhidden "java/util/ArrayList" "listIterator" "(I)Ljava/util/ListIterator;") ∈ lw_tbl := lw_at lw_m12 182 rfl
theorem q2924 : (Jvm.Cond.publicMethod ({ cls := "java/util/ArrayList", name := "listIterator", desc := "(I)Ljava/util/ListIterator;" } : Jvm.MethodName)) ∈ lw_tbl := lw_at lw_m12 183 rfl
theorem q3929 : (Jvm.Cond.selects "java/util/ArrayList" ({ cls := "java/util/ArrayList", name := "get", desc := "(I)Ljava/lang/Object;" } : Jvm.MethodName) ({ cls := "java/util/ArrayList", name := "get", desc := "(I)Ljava/lang/Object;" } : Jvm.MethodName)) ∈ lw_all := lw_g (lw_at lw_m16 228 rfl) rfl
theorem q3943 : (Jvm.Cond.castable "java/util/ArrayList" "java/util/RandomAccess") ∈ lw_tbl := lw_at lw_m17 2 rfl
theorem q3954 : (Jvm.Cond.castable "java/util/ArrayList" "java/lang/Object") ∈ lw_tbl := lw_at lw_m17 13 rfl

/-! java/util/LinkedList -/
set_option maxRecDepth 100000
abbrev cJ10_init : ByteArray := prog_77_method_1_code
def yJ10_init : MethodName := ⟨RJ10, "<init>", "()V"⟩
def dkwJ10_init_0 : List UInt8 := [42, 183, 0, 1, 42, 3, 181, 0, 7, 177]
abbrev dktJ10_init_0 : List UInt8 := dkwJ10_init_0 ++ []
theorem dksJ10_init_0 : cJ10_init.data.toList.drop 0 = dktJ10_init_0 := by decide +kernel
theorem dJ10_init_0 : decode cJ10_init 0 = .ok (.aload_n 0, 1) := dk_42 (dk_at dksJ10_init_0 0 rfl rfl)
theorem dJ10_init_1 : decode cJ10_init 1 = .ok (.invokespecial 1, 3) := dk_183 0 1 (dk_at dksJ10_init_0 1 rfl rfl)
theorem dJ10_init_4 : decode cJ10_init 4 = .ok (.aload_n 0, 1) := dk_42 (dk_at dksJ10_init_0 4 rfl rfl)
theorem dJ10_init_5 : decode cJ10_init 5 = .ok (.iconst 0, 1) := dk_3 (dk_at dksJ10_init_0 5 rfl rfl)
theorem dJ10_init_6 : decode cJ10_init 6 = .ok (.putfield 7, 3) := dk_181 0 7 (dk_at dksJ10_init_0 6 rfl rfl)
theorem dJ10_init_9 : decode cJ10_init 9 = .ok (.return_, 1) := dk_177 (dk_at dksJ10_init_0 9 rfl rfl)
abbrev cJ10_size : ByteArray := prog_77_method_16_code
def yJ10_size : MethodName := ⟨RJ10, "size", "()I"⟩
theorem dJ10_size_0 : decode cJ10_size 0 = .ok (.aload_n 0, 1) := by decide +kernel
theorem dJ10_size_1 : decode cJ10_size 1 = .ok (.getfield 7, 3) := by decide +kernel
theorem dJ10_size_4 : decode cJ10_size 4 = .ok (.ireturn, 1) := by decide +kernel
abbrev cJ10_listIterator : ByteArray := prog_77_method_49_code
def yJ10_listIterator : MethodName := ⟨RJ10, "listIterator", "(I)Ljava/util/ListIterator;"⟩
def dkwJ10_listIterator_0 : List UInt8 := [42, 27, 182, 0, 76, 187, 0, 150, 89, 42, 27, 183, 0, 152, 176]
abbrev dktJ10_listIterator_0 : List UInt8 := dkwJ10_listIterator_0 ++ []
theorem dksJ10_listIterator_0 : cJ10_listIterator.data.toList.drop 0 = dktJ10_listIterator_0 := by decide +kernel
theorem dJ10_listIterator_0 : decode cJ10_listIterator 0 = .ok (.aload_n 0, 1) := dk_42 (dk_at dksJ10_listIterator_0 0 rfl rfl)
theorem dJ10_listIterator_1 : decode cJ10_listIterator 1 = .ok (.iload_n 1, 1) := dk_27 (dk_at dksJ10_listIterator_0 1 rfl rfl)
theorem dJ10_listIterator_2 : decode cJ10_listIterator 2 = .ok (.invokevirtual 76, 3) := dk_182 0 76 (dk_at dksJ10_listIterator_0 2 rfl rfl)
theorem dJ10_listIterator_5 : decode cJ10_listIterator 5 = .ok (.new 150, 3) := dk_187 0 150 (dk_at dksJ10_listIterator_0 5 rfl rfl)
theorem dJ10_listIterator_8 : decode cJ10_listIterator 8 = .ok (.dup, 1) := dk_89 (dk_at dksJ10_listIterator_0 8 rfl rfl)
theorem dJ10_listIterator_9 : decode cJ10_listIterator 9 = .ok (.aload_n 0, 1) := dk_42 (dk_at dksJ10_listIterator_0 9 rfl rfl)
theorem dJ10_listIterator_10 : decode cJ10_listIterator 10 = .ok (.iload_n 1, 1) := dk_27 (dk_at dksJ10_listIterator_0 10 rfl rfl)
theorem dJ10_listIterator_11 : decode cJ10_listIterator 11 = .ok (.invokespecial 152, 3) := dk_183 0 152 (dk_at dksJ10_listIterator_0 11 rfl rfl)
theorem dJ10_listIterator_14 : decode cJ10_listIterator 14 = .ok (.areturn, 1) := dk_176 (dk_at dksJ10_listIterator_0 14 rfl rfl)
abbrev cJ10_checkPositionIndex : ByteArray := prog_77_method_30_code
def yJ10_checkPositionIndex : MethodName := ⟨RJ10, "checkPositionIndex", "(I)V"⟩
def dkwJ10_checkPositionIndex_0 : List UInt8 := [42, 27, 182, 0, 128, 154, 0, 16, 187, 0, 119, 89, 42, 27, 182, 0, 121, 183, 0, 125, 191, 177]
abbrev dktJ10_checkPositionIndex_0 : List UInt8 := dkwJ10_checkPositionIndex_0 ++ []
theorem dksJ10_checkPositionIndex_0 : cJ10_checkPositionIndex.data.toList.drop 0 = dktJ10_checkPositionIndex_0 := by decide +kernel
theorem dJ10_checkPositionIndex_0 : decode cJ10_checkPositionIndex 0 = .ok (.aload_n 0, 1) := dk_42 (dk_at dksJ10_checkPositionIndex_0 0 rfl rfl)
theorem dJ10_checkPositionIndex_1 : decode cJ10_checkPositionIndex 1 = .ok (.iload_n 1, 1) := dk_27 (dk_at dksJ10_checkPositionIndex_0 1 rfl rfl)
theorem dJ10_checkPositionIndex_2 : decode cJ10_checkPositionIndex 2 = .ok (.invokevirtual 128, 3) := dk_182 0 128 (dk_at dksJ10_checkPositionIndex_0 2 rfl rfl)
theorem dJ10_checkPositionIndex_5 : decode cJ10_checkPositionIndex 5 = .ok (.ifCond .ne 16, 3) := dk_154 0 16 (dk_at dksJ10_checkPositionIndex_0 5 rfl rfl)
theorem dJ10_checkPositionIndex_8 : decode cJ10_checkPositionIndex 8 = .ok (.new 119, 3) := dk_187 0 119 (dk_at dksJ10_checkPositionIndex_0 8 rfl rfl)
theorem dJ10_checkPositionIndex_11 : decode cJ10_checkPositionIndex 11 = .ok (.dup, 1) := dk_89 (dk_at dksJ10_checkPositionIndex_0 11 rfl rfl)
theorem dJ10_checkPositionIndex_12 : decode cJ10_checkPositionIndex 12 = .ok (.aload_n 0, 1) := dk_42 (dk_at dksJ10_checkPositionIndex_0 12 rfl rfl)
theorem dJ10_checkPositionIndex_13 : decode cJ10_checkPositionIndex 13 = .ok (.iload_n 1, 1) := dk_27 (dk_at dksJ10_checkPositionIndex_0 13 rfl rfl)
theorem dJ10_checkPositionIndex_14 : decode cJ10_checkPositionIndex 14 = .ok (.invokevirtual 121, 3) := dk_182 0 121 (dk_at dksJ10_checkPositionIndex_0 14 rfl rfl)
theorem dJ10_checkPositionIndex_17 : decode cJ10_checkPositionIndex 17 = .ok (.invokespecial 125, 3) := dk_183 0 125 (dk_at dksJ10_checkPositionIndex_0 17 rfl rfl)
theorem dJ10_checkPositionIndex_20 : decode cJ10_checkPositionIndex 20 = .ok (.athrow, 1) := dk_191 (dk_at dksJ10_checkPositionIndex_0 20 rfl rfl)
theorem dJ10_checkPositionIndex_21 : decode cJ10_checkPositionIndex 21 = .ok (.return_, 1) := dk_177 (dk_at dksJ10_checkPositionIndex_0 21 rfl rfl)
abbrev cJ10_isPositionIndex : ByteArray := prog_77_method_27_code
def yJ10_isPositionIndex : MethodName := ⟨RJ10, "isPositionIndex", "(I)Z"⟩
def dkwJ10_isPositionIndex_0 : List UInt8 := [27, 155, 0, 15, 27, 42, 180, 0, 7, 163, 0, 7, 4, 167, 0, 4, 3, 172]
abbrev dktJ10_isPositionIndex_0 : List UInt8 := dkwJ10_isPositionIndex_0 ++ []
theorem dksJ10_isPositionIndex_0 : cJ10_isPositionIndex.data.toList.drop 0 = dktJ10_isPositionIndex_0 := by decide +kernel
theorem dJ10_isPositionIndex_0 : decode cJ10_isPositionIndex 0 = .ok (.iload_n 1, 1) := dk_27 (dk_at dksJ10_isPositionIndex_0 0 rfl rfl)
theorem dJ10_isPositionIndex_1 : decode cJ10_isPositionIndex 1 = .ok (.ifCond .lt 15, 3) := dk_155 0 15 (dk_at dksJ10_isPositionIndex_0 1 rfl rfl)
theorem dJ10_isPositionIndex_4 : decode cJ10_isPositionIndex 4 = .ok (.iload_n 1, 1) := dk_27 (dk_at dksJ10_isPositionIndex_0 4 rfl rfl)
theorem dJ10_isPositionIndex_5 : decode cJ10_isPositionIndex 5 = .ok (.aload_n 0, 1) := dk_42 (dk_at dksJ10_isPositionIndex_0 5 rfl rfl)
theorem dJ10_isPositionIndex_6 : decode cJ10_isPositionIndex 6 = .ok (.getfield 7, 3) := dk_180 0 7 (dk_at dksJ10_isPositionIndex_0 6 rfl rfl)
theorem dJ10_isPositionIndex_9 : decode cJ10_isPositionIndex 9 = .ok (.if_icmp .gt 7, 3) := dk_163 0 7 (dk_at dksJ10_isPositionIndex_0 9 rfl rfl)
theorem dJ10_isPositionIndex_12 : decode cJ10_isPositionIndex 12 = .ok (.iconst 1, 1) := dk_4 (dk_at dksJ10_isPositionIndex_0 12 rfl rfl)
theorem dJ10_isPositionIndex_13 : decode cJ10_isPositionIndex 13 = .ok (.goto 4, 3) := dk_167 0 4 (dk_at dksJ10_isPositionIndex_0 13 rfl rfl)
theorem dJ10_isPositionIndex_16 : decode cJ10_isPositionIndex 16 = .ok (.iconst 0, 1) := dk_3 (dk_at dksJ10_isPositionIndex_0 16 rfl rfl)
theorem dJ10_isPositionIndex_17 : decode cJ10_isPositionIndex 17 = .ok (.ireturn, 1) := dk_172 (dk_at dksJ10_isPositionIndex_0 17 rfl rfl)
abbrev cJ10_outOfBoundsMsg : ByteArray := prog_77_method_28_code
def yJ10_outOfBoundsMsg : MethodName := ⟨RJ10, "outOfBoundsMsg", "(I)Ljava/lang/String;"⟩
def dkwJ10_outOfBoundsMsg_1 : List UInt8 := [180, 0, 7, 182, 0, 106, 182, 0, 111, 176]
abbrev dktJ10_outOfBoundsMsg_1 : List UInt8 := dkwJ10_outOfBoundsMsg_1 ++ []
def dkwJ10_outOfBoundsMsg_0 : List UInt8 := [187, 0, 97, 89, 183, 0, 99, 18, 100, 182, 0, 102, 27, 182, 0, 106, 18, 109, 182, 0, 102, 42]
abbrev dktJ10_outOfBoundsMsg_0 : List UInt8 := dkwJ10_outOfBoundsMsg_0 ++ dktJ10_outOfBoundsMsg_1
theorem dksJ10_outOfBoundsMsg_0 : cJ10_outOfBoundsMsg.data.toList.drop 0 = dktJ10_outOfBoundsMsg_0 := by decide +kernel
theorem dksJ10_outOfBoundsMsg_1 : cJ10_outOfBoundsMsg.data.toList.drop 22 = dktJ10_outOfBoundsMsg_1 := dk_seg dksJ10_outOfBoundsMsg_0 22 rfl rfl
theorem dJ10_outOfBoundsMsg_0 : decode cJ10_outOfBoundsMsg 0 = .ok (.new 97, 3) := dk_187 0 97 (dk_at dksJ10_outOfBoundsMsg_0 0 rfl rfl)
theorem dJ10_outOfBoundsMsg_3 : decode cJ10_outOfBoundsMsg 3 = .ok (.dup, 1) := dk_89 (dk_at dksJ10_outOfBoundsMsg_0 3 rfl rfl)
theorem dJ10_outOfBoundsMsg_4 : decode cJ10_outOfBoundsMsg 4 = .ok (.invokespecial 99, 3) := dk_183 0 99 (dk_at dksJ10_outOfBoundsMsg_0 4 rfl rfl)
theorem dJ10_outOfBoundsMsg_7 : decode cJ10_outOfBoundsMsg 7 = .ok (.ldc 100, 2) := dk_18 100 (dk_at dksJ10_outOfBoundsMsg_0 7 rfl rfl)
theorem dJ10_outOfBoundsMsg_9 : decode cJ10_outOfBoundsMsg 9 = .ok (.invokevirtual 102, 3) := dk_182 0 102 (dk_at dksJ10_outOfBoundsMsg_0 9 rfl rfl)
theorem dJ10_outOfBoundsMsg_12 : decode cJ10_outOfBoundsMsg 12 = .ok (.iload_n 1, 1) := dk_27 (dk_at dksJ10_outOfBoundsMsg_0 12 rfl rfl)
theorem dJ10_outOfBoundsMsg_13 : decode cJ10_outOfBoundsMsg 13 = .ok (.invokevirtual 106, 3) := dk_182 0 106 (dk_at dksJ10_outOfBoundsMsg_0 13 rfl rfl)
theorem dJ10_outOfBoundsMsg_16 : decode cJ10_outOfBoundsMsg 16 = .ok (.ldc 109, 2) := dk_18 109 (dk_at dksJ10_outOfBoundsMsg_0 16 rfl rfl)
theorem dJ10_outOfBoundsMsg_18 : decode cJ10_outOfBoundsMsg 18 = .ok (.invokevirtual 102, 3) := dk_182 0 102 (dk_at dksJ10_outOfBoundsMsg_0 18 rfl rfl)
theorem dJ10_outOfBoundsMsg_21 : decode cJ10_outOfBoundsMsg 21 = .ok (.aload_n 0, 1) := dk_42 (dk_at dksJ10_outOfBoundsMsg_0 21 rfl rfl)
theorem dJ10_outOfBoundsMsg_22 : decode cJ10_outOfBoundsMsg 22 = .ok (.getfield 7, 3) := dk_180 0 7 (dk_at dksJ10_outOfBoundsMsg_1 0 rfl rfl)
theorem dJ10_outOfBoundsMsg_25 : decode cJ10_outOfBoundsMsg 25 = .ok (.invokevirtual 106, 3) := dk_182 0 106 (dk_at dksJ10_outOfBoundsMsg_1 3 rfl rfl)
theorem dJ10_outOfBoundsMsg_28 : decode cJ10_outOfBoundsMsg 28 = .ok (.invokevirtual 111, 3) := dk_182 0 111 (dk_at dksJ10_outOfBoundsMsg_1 6 rfl rfl)
theorem dJ10_outOfBoundsMsg_31 : decode cJ10_outOfBoundsMsg 31 = .ok (.areturn, 1) := dk_176 (dk_at dksJ10_outOfBoundsMsg_1 9 rfl rfl)
abbrev cJ10_node : ByteArray := prog_77_method_31_code
def yJ10_node : MethodName := ⟨RJ10, "node", "(I)Ljava/util/LinkedList$Node;"⟩
def dkwJ10_node_2 : List UInt8 := [29, 27, 164, 0, 14, 44, 180, 0, 30, 77, 132, 3, 255, 167, 255, 243, 44, 176]
abbrev dktJ10_node_2 : List UInt8 := dkwJ10_node_2 ++ []
def dkwJ10_node_1 : List UInt8 := [180, 0, 36, 77, 132, 3, 1, 167, 255, 243, 44, 176, 42, 180, 0, 27, 77, 42, 180, 0, 7, 4, 100, 62]
abbrev dktJ10_node_1 : List UInt8 := dkwJ10_node_1 ++ dktJ10_node_2
def dkwJ10_node_0 : List UInt8 := [27, 42, 180, 0, 7, 4, 122, 162, 0, 28, 42, 180, 0, 18, 77, 3, 62, 29, 27, 162, 0, 14, 44]
abbrev dktJ10_node_0 : List UInt8 := dkwJ10_node_0 ++ dktJ10_node_1
theorem dksJ10_node_0 : cJ10_node.data.toList.drop 0 = dktJ10_node_0 := by decide +kernel
theorem dksJ10_node_1 : cJ10_node.data.toList.drop 23 = dktJ10_node_1 := dk_seg dksJ10_node_0 23 rfl rfl
theorem dksJ10_node_2 : cJ10_node.data.toList.drop 47 = dktJ10_node_2 := dk_seg dksJ10_node_1 24 rfl rfl
theorem dJ10_node_0 : decode cJ10_node 0 = .ok (.iload_n 1, 1) := dk_27 (dk_at dksJ10_node_0 0 rfl rfl)
theorem dJ10_node_1 : decode cJ10_node 1 = .ok (.aload_n 0, 1) := dk_42 (dk_at dksJ10_node_0 1 rfl rfl)
theorem dJ10_node_2 : decode cJ10_node 2 = .ok (.getfield 7, 3) := dk_180 0 7 (dk_at dksJ10_node_0 2 rfl rfl)
theorem dJ10_node_5 : decode cJ10_node 5 = .ok (.iconst 1, 1) := dk_4 (dk_at dksJ10_node_0 5 rfl rfl)
theorem dJ10_node_6 : decode cJ10_node 6 = .ok (.ishr, 1) := dk_122 (dk_at dksJ10_node_0 6 rfl rfl)
theorem dJ10_node_7 : decode cJ10_node 7 = .ok (.if_icmp .ge 28, 3) := dk_162 0 28 (dk_at dksJ10_node_0 7 rfl rfl)
theorem dJ10_node_10 : decode cJ10_node 10 = .ok (.aload_n 0, 1) := dk_42 (dk_at dksJ10_node_0 10 rfl rfl)
theorem dJ10_node_11 : decode cJ10_node 11 = .ok (.getfield 18, 3) := dk_180 0 18 (dk_at dksJ10_node_0 11 rfl rfl)
theorem dJ10_node_14 : decode cJ10_node 14 = .ok (.astore_n 2, 1) := dk_77 (dk_at dksJ10_node_0 14 rfl rfl)
theorem dJ10_node_15 : decode cJ10_node 15 = .ok (.iconst 0, 1) := dk_3 (dk_at dksJ10_node_0 15 rfl rfl)
theorem dJ10_node_16 : decode cJ10_node 16 = .ok (.istore_n 3, 1) := dk_62 (dk_at dksJ10_node_0 16 rfl rfl)
theorem dJ10_node_17 : decode cJ10_node 17 = .ok (.iload_n 3, 1) := dk_29 (dk_at dksJ10_node_0 17 rfl rfl)
theorem dJ10_node_18 : decode cJ10_node 18 = .ok (.iload_n 1, 1) := dk_27 (dk_at dksJ10_node_0 18 rfl rfl)
theorem dJ10_node_19 : decode cJ10_node 19 = .ok (.if_icmp .ge 14, 3) := dk_162 0 14 (dk_at dksJ10_node_0 19 rfl rfl)
theorem dJ10_node_22 : decode cJ10_node 22 = .ok (.aload_n 2, 1) := dk_44 (dk_at dksJ10_node_0 22 rfl rfl)
theorem dJ10_node_23 : decode cJ10_node 23 = .ok (.getfield 36, 3) := dk_180 0 36 (dk_at dksJ10_node_1 0 rfl rfl)
theorem dJ10_node_26 : decode cJ10_node 26 = .ok (.astore_n 2, 1) := dk_77 (dk_at dksJ10_node_1 3 rfl rfl)
theorem dJ10_node_27 : decode cJ10_node 27 = .ok (.iinc 3 1, 3) := dk_132 3 1 (dk_at dksJ10_node_1 4 rfl rfl)
theorem dJ10_node_30 : decode cJ10_node 30 = .ok (.goto (-13), 3) := dk_167 255 243 (dk_at dksJ10_node_1 7 rfl rfl)
theorem dJ10_node_33 : decode cJ10_node 33 = .ok (.aload_n 2, 1) := dk_44 (dk_at dksJ10_node_1 10 rfl rfl)
theorem dJ10_node_34 : decode cJ10_node 34 = .ok (.areturn, 1) := dk_176 (dk_at dksJ10_node_1 11 rfl rfl)
theorem dJ10_node_35 : decode cJ10_node 35 = .ok (.aload_n 0, 1) := dk_42 (dk_at dksJ10_node_1 12 rfl rfl)
theorem dJ10_node_36 : decode cJ10_node 36 = .ok (.getfield 27, 3) := dk_180 0 27 (dk_at dksJ10_node_1 13 rfl rfl)
theorem dJ10_node_39 : decode cJ10_node 39 = .ok (.astore_n 2, 1) := dk_77 (dk_at dksJ10_node_1 16 rfl rfl)
theorem dJ10_node_40 : decode cJ10_node 40 = .ok (.aload_n 0, 1) := dk_42 (dk_at dksJ10_node_1 17 rfl rfl)
theorem dJ10_node_41 : decode cJ10_node 41 = .ok (.getfield 7, 3) := dk_180 0 7 (dk_at dksJ10_node_1 18 rfl rfl)
theorem dJ10_node_44 : decode cJ10_node 44 = .ok (.iconst 1, 1) := dk_4 (dk_at dksJ10_node_1 21 rfl rfl)
theorem dJ10_node_45 : decode cJ10_node 45 = .ok (.isub, 1) := dk_100 (dk_at dksJ10_node_1 22 rfl rfl)
theorem dJ10_node_46 : decode cJ10_node 46 = .ok (.istore_n 3, 1) := dk_62 (dk_at dksJ10_node_1 23 rfl rfl)
theorem dJ10_node_47 : decode cJ10_node 47 = .ok (.iload_n 3, 1) := dk_29 (dk_at dksJ10_node_2 0 rfl rfl)
theorem dJ10_node_48 : decode cJ10_node 48 = .ok (.iload_n 1, 1) := dk_27 (dk_at dksJ10_node_2 1 rfl rfl)
theorem dJ10_node_49 : decode cJ10_node 49 = .ok (.if_icmp .le 14, 3) := dk_164 0 14 (dk_at dksJ10_node_2 2 rfl rfl)
theorem dJ10_node_52 : decode cJ10_node 52 = .ok (.aload_n 2, 1) := dk_44 (dk_at dksJ10_node_2 5 rfl rfl)
theorem dJ10_node_53 : decode cJ10_node 53 = .ok (.getfield 30, 3) := dk_180 0 30 (dk_at dksJ10_node_2 6 rfl rfl)
theorem dJ10_node_56 : decode cJ10_node 56 = .ok (.astore_n 2, 1) := dk_77 (dk_at dksJ10_node_2 9 rfl rfl)
theorem dJ10_node_57 : decode cJ10_node 57 = .ok (.iinc 3 (-1), 3) := dk_132 3 255 (dk_at dksJ10_node_2 10 rfl rfl)
theorem dJ10_node_60 : decode cJ10_node 60 = .ok (.goto (-13), 3) := dk_167 255 243 (dk_at dksJ10_node_2 13 rfl rfl)
theorem dJ10_node_63 : decode cJ10_node 63 = .ok (.aload_n 2, 1) := dk_44 (dk_at dksJ10_node_2 16 rfl rfl)
theorem dJ10_node_64 : decode cJ10_node 64 = .ok (.areturn, 1) := dk_176 (dk_at dksJ10_node_2 17 rfl rfl)
abbrev cJ10_get : ByteArray := prog_77_method_22_code
def yJ10_get : MethodName := ⟨RJ10, "get", "(I)Ljava/lang/Object;"⟩
def dkwJ10_get_0 : List UInt8 := [42, 27, 182, 0, 90, 42, 27, 182, 0, 86, 180, 0, 39, 176]
abbrev dktJ10_get_0 : List UInt8 := dkwJ10_get_0 ++ []
theorem dksJ10_get_0 : cJ10_get.data.toList.drop 0 = dktJ10_get_0 := by decide +kernel
theorem dJ10_get_0 : decode cJ10_get 0 = .ok (.aload_n 0, 1) := dk_42 (dk_at dksJ10_get_0 0 rfl rfl)
theorem dJ10_get_1 : decode cJ10_get 1 = .ok (.iload_n 1, 1) := dk_27 (dk_at dksJ10_get_0 1 rfl rfl)
theorem dJ10_get_2 : decode cJ10_get 2 = .ok (.invokevirtual 90, 3) := dk_182 0 90 (dk_at dksJ10_get_0 2 rfl rfl)
theorem dJ10_get_5 : decode cJ10_get 5 = .ok (.aload_n 0, 1) := dk_42 (dk_at dksJ10_get_0 5 rfl rfl)
theorem dJ10_get_6 : decode cJ10_get 6 = .ok (.iload_n 1, 1) := dk_27 (dk_at dksJ10_get_0 6 rfl rfl)
theorem dJ10_get_7 : decode cJ10_get 7 = .ok (.invokevirtual 86, 3) := dk_182 0 86 (dk_at dksJ10_get_0 7 rfl rfl)
theorem dJ10_get_10 : decode cJ10_get 10 = .ok (.getfield 39, 3) := dk_180 0 39 (dk_at dksJ10_get_0 10 rfl rfl)
theorem dJ10_get_13 : decode cJ10_get 13 = .ok (.areturn, 1) := dk_176 (dk_at dksJ10_get_0 13 rfl rfl)
abbrev cJ10_checkElementIndex : ByteArray := prog_77_method_29_code
def yJ10_checkElementIndex : MethodName := ⟨RJ10, "checkElementIndex", "(I)V"⟩
def dkwJ10_checkElementIndex_0 : List UInt8 := [42, 27, 182, 0, 115, 154, 0, 16, 187, 0, 119, 89, 42, 27, 182, 0, 121, 183, 0, 125, 191, 177]
abbrev dktJ10_checkElementIndex_0 : List UInt8 := dkwJ10_checkElementIndex_0 ++ []
theorem dksJ10_checkElementIndex_0 : cJ10_checkElementIndex.data.toList.drop 0 = dktJ10_checkElementIndex_0 := by decide +kernel
theorem dJ10_checkElementIndex_0 : decode cJ10_checkElementIndex 0 = .ok (.aload_n 0, 1) := dk_42 (dk_at dksJ10_checkElementIndex_0 0 rfl rfl)
theorem dJ10_checkElementIndex_1 : decode cJ10_checkElementIndex 1 = .ok (.iload_n 1, 1) := dk_27 (dk_at dksJ10_checkElementIndex_0 1 rfl rfl)
theorem dJ10_checkElementIndex_2 : decode cJ10_checkElementIndex 2 = .ok (.invokevirtual 115, 3) := dk_182 0 115 (dk_at dksJ10_checkElementIndex_0 2 rfl rfl)
theorem dJ10_checkElementIndex_5 : decode cJ10_checkElementIndex 5 = .ok (.ifCond .ne 16, 3) := dk_154 0 16 (dk_at dksJ10_checkElementIndex_0 5 rfl rfl)
theorem dJ10_checkElementIndex_8 : decode cJ10_checkElementIndex 8 = .ok (.new 119, 3) := dk_187 0 119 (dk_at dksJ10_checkElementIndex_0 8 rfl rfl)
theorem dJ10_checkElementIndex_11 : decode cJ10_checkElementIndex 11 = .ok (.dup, 1) := dk_89 (dk_at dksJ10_checkElementIndex_0 11 rfl rfl)
theorem dJ10_checkElementIndex_12 : decode cJ10_checkElementIndex 12 = .ok (.aload_n 0, 1) := dk_42 (dk_at dksJ10_checkElementIndex_0 12 rfl rfl)
theorem dJ10_checkElementIndex_13 : decode cJ10_checkElementIndex 13 = .ok (.iload_n 1, 1) := dk_27 (dk_at dksJ10_checkElementIndex_0 13 rfl rfl)
theorem dJ10_checkElementIndex_14 : decode cJ10_checkElementIndex 14 = .ok (.invokevirtual 121, 3) := dk_182 0 121 (dk_at dksJ10_checkElementIndex_0 14 rfl rfl)
theorem dJ10_checkElementIndex_17 : decode cJ10_checkElementIndex 17 = .ok (.invokespecial 125, 3) := dk_183 0 125 (dk_at dksJ10_checkElementIndex_0 17 rfl rfl)
theorem dJ10_checkElementIndex_20 : decode cJ10_checkElementIndex 20 = .ok (.athrow, 1) := dk_191 (dk_at dksJ10_checkElementIndex_0 20 rfl rfl)
theorem dJ10_checkElementIndex_21 : decode cJ10_checkElementIndex 21 = .ok (.return_, 1) := dk_177 (dk_at dksJ10_checkElementIndex_0 21 rfl rfl)
abbrev cJ10_isElementIndex : ByteArray := prog_77_method_26_code
def yJ10_isElementIndex : MethodName := ⟨RJ10, "isElementIndex", "(I)Z"⟩
def dkwJ10_isElementIndex_0 : List UInt8 := [27, 155, 0, 15, 27, 42, 180, 0, 7, 162, 0, 7, 4, 167, 0, 4, 3, 172]
abbrev dktJ10_isElementIndex_0 : List UInt8 := dkwJ10_isElementIndex_0 ++ []
theorem dksJ10_isElementIndex_0 : cJ10_isElementIndex.data.toList.drop 0 = dktJ10_isElementIndex_0 := by decide +kernel
theorem dJ10_isElementIndex_0 : decode cJ10_isElementIndex 0 = .ok (.iload_n 1, 1) := dk_27 (dk_at dksJ10_isElementIndex_0 0 rfl rfl)
theorem dJ10_isElementIndex_1 : decode cJ10_isElementIndex 1 = .ok (.ifCond .lt 15, 3) := dk_155 0 15 (dk_at dksJ10_isElementIndex_0 1 rfl rfl)
theorem dJ10_isElementIndex_4 : decode cJ10_isElementIndex 4 = .ok (.iload_n 1, 1) := dk_27 (dk_at dksJ10_isElementIndex_0 4 rfl rfl)
theorem dJ10_isElementIndex_5 : decode cJ10_isElementIndex 5 = .ok (.aload_n 0, 1) := dk_42 (dk_at dksJ10_isElementIndex_0 5 rfl rfl)
theorem dJ10_isElementIndex_6 : decode cJ10_isElementIndex 6 = .ok (.getfield 7, 3) := dk_180 0 7 (dk_at dksJ10_isElementIndex_0 6 rfl rfl)
theorem dJ10_isElementIndex_9 : decode cJ10_isElementIndex 9 = .ok (.if_icmp .ge 7, 3) := dk_162 0 7 (dk_at dksJ10_isElementIndex_0 9 rfl rfl)
theorem dJ10_isElementIndex_12 : decode cJ10_isElementIndex 12 = .ok (.iconst 1, 1) := dk_4 (dk_at dksJ10_isElementIndex_0 12 rfl rfl)
theorem dJ10_isElementIndex_13 : decode cJ10_isElementIndex 13 = .ok (.goto 4, 3) := dk_167 0 4 (dk_at dksJ10_isElementIndex_0 13 rfl rfl)
theorem dJ10_isElementIndex_16 : decode cJ10_isElementIndex 16 = .ok (.iconst 0, 1) := dk_3 (dk_at dksJ10_isElementIndex_0 16 rfl rfl)
theorem dJ10_isElementIndex_17 : decode cJ10_isElementIndex 17 = .ok (.ireturn, 1) := dk_172 (dk_at dksJ10_isElementIndex_0 17 rfl rfl)
abbrev cJ10_toArray : ByteArray := prog_77_method_53_code
def yJ10_toArray : MethodName := ⟨RJ10, "toArray", "()[Ljava/lang/Object;"⟩
def dkwJ10_toArray_1 : List UInt8 := [45, 180, 0, 39, 83, 45, 180, 0, 36, 78, 167, 255, 237, 43, 176]
abbrev dktJ10_toArray_1 : List UInt8 := dkwJ10_toArray_1 ++ []
def dkwJ10_toArray_0 : List UInt8 := [42, 180, 0, 7, 189, 0, 68, 76, 3, 61, 42, 180, 0, 18, 78, 45, 198, 0, 21, 43, 28, 132, 2, 1]
abbrev dktJ10_toArray_0 : List UInt8 := dkwJ10_toArray_0 ++ dktJ10_toArray_1
theorem dksJ10_toArray_0 : cJ10_toArray.data.toList.drop 0 = dktJ10_toArray_0 := by decide +kernel
theorem dksJ10_toArray_1 : cJ10_toArray.data.toList.drop 24 = dktJ10_toArray_1 := dk_seg dksJ10_toArray_0 24 rfl rfl
theorem dJ10_toArray_0 : decode cJ10_toArray 0 = .ok (.aload_n 0, 1) := dk_42 (dk_at dksJ10_toArray_0 0 rfl rfl)
theorem dJ10_toArray_1 : decode cJ10_toArray 1 = .ok (.getfield 7, 3) := dk_180 0 7 (dk_at dksJ10_toArray_0 1 rfl rfl)
theorem dJ10_toArray_4 : decode cJ10_toArray 4 = .ok (.anewarray 68, 3) := dk_189 0 68 (dk_at dksJ10_toArray_0 4 rfl rfl)
theorem dJ10_toArray_7 : decode cJ10_toArray 7 = .ok (.astore_n 1, 1) := dk_76 (dk_at dksJ10_toArray_0 7 rfl rfl)
theorem dJ10_toArray_8 : decode cJ10_toArray 8 = .ok (.iconst 0, 1) := dk_3 (dk_at dksJ10_toArray_0 8 rfl rfl)
theorem dJ10_toArray_9 : decode cJ10_toArray 9 = .ok (.istore_n 2, 1) := dk_61 (dk_at dksJ10_toArray_0 9 rfl rfl)
theorem dJ10_toArray_10 : decode cJ10_toArray 10 = .ok (.aload_n 0, 1) := dk_42 (dk_at dksJ10_toArray_0 10 rfl rfl)
theorem dJ10_toArray_11 : decode cJ10_toArray 11 = .ok (.getfield 18, 3) := dk_180 0 18 (dk_at dksJ10_toArray_0 11 rfl rfl)
theorem dJ10_toArray_14 : decode cJ10_toArray 14 = .ok (.astore_n 3, 1) := dk_78 (dk_at dksJ10_toArray_0 14 rfl rfl)
theorem dJ10_toArray_15 : decode cJ10_toArray 15 = .ok (.aload_n 3, 1) := dk_45 (dk_at dksJ10_toArray_0 15 rfl rfl)
theorem dJ10_toArray_16 : decode cJ10_toArray 16 = .ok (.ifnull 21, 3) := dk_198 0 21 (dk_at dksJ10_toArray_0 16 rfl rfl)
theorem dJ10_toArray_19 : decode cJ10_toArray 19 = .ok (.aload_n 1, 1) := dk_43 (dk_at dksJ10_toArray_0 19 rfl rfl)
theorem dJ10_toArray_20 : decode cJ10_toArray 20 = .ok (.iload_n 2, 1) := dk_28 (dk_at dksJ10_toArray_0 20 rfl rfl)
theorem dJ10_toArray_21 : decode cJ10_toArray 21 = .ok (.iinc 2 1, 3) := dk_132 2 1 (dk_at dksJ10_toArray_0 21 rfl rfl)
theorem dJ10_toArray_24 : decode cJ10_toArray 24 = .ok (.aload_n 3, 1) := dk_45 (dk_at dksJ10_toArray_1 0 rfl rfl)
theorem dJ10_toArray_25 : decode cJ10_toArray 25 = .ok (.getfield 39, 3) := dk_180 0 39 (dk_at dksJ10_toArray_1 1 rfl rfl)
theorem dJ10_toArray_28 : decode cJ10_toArray 28 = .ok (.aastore, 1) := dk_83 (dk_at dksJ10_toArray_1 4 rfl rfl)
theorem dJ10_toArray_29 : decode cJ10_toArray 29 = .ok (.aload_n 3, 1) := dk_45 (dk_at dksJ10_toArray_1 5 rfl rfl)
theorem dJ10_toArray_30 : decode cJ10_toArray 30 = .ok (.getfield 36, 3) := dk_180 0 36 (dk_at dksJ10_toArray_1 6 rfl rfl)
theorem dJ10_toArray_33 : decode cJ10_toArray 33 = .ok (.astore_n 3, 1) := dk_78 (dk_at dksJ10_toArray_1 9 rfl rfl)
theorem dJ10_toArray_34 : decode cJ10_toArray 34 = .ok (.goto (-19), 3) := dk_167 255 237 (dk_at dksJ10_toArray_1 10 rfl rfl)
theorem dJ10_toArray_37 : decode cJ10_toArray 37 = .ok (.aload_n 1, 1) := dk_43 (dk_at dksJ10_toArray_1 13 rfl rfl)
theorem dJ10_toArray_38 : decode cJ10_toArray 38 = .ok (.areturn, 1) := dk_176 (dk_at dksJ10_toArray_1 14 rfl rfl)
abbrev cJ10_addAll : ByteArray := prog_77_method_19_code
def yJ10_addAll : MethodName := ⟨RJ10, "addAll", "(Ljava/util/Collection;)Z"⟩
def dkwJ10_addAll_0 : List UInt8 := [42, 42, 180, 0, 7, 43, 182, 0, 73, 172]
abbrev dktJ10_addAll_0 : List UInt8 := dkwJ10_addAll_0 ++ []
theorem dksJ10_addAll_0 : cJ10_addAll.data.toList.drop 0 = dktJ10_addAll_0 := by decide +kernel
theorem dJ10_addAll_0 : decode cJ10_addAll 0 = .ok (.aload_n 0, 1) := dk_42 (dk_at dksJ10_addAll_0 0 rfl rfl)
theorem dJ10_addAll_1 : decode cJ10_addAll 1 = .ok (.aload_n 0, 1) := dk_42 (dk_at dksJ10_addAll_0 1 rfl rfl)
theorem dJ10_addAll_2 : decode cJ10_addAll 2 = .ok (.getfield 7, 3) := dk_180 0 7 (dk_at dksJ10_addAll_0 2 rfl rfl)
theorem dJ10_addAll_5 : decode cJ10_addAll 5 = .ok (.aload_n 1, 1) := dk_43 (dk_at dksJ10_addAll_0 5 rfl rfl)
theorem dJ10_addAll_6 : decode cJ10_addAll 6 = .ok (.invokevirtual 73, 3) := dk_182 0 73 (dk_at dksJ10_addAll_0 6 rfl rfl)
theorem dJ10_addAll_9 : decode cJ10_addAll 9 = .ok (.ireturn, 1) := dk_172 (dk_at dksJ10_addAll_0 9 rfl rfl)
abbrev cJ10_addAll_2 : ByteArray := prog_77_method_20_code
def yJ10_addAll_2 : MethodName := ⟨RJ10, "addAll", "(ILjava/util/Collection;)Z"⟩
def dkwJ10_addAll_2_7 : List UInt8 := [96, 181, 0, 7, 42, 89, 180, 0, 33, 4, 96, 181, 0, 33, 4, 172]
abbrev dktJ10_addAll_2_7 : List UInt8 := dkwJ10_addAll_2_7 ++ []
def dkwJ10_addAll_2_6 : List UInt8 := [167, 0, 17, 25, 5, 25, 6, 181, 0, 36, 25, 6, 25, 5, 181, 0, 30, 42, 89, 180, 0, 7, 21, 4]
abbrev dktJ10_addAll_2_6 : List UInt8 := dkwJ10_addAll_2_6 ++ dktJ10_addAll_2_7
def dkwJ10_addAll_2_5 : List UInt8 := [181, 0, 36, 25, 12, 58, 5, 132, 9, 1, 167, 255, 196, 25, 6, 199, 0, 12, 42, 25, 5, 181, 0, 27]
abbrev dktJ10_addAll_2_5 : List UInt8 := dkwJ10_addAll_2_5 ++ dktJ10_addAll_2_6
def dkwJ10_addAll_2_4 : List UInt8 := [183, 0, 24, 58, 12, 25, 5, 199, 0, 12, 42, 25, 12, 181, 0, 18, 167, 0, 10, 25, 5, 25, 12]
abbrev dktJ10_addAll_2_4 : List UInt8 := dkwJ10_addAll_2_4 ++ dktJ10_addAll_2_5
def dkwJ10_addAll_2_3 : List UInt8 := [162, 0, 59, 25, 7, 21, 9, 50, 58, 10, 25, 10, 58, 11, 187, 0, 22, 89, 25, 5, 25, 11, 1]
abbrev dktJ10_addAll_2_3 : List UInt8 := dkwJ10_addAll_2_3 ++ dktJ10_addAll_2_4
def dkwJ10_addAll_2_2 : List UInt8 := [58, 6, 25, 6, 180, 0, 30, 58, 5, 45, 58, 7, 25, 7, 190, 54, 8, 3, 54, 9, 21, 9, 21, 8]
abbrev dktJ10_addAll_2_2 : List UInt8 := dkwJ10_addAll_2_2 ++ dktJ10_addAll_2_3
def dkwJ10_addAll_2_1 : List UInt8 := [42, 180, 0, 7, 160, 0, 15, 1, 58, 6, 42, 180, 0, 27, 58, 5, 167, 0, 17, 42, 27, 182, 0, 86]
abbrev dktJ10_addAll_2_1 : List UInt8 := dkwJ10_addAll_2_1 ++ dktJ10_addAll_2_2
def dkwJ10_addAll_2_0 : List UInt8 := [42, 27, 182, 0, 76, 44, 185, 0, 80, 1, 0, 78, 45, 190, 54, 4, 21, 4, 154, 0, 5, 3, 172, 27]
abbrev dktJ10_addAll_2_0 : List UInt8 := dkwJ10_addAll_2_0 ++ dktJ10_addAll_2_1
theorem dksJ10_addAll_2_0 : cJ10_addAll_2.data.toList.drop 0 = dktJ10_addAll_2_0 := by decide +kernel
theorem dksJ10_addAll_2_1 : cJ10_addAll_2.data.toList.drop 24 = dktJ10_addAll_2_1 := dk_seg dksJ10_addAll_2_0 24 rfl rfl
theorem dksJ10_addAll_2_2 : cJ10_addAll_2.data.toList.drop 48 = dktJ10_addAll_2_2 := dk_seg dksJ10_addAll_2_1 24 rfl rfl
theorem dksJ10_addAll_2_3 : cJ10_addAll_2.data.toList.drop 72 = dktJ10_addAll_2_3 := dk_seg dksJ10_addAll_2_2 24 rfl rfl
theorem dksJ10_addAll_2_4 : cJ10_addAll_2.data.toList.drop 95 = dktJ10_addAll_2_4 := dk_seg dksJ10_addAll_2_3 23 rfl rfl
theorem dksJ10_addAll_2_5 : cJ10_addAll_2.data.toList.drop 118 = dktJ10_addAll_2_5 := dk_seg dksJ10_addAll_2_4 23 rfl rfl
theorem dksJ10_addAll_2_6 : cJ10_addAll_2.data.toList.drop 142 = dktJ10_addAll_2_6 := dk_seg dksJ10_addAll_2_5 24 rfl rfl
theorem dksJ10_addAll_2_7 : cJ10_addAll_2.data.toList.drop 166 = dktJ10_addAll_2_7 := dk_seg dksJ10_addAll_2_6 24 rfl rfl
theorem dJ10_addAll_2_0 : decode cJ10_addAll_2 0 = .ok (.aload_n 0, 1) := dk_42 (dk_at dksJ10_addAll_2_0 0 rfl rfl)
theorem dJ10_addAll_2_1 : decode cJ10_addAll_2 1 = .ok (.iload_n 1, 1) := dk_27 (dk_at dksJ10_addAll_2_0 1 rfl rfl)
theorem dJ10_addAll_2_2 : decode cJ10_addAll_2 2 = .ok (.invokevirtual 76, 3) := dk_182 0 76 (dk_at dksJ10_addAll_2_0 2 rfl rfl)
theorem dJ10_addAll_2_5 : decode cJ10_addAll_2 5 = .ok (.aload_n 2, 1) := dk_44 (dk_at dksJ10_addAll_2_0 5 rfl rfl)
theorem dJ10_addAll_2_6 : decode cJ10_addAll_2 6 = .ok (.invokeinterface 80 1, 5) := by decide +kernel
theorem dJ10_addAll_2_11 : decode cJ10_addAll_2 11 = .ok (.astore_n 3, 1) := dk_78 (dk_at dksJ10_addAll_2_0 11 rfl rfl)
theorem dJ10_addAll_2_12 : decode cJ10_addAll_2 12 = .ok (.aload_n 3, 1) := dk_45 (dk_at dksJ10_addAll_2_0 12 rfl rfl)
theorem dJ10_addAll_2_13 : decode cJ10_addAll_2 13 = .ok (.arraylength, 1) := dk_190 (dk_at dksJ10_addAll_2_0 13 rfl rfl)
theorem dJ10_addAll_2_14 : decode cJ10_addAll_2 14 = .ok (.istore 4, 2) := dk_54 4 (dk_at dksJ10_addAll_2_0 14 rfl rfl)
theorem dJ10_addAll_2_16 : decode cJ10_addAll_2 16 = .ok (.iload 4, 2) := dk_21 4 (dk_at dksJ10_addAll_2_0 16 rfl rfl)
theorem dJ10_addAll_2_18 : decode cJ10_addAll_2 18 = .ok (.ifCond .ne 5, 3) := dk_154 0 5 (dk_at dksJ10_addAll_2_0 18 rfl rfl)
theorem dJ10_addAll_2_21 : decode cJ10_addAll_2 21 = .ok (.iconst 0, 1) := dk_3 (dk_at dksJ10_addAll_2_0 21 rfl rfl)
theorem dJ10_addAll_2_22 : decode cJ10_addAll_2 22 = .ok (.ireturn, 1) := dk_172 (dk_at dksJ10_addAll_2_0 22 rfl rfl)
theorem dJ10_addAll_2_23 : decode cJ10_addAll_2 23 = .ok (.iload_n 1, 1) := dk_27 (dk_at dksJ10_addAll_2_0 23 rfl rfl)
theorem dJ10_addAll_2_24 : decode cJ10_addAll_2 24 = .ok (.aload_n 0, 1) := dk_42 (dk_at dksJ10_addAll_2_1 0 rfl rfl)
theorem dJ10_addAll_2_25 : decode cJ10_addAll_2 25 = .ok (.getfield 7, 3) := dk_180 0 7 (dk_at dksJ10_addAll_2_1 1 rfl rfl)
theorem dJ10_addAll_2_28 : decode cJ10_addAll_2 28 = .ok (.if_icmp .ne 15, 3) := dk_160 0 15 (dk_at dksJ10_addAll_2_1 4 rfl rfl)
theorem dJ10_addAll_2_31 : decode cJ10_addAll_2 31 = .ok (.aconst_null, 1) := dk_1 (dk_at dksJ10_addAll_2_1 7 rfl rfl)
theorem dJ10_addAll_2_32 : decode cJ10_addAll_2 32 = .ok (.astore 6, 2) := dk_58 6 (dk_at dksJ10_addAll_2_1 8 rfl rfl)
theorem dJ10_addAll_2_34 : decode cJ10_addAll_2 34 = .ok (.aload_n 0, 1) := dk_42 (dk_at dksJ10_addAll_2_1 10 rfl rfl)
theorem dJ10_addAll_2_35 : decode cJ10_addAll_2 35 = .ok (.getfield 27, 3) := dk_180 0 27 (dk_at dksJ10_addAll_2_1 11 rfl rfl)
theorem dJ10_addAll_2_38 : decode cJ10_addAll_2 38 = .ok (.astore 5, 2) := dk_58 5 (dk_at dksJ10_addAll_2_1 14 rfl rfl)
theorem dJ10_addAll_2_40 : decode cJ10_addAll_2 40 = .ok (.goto 17, 3) := dk_167 0 17 (dk_at dksJ10_addAll_2_1 16 rfl rfl)
theorem dJ10_addAll_2_43 : decode cJ10_addAll_2 43 = .ok (.aload_n 0, 1) := dk_42 (dk_at dksJ10_addAll_2_1 19 rfl rfl)
theorem dJ10_addAll_2_44 : decode cJ10_addAll_2 44 = .ok (.iload_n 1, 1) := dk_27 (dk_at dksJ10_addAll_2_1 20 rfl rfl)
theorem dJ10_addAll_2_45 : decode cJ10_addAll_2 45 = .ok (.invokevirtual 86, 3) := dk_182 0 86 (dk_at dksJ10_addAll_2_1 21 rfl rfl)
theorem dJ10_addAll_2_48 : decode cJ10_addAll_2 48 = .ok (.astore 6, 2) := dk_58 6 (dk_at dksJ10_addAll_2_2 0 rfl rfl)
theorem dJ10_addAll_2_50 : decode cJ10_addAll_2 50 = .ok (.aload 6, 2) := dk_25 6 (dk_at dksJ10_addAll_2_2 2 rfl rfl)
theorem dJ10_addAll_2_52 : decode cJ10_addAll_2 52 = .ok (.getfield 30, 3) := dk_180 0 30 (dk_at dksJ10_addAll_2_2 4 rfl rfl)
theorem dJ10_addAll_2_55 : decode cJ10_addAll_2 55 = .ok (.astore 5, 2) := dk_58 5 (dk_at dksJ10_addAll_2_2 7 rfl rfl)
theorem dJ10_addAll_2_57 : decode cJ10_addAll_2 57 = .ok (.aload_n 3, 1) := dk_45 (dk_at dksJ10_addAll_2_2 9 rfl rfl)
theorem dJ10_addAll_2_58 : decode cJ10_addAll_2 58 = .ok (.astore 7, 2) := dk_58 7 (dk_at dksJ10_addAll_2_2 10 rfl rfl)
theorem dJ10_addAll_2_60 : decode cJ10_addAll_2 60 = .ok (.aload 7, 2) := dk_25 7 (dk_at dksJ10_addAll_2_2 12 rfl rfl)
theorem dJ10_addAll_2_62 : decode cJ10_addAll_2 62 = .ok (.arraylength, 1) := dk_190 (dk_at dksJ10_addAll_2_2 14 rfl rfl)
theorem dJ10_addAll_2_63 : decode cJ10_addAll_2 63 = .ok (.istore 8, 2) := dk_54 8 (dk_at dksJ10_addAll_2_2 15 rfl rfl)
theorem dJ10_addAll_2_65 : decode cJ10_addAll_2 65 = .ok (.iconst 0, 1) := dk_3 (dk_at dksJ10_addAll_2_2 17 rfl rfl)
theorem dJ10_addAll_2_66 : decode cJ10_addAll_2 66 = .ok (.istore 9, 2) := dk_54 9 (dk_at dksJ10_addAll_2_2 18 rfl rfl)
theorem dJ10_addAll_2_68 : decode cJ10_addAll_2 68 = .ok (.iload 9, 2) := dk_21 9 (dk_at dksJ10_addAll_2_2 20 rfl rfl)
theorem dJ10_addAll_2_70 : decode cJ10_addAll_2 70 = .ok (.iload 8, 2) := dk_21 8 (dk_at dksJ10_addAll_2_2 22 rfl rfl)
theorem dJ10_addAll_2_72 : decode cJ10_addAll_2 72 = .ok (.if_icmp .ge 59, 3) := dk_162 0 59 (dk_at dksJ10_addAll_2_3 0 rfl rfl)
theorem dJ10_addAll_2_75 : decode cJ10_addAll_2 75 = .ok (.aload 7, 2) := dk_25 7 (dk_at dksJ10_addAll_2_3 3 rfl rfl)
theorem dJ10_addAll_2_77 : decode cJ10_addAll_2 77 = .ok (.iload 9, 2) := dk_21 9 (dk_at dksJ10_addAll_2_3 5 rfl rfl)
theorem dJ10_addAll_2_79 : decode cJ10_addAll_2 79 = .ok (.aaload, 1) := dk_50 (dk_at dksJ10_addAll_2_3 7 rfl rfl)
theorem dJ10_addAll_2_80 : decode cJ10_addAll_2 80 = .ok (.astore 10, 2) := dk_58 10 (dk_at dksJ10_addAll_2_3 8 rfl rfl)
theorem dJ10_addAll_2_82 : decode cJ10_addAll_2 82 = .ok (.aload 10, 2) := dk_25 10 (dk_at dksJ10_addAll_2_3 10 rfl rfl)
theorem dJ10_addAll_2_84 : decode cJ10_addAll_2 84 = .ok (.astore 11, 2) := dk_58 11 (dk_at dksJ10_addAll_2_3 12 rfl rfl)
theorem dJ10_addAll_2_86 : decode cJ10_addAll_2 86 = .ok (.new 22, 3) := dk_187 0 22 (dk_at dksJ10_addAll_2_3 14 rfl rfl)
theorem dJ10_addAll_2_89 : decode cJ10_addAll_2 89 = .ok (.dup, 1) := dk_89 (dk_at dksJ10_addAll_2_3 17 rfl rfl)
theorem dJ10_addAll_2_90 : decode cJ10_addAll_2 90 = .ok (.aload 5, 2) := dk_25 5 (dk_at dksJ10_addAll_2_3 18 rfl rfl)
theorem dJ10_addAll_2_92 : decode cJ10_addAll_2 92 = .ok (.aload 11, 2) := dk_25 11 (dk_at dksJ10_addAll_2_3 20 rfl rfl)
theorem dJ10_addAll_2_94 : decode cJ10_addAll_2 94 = .ok (.aconst_null, 1) := dk_1 (dk_at dksJ10_addAll_2_3 22 rfl rfl)
theorem dJ10_addAll_2_95 : decode cJ10_addAll_2 95 = .ok (.invokespecial 24, 3) := dk_183 0 24 (dk_at dksJ10_addAll_2_4 0 rfl rfl)
theorem dJ10_addAll_2_98 : decode cJ10_addAll_2 98 = .ok (.astore 12, 2) := dk_58 12 (dk_at dksJ10_addAll_2_4 3 rfl rfl)
theorem dJ10_addAll_2_100 : decode cJ10_addAll_2 100 = .ok (.aload 5, 2) := dk_25 5 (dk_at dksJ10_addAll_2_4 5 rfl rfl)
theorem dJ10_addAll_2_102 : decode cJ10_addAll_2 102 = .ok (.ifnonnull 12, 3) := dk_199 0 12 (dk_at dksJ10_addAll_2_4 7 rfl rfl)
theorem dJ10_addAll_2_105 : decode cJ10_addAll_2 105 = .ok (.aload_n 0, 1) := dk_42 (dk_at dksJ10_addAll_2_4 10 rfl rfl)
theorem dJ10_addAll_2_106 : decode cJ10_addAll_2 106 = .ok (.aload 12, 2) := dk_25 12 (dk_at dksJ10_addAll_2_4 11 rfl rfl)
theorem dJ10_addAll_2_108 : decode cJ10_addAll_2 108 = .ok (.putfield 18, 3) := dk_181 0 18 (dk_at dksJ10_addAll_2_4 13 rfl rfl)
theorem dJ10_addAll_2_111 : decode cJ10_addAll_2 111 = .ok (.goto 10, 3) := dk_167 0 10 (dk_at dksJ10_addAll_2_4 16 rfl rfl)
theorem dJ10_addAll_2_114 : decode cJ10_addAll_2 114 = .ok (.aload 5, 2) := dk_25 5 (dk_at dksJ10_addAll_2_4 19 rfl rfl)
theorem dJ10_addAll_2_116 : decode cJ10_addAll_2 116 = .ok (.aload 12, 2) := dk_25 12 (dk_at dksJ10_addAll_2_4 21 rfl rfl)
theorem dJ10_addAll_2_118 : decode cJ10_addAll_2 118 = .ok (.putfield 36, 3) := dk_181 0 36 (dk_at dksJ10_addAll_2_5 0 rfl rfl)
theorem dJ10_addAll_2_121 : decode cJ10_addAll_2 121 = .ok (.aload 12, 2) := dk_25 12 (dk_at dksJ10_addAll_2_5 3 rfl rfl)
theorem dJ10_addAll_2_123 : decode cJ10_addAll_2 123 = .ok (.astore 5, 2) := dk_58 5 (dk_at dksJ10_addAll_2_5 5 rfl rfl)
theorem dJ10_addAll_2_125 : decode cJ10_addAll_2 125 = .ok (.iinc 9 1, 3) := dk_132 9 1 (dk_at dksJ10_addAll_2_5 7 rfl rfl)
theorem dJ10_addAll_2_128 : decode cJ10_addAll_2 128 = .ok (.goto (-60), 3) := dk_167 255 196 (dk_at dksJ10_addAll_2_5 10 rfl rfl)
theorem dJ10_addAll_2_131 : decode cJ10_addAll_2 131 = .ok (.aload 6, 2) := dk_25 6 (dk_at dksJ10_addAll_2_5 13 rfl rfl)
theorem dJ10_addAll_2_133 : decode cJ10_addAll_2 133 = .ok (.ifnonnull 12, 3) := dk_199 0 12 (dk_at dksJ10_addAll_2_5 15 rfl rfl)
theorem dJ10_addAll_2_136 : decode cJ10_addAll_2 136 = .ok (.aload_n 0, 1) := dk_42 (dk_at dksJ10_addAll_2_5 18 rfl rfl)
theorem dJ10_addAll_2_137 : decode cJ10_addAll_2 137 = .ok (.aload 5, 2) := dk_25 5 (dk_at dksJ10_addAll_2_5 19 rfl rfl)
theorem dJ10_addAll_2_139 : decode cJ10_addAll_2 139 = .ok (.putfield 27, 3) := dk_181 0 27 (dk_at dksJ10_addAll_2_5 21 rfl rfl)
theorem dJ10_addAll_2_142 : decode cJ10_addAll_2 142 = .ok (.goto 17, 3) := dk_167 0 17 (dk_at dksJ10_addAll_2_6 0 rfl rfl)
theorem dJ10_addAll_2_145 : decode cJ10_addAll_2 145 = .ok (.aload 5, 2) := dk_25 5 (dk_at dksJ10_addAll_2_6 3 rfl rfl)
theorem dJ10_addAll_2_147 : decode cJ10_addAll_2 147 = .ok (.aload 6, 2) := dk_25 6 (dk_at dksJ10_addAll_2_6 5 rfl rfl)
theorem dJ10_addAll_2_149 : decode cJ10_addAll_2 149 = .ok (.putfield 36, 3) := dk_181 0 36 (dk_at dksJ10_addAll_2_6 7 rfl rfl)
theorem dJ10_addAll_2_152 : decode cJ10_addAll_2 152 = .ok (.aload 6, 2) := dk_25 6 (dk_at dksJ10_addAll_2_6 10 rfl rfl)
theorem dJ10_addAll_2_154 : decode cJ10_addAll_2 154 = .ok (.aload 5, 2) := dk_25 5 (dk_at dksJ10_addAll_2_6 12 rfl rfl)
theorem dJ10_addAll_2_156 : decode cJ10_addAll_2 156 = .ok (.putfield 30, 3) := dk_181 0 30 (dk_at dksJ10_addAll_2_6 14 rfl rfl)
theorem dJ10_addAll_2_159 : decode cJ10_addAll_2 159 = .ok (.aload_n 0, 1) := dk_42 (dk_at dksJ10_addAll_2_6 17 rfl rfl)
theorem dJ10_addAll_2_160 : decode cJ10_addAll_2 160 = .ok (.dup, 1) := dk_89 (dk_at dksJ10_addAll_2_6 18 rfl rfl)
theorem dJ10_addAll_2_161 : decode cJ10_addAll_2 161 = .ok (.getfield 7, 3) := dk_180 0 7 (dk_at dksJ10_addAll_2_6 19 rfl rfl)
theorem dJ10_addAll_2_164 : decode cJ10_addAll_2 164 = .ok (.iload 4, 2) := dk_21 4 (dk_at dksJ10_addAll_2_6 22 rfl rfl)
theorem dJ10_addAll_2_166 : decode cJ10_addAll_2 166 = .ok (.iadd, 1) := dk_96 (dk_at dksJ10_addAll_2_7 0 rfl rfl)
theorem dJ10_addAll_2_167 : decode cJ10_addAll_2 167 = .ok (.putfield 7, 3) := dk_181 0 7 (dk_at dksJ10_addAll_2_7 1 rfl rfl)
theorem dJ10_addAll_2_170 : decode cJ10_addAll_2 170 = .ok (.aload_n 0, 1) := dk_42 (dk_at dksJ10_addAll_2_7 4 rfl rfl)
theorem dJ10_addAll_2_171 : decode cJ10_addAll_2 171 = .ok (.dup, 1) := dk_89 (dk_at dksJ10_addAll_2_7 5 rfl rfl)
theorem dJ10_addAll_2_172 : decode cJ10_addAll_2 172 = .ok (.getfield 33, 3) := dk_180 0 33 (dk_at dksJ10_addAll_2_7 6 rfl rfl)
theorem dJ10_addAll_2_175 : decode cJ10_addAll_2 175 = .ok (.iconst 1, 1) := dk_4 (dk_at dksJ10_addAll_2_7 9 rfl rfl)
theorem dJ10_addAll_2_176 : decode cJ10_addAll_2 176 = .ok (.iadd, 1) := dk_96 (dk_at dksJ10_addAll_2_7 10 rfl rfl)
theorem dJ10_addAll_2_177 : decode cJ10_addAll_2 177 = .ok (.putfield 33, 3) := dk_181 0 33 (dk_at dksJ10_addAll_2_7 11 rfl rfl)
theorem dJ10_addAll_2_180 : decode cJ10_addAll_2 180 = .ok (.iconst 1, 1) := dk_4 (dk_at dksJ10_addAll_2_7 14 rfl rfl)
theorem dJ10_addAll_2_181 : decode cJ10_addAll_2 181 = .ok (.ireturn, 1) := dk_172 (dk_at dksJ10_addAll_2_7 15 rfl rfl)
abbrev cJ10_addLast : ByteArray := prog_77_method_14_code
def yJ10_addLast : MethodName := ⟨RJ10, "addLast", "(Ljava/lang/Object;)V"⟩
def dkwJ10_addLast_0 : List UInt8 := [42, 43, 182, 0, 57, 177]
abbrev dktJ10_addLast_0 : List UInt8 := dkwJ10_addLast_0 ++ []
theorem dksJ10_addLast_0 : cJ10_addLast.data.toList.drop 0 = dktJ10_addLast_0 := by decide +kernel
theorem dJ10_addLast_0 : decode cJ10_addLast 0 = .ok (.aload_n 0, 1) := dk_42 (dk_at dksJ10_addLast_0 0 rfl rfl)
theorem dJ10_addLast_1 : decode cJ10_addLast 1 = .ok (.aload_n 1, 1) := dk_43 (dk_at dksJ10_addLast_0 1 rfl rfl)
theorem dJ10_addLast_2 : decode cJ10_addLast 2 = .ok (.invokevirtual 57, 3) := dk_182 0 57 (dk_at dksJ10_addLast_0 2 rfl rfl)
theorem dJ10_addLast_5 : decode cJ10_addLast 5 = .ok (.return_, 1) := dk_177 (dk_at dksJ10_addLast_0 5 rfl rfl)
abbrev cJ10_linkLast : ByteArray := prog_77_method_4_code
def yJ10_linkLast : MethodName := ⟨RJ10, "linkLast", "(Ljava/lang/Object;)V"⟩
def dkwJ10_linkLast_2 : List UInt8 := [181, 0, 7, 42, 89, 180, 0, 33, 4, 96, 181, 0, 33, 177]
abbrev dktJ10_linkLast_2 : List UInt8 := dkwJ10_linkLast_2 ++ []
def dkwJ10_linkLast_1 : List UInt8 := [199, 0, 11, 42, 45, 181, 0, 18, 167, 0, 8, 44, 45, 181, 0, 36, 42, 89, 180, 0, 7, 4, 96]
abbrev dktJ10_linkLast_1 : List UInt8 := dkwJ10_linkLast_1 ++ dktJ10_linkLast_2
def dkwJ10_linkLast_0 : List UInt8 := [42, 180, 0, 27, 77, 187, 0, 22, 89, 44, 43, 1, 183, 0, 24, 78, 42, 45, 181, 0, 27, 44]
abbrev dktJ10_linkLast_0 : List UInt8 := dkwJ10_linkLast_0 ++ dktJ10_linkLast_1
theorem dksJ10_linkLast_0 : cJ10_linkLast.data.toList.drop 0 = dktJ10_linkLast_0 := by decide +kernel
theorem dksJ10_linkLast_1 : cJ10_linkLast.data.toList.drop 22 = dktJ10_linkLast_1 := dk_seg dksJ10_linkLast_0 22 rfl rfl
theorem dksJ10_linkLast_2 : cJ10_linkLast.data.toList.drop 45 = dktJ10_linkLast_2 := dk_seg dksJ10_linkLast_1 23 rfl rfl
theorem dJ10_linkLast_0 : decode cJ10_linkLast 0 = .ok (.aload_n 0, 1) := dk_42 (dk_at dksJ10_linkLast_0 0 rfl rfl)
theorem dJ10_linkLast_1 : decode cJ10_linkLast 1 = .ok (.getfield 27, 3) := dk_180 0 27 (dk_at dksJ10_linkLast_0 1 rfl rfl)
theorem dJ10_linkLast_4 : decode cJ10_linkLast 4 = .ok (.astore_n 2, 1) := dk_77 (dk_at dksJ10_linkLast_0 4 rfl rfl)
theorem dJ10_linkLast_5 : decode cJ10_linkLast 5 = .ok (.new 22, 3) := dk_187 0 22 (dk_at dksJ10_linkLast_0 5 rfl rfl)
theorem dJ10_linkLast_8 : decode cJ10_linkLast 8 = .ok (.dup, 1) := dk_89 (dk_at dksJ10_linkLast_0 8 rfl rfl)
theorem dJ10_linkLast_9 : decode cJ10_linkLast 9 = .ok (.aload_n 2, 1) := dk_44 (dk_at dksJ10_linkLast_0 9 rfl rfl)
theorem dJ10_linkLast_10 : decode cJ10_linkLast 10 = .ok (.aload_n 1, 1) := dk_43 (dk_at dksJ10_linkLast_0 10 rfl rfl)
theorem dJ10_linkLast_11 : decode cJ10_linkLast 11 = .ok (.aconst_null, 1) := dk_1 (dk_at dksJ10_linkLast_0 11 rfl rfl)
theorem dJ10_linkLast_12 : decode cJ10_linkLast 12 = .ok (.invokespecial 24, 3) := dk_183 0 24 (dk_at dksJ10_linkLast_0 12 rfl rfl)
theorem dJ10_linkLast_15 : decode cJ10_linkLast 15 = .ok (.astore_n 3, 1) := dk_78 (dk_at dksJ10_linkLast_0 15 rfl rfl)
theorem dJ10_linkLast_16 : decode cJ10_linkLast 16 = .ok (.aload_n 0, 1) := dk_42 (dk_at dksJ10_linkLast_0 16 rfl rfl)
theorem dJ10_linkLast_17 : decode cJ10_linkLast 17 = .ok (.aload_n 3, 1) := dk_45 (dk_at dksJ10_linkLast_0 17 rfl rfl)
theorem dJ10_linkLast_18 : decode cJ10_linkLast 18 = .ok (.putfield 27, 3) := dk_181 0 27 (dk_at dksJ10_linkLast_0 18 rfl rfl)
theorem dJ10_linkLast_21 : decode cJ10_linkLast 21 = .ok (.aload_n 2, 1) := dk_44 (dk_at dksJ10_linkLast_0 21 rfl rfl)
theorem dJ10_linkLast_22 : decode cJ10_linkLast 22 = .ok (.ifnonnull 11, 3) := dk_199 0 11 (dk_at dksJ10_linkLast_1 0 rfl rfl)
theorem dJ10_linkLast_25 : decode cJ10_linkLast 25 = .ok (.aload_n 0, 1) := dk_42 (dk_at dksJ10_linkLast_1 3 rfl rfl)
theorem dJ10_linkLast_26 : decode cJ10_linkLast 26 = .ok (.aload_n 3, 1) := dk_45 (dk_at dksJ10_linkLast_1 4 rfl rfl)
theorem dJ10_linkLast_27 : decode cJ10_linkLast 27 = .ok (.putfield 18, 3) := dk_181 0 18 (dk_at dksJ10_linkLast_1 5 rfl rfl)
theorem dJ10_linkLast_30 : decode cJ10_linkLast 30 = .ok (.goto 8, 3) := dk_167 0 8 (dk_at dksJ10_linkLast_1 8 rfl rfl)
theorem dJ10_linkLast_33 : decode cJ10_linkLast 33 = .ok (.aload_n 2, 1) := dk_44 (dk_at dksJ10_linkLast_1 11 rfl rfl)
theorem dJ10_linkLast_34 : decode cJ10_linkLast 34 = .ok (.aload_n 3, 1) := dk_45 (dk_at dksJ10_linkLast_1 12 rfl rfl)
theorem dJ10_linkLast_35 : decode cJ10_linkLast 35 = .ok (.putfield 36, 3) := dk_181 0 36 (dk_at dksJ10_linkLast_1 13 rfl rfl)
theorem dJ10_linkLast_38 : decode cJ10_linkLast 38 = .ok (.aload_n 0, 1) := dk_42 (dk_at dksJ10_linkLast_1 16 rfl rfl)
theorem dJ10_linkLast_39 : decode cJ10_linkLast 39 = .ok (.dup, 1) := dk_89 (dk_at dksJ10_linkLast_1 17 rfl rfl)
theorem dJ10_linkLast_40 : decode cJ10_linkLast 40 = .ok (.getfield 7, 3) := dk_180 0 7 (dk_at dksJ10_linkLast_1 18 rfl rfl)
theorem dJ10_linkLast_43 : decode cJ10_linkLast 43 = .ok (.iconst 1, 1) := dk_4 (dk_at dksJ10_linkLast_1 21 rfl rfl)
theorem dJ10_linkLast_44 : decode cJ10_linkLast 44 = .ok (.iadd, 1) := dk_96 (dk_at dksJ10_linkLast_1 22 rfl rfl)
theorem dJ10_linkLast_45 : decode cJ10_linkLast 45 = .ok (.putfield 7, 3) := dk_181 0 7 (dk_at dksJ10_linkLast_2 0 rfl rfl)
theorem dJ10_linkLast_48 : decode cJ10_linkLast 48 = .ok (.aload_n 0, 1) := dk_42 (dk_at dksJ10_linkLast_2 3 rfl rfl)
theorem dJ10_linkLast_49 : decode cJ10_linkLast 49 = .ok (.dup, 1) := dk_89 (dk_at dksJ10_linkLast_2 4 rfl rfl)
theorem dJ10_linkLast_50 : decode cJ10_linkLast 50 = .ok (.getfield 33, 3) := dk_180 0 33 (dk_at dksJ10_linkLast_2 5 rfl rfl)
theorem dJ10_linkLast_53 : decode cJ10_linkLast 53 = .ok (.iconst 1, 1) := dk_4 (dk_at dksJ10_linkLast_2 8 rfl rfl)
theorem dJ10_linkLast_54 : decode cJ10_linkLast 54 = .ok (.iadd, 1) := dk_96 (dk_at dksJ10_linkLast_2 9 rfl rfl)
theorem dJ10_linkLast_55 : decode cJ10_linkLast 55 = .ok (.putfield 33, 3) := dk_181 0 33 (dk_at dksJ10_linkLast_2 10 rfl rfl)
theorem dJ10_linkLast_58 : decode cJ10_linkLast 58 = .ok (.return_, 1) := dk_177 (dk_at dksJ10_linkLast_2 13 rfl rfl)
abbrev cJ10_removeFirst : ByteArray := prog_77_method_11_code
def yJ10_removeFirst : MethodName := ⟨RJ10, "removeFirst", "()Ljava/lang/Object;"⟩
def dkwJ10_removeFirst_0 : List UInt8 := [42, 180, 0, 18, 76, 43, 199, 0, 11, 187, 0, 43, 89, 183, 0, 45, 191, 42, 43, 182, 0, 46, 176]
abbrev dktJ10_removeFirst_0 : List UInt8 := dkwJ10_removeFirst_0 ++ []
theorem dksJ10_removeFirst_0 : cJ10_removeFirst.data.toList.drop 0 = dktJ10_removeFirst_0 := by decide +kernel
theorem dJ10_removeFirst_0 : decode cJ10_removeFirst 0 = .ok (.aload_n 0, 1) := dk_42 (dk_at dksJ10_removeFirst_0 0 rfl rfl)
theorem dJ10_removeFirst_1 : decode cJ10_removeFirst 1 = .ok (.getfield 18, 3) := dk_180 0 18 (dk_at dksJ10_removeFirst_0 1 rfl rfl)
theorem dJ10_removeFirst_4 : decode cJ10_removeFirst 4 = .ok (.astore_n 1, 1) := dk_76 (dk_at dksJ10_removeFirst_0 4 rfl rfl)
theorem dJ10_removeFirst_5 : decode cJ10_removeFirst 5 = .ok (.aload_n 1, 1) := dk_43 (dk_at dksJ10_removeFirst_0 5 rfl rfl)
theorem dJ10_removeFirst_6 : decode cJ10_removeFirst 6 = .ok (.ifnonnull 11, 3) := dk_199 0 11 (dk_at dksJ10_removeFirst_0 6 rfl rfl)
theorem dJ10_removeFirst_9 : decode cJ10_removeFirst 9 = .ok (.new 43, 3) := dk_187 0 43 (dk_at dksJ10_removeFirst_0 9 rfl rfl)
theorem dJ10_removeFirst_12 : decode cJ10_removeFirst 12 = .ok (.dup, 1) := dk_89 (dk_at dksJ10_removeFirst_0 12 rfl rfl)
theorem dJ10_removeFirst_13 : decode cJ10_removeFirst 13 = .ok (.invokespecial 45, 3) := dk_183 0 45 (dk_at dksJ10_removeFirst_0 13 rfl rfl)
theorem dJ10_removeFirst_16 : decode cJ10_removeFirst 16 = .ok (.athrow, 1) := dk_191 (dk_at dksJ10_removeFirst_0 16 rfl rfl)
theorem dJ10_removeFirst_17 : decode cJ10_removeFirst 17 = .ok (.aload_n 0, 1) := dk_42 (dk_at dksJ10_removeFirst_0 17 rfl rfl)
theorem dJ10_removeFirst_18 : decode cJ10_removeFirst 18 = .ok (.aload_n 1, 1) := dk_43 (dk_at dksJ10_removeFirst_0 18 rfl rfl)
theorem dJ10_removeFirst_19 : decode cJ10_removeFirst 19 = .ok (.invokevirtual 46, 3) := dk_182 0 46 (dk_at dksJ10_removeFirst_0 19 rfl rfl)
theorem dJ10_removeFirst_22 : decode cJ10_removeFirst 22 = .ok (.areturn, 1) := dk_176 (dk_at dksJ10_removeFirst_0 22 rfl rfl)
abbrev cJ10_unlinkFirst : ByteArray := prog_77_method_6_code
def yJ10_unlinkFirst : MethodName := ⟨RJ10, "unlinkFirst", "(Ljava/util/LinkedList$Node;)Ljava/lang/Object;"⟩
def dkwJ10_unlinkFirst_2 : List UInt8 := [180, 0, 7, 4, 100, 181, 0, 7, 42, 89, 180, 0, 33, 4, 96, 181, 0, 33, 44, 176]
abbrev dktJ10_unlinkFirst_2 : List UInt8 := dkwJ10_unlinkFirst_2 ++ []
def dkwJ10_unlinkFirst_1 : List UInt8 := [181, 0, 18, 45, 199, 0, 11, 42, 1, 181, 0, 27, 167, 0, 8, 45, 1, 181, 0, 30, 42, 89]
abbrev dktJ10_unlinkFirst_1 : List UInt8 := dkwJ10_unlinkFirst_1 ++ dktJ10_unlinkFirst_2
def dkwJ10_unlinkFirst_0 : List UInt8 := [43, 180, 0, 39, 77, 43, 180, 0, 36, 78, 43, 1, 181, 0, 39, 43, 1, 181, 0, 36, 42, 45]
abbrev dktJ10_unlinkFirst_0 : List UInt8 := dkwJ10_unlinkFirst_0 ++ dktJ10_unlinkFirst_1
theorem dksJ10_unlinkFirst_0 : cJ10_unlinkFirst.data.toList.drop 0 = dktJ10_unlinkFirst_0 := by decide +kernel
theorem dksJ10_unlinkFirst_1 : cJ10_unlinkFirst.data.toList.drop 22 = dktJ10_unlinkFirst_1 := dk_seg dksJ10_unlinkFirst_0 22 rfl rfl
theorem dksJ10_unlinkFirst_2 : cJ10_unlinkFirst.data.toList.drop 44 = dktJ10_unlinkFirst_2 := dk_seg dksJ10_unlinkFirst_1 22 rfl rfl
theorem dJ10_unlinkFirst_0 : decode cJ10_unlinkFirst 0 = .ok (.aload_n 1, 1) := dk_43 (dk_at dksJ10_unlinkFirst_0 0 rfl rfl)
theorem dJ10_unlinkFirst_1 : decode cJ10_unlinkFirst 1 = .ok (.getfield 39, 3) := dk_180 0 39 (dk_at dksJ10_unlinkFirst_0 1 rfl rfl)
theorem dJ10_unlinkFirst_4 : decode cJ10_unlinkFirst 4 = .ok (.astore_n 2, 1) := dk_77 (dk_at dksJ10_unlinkFirst_0 4 rfl rfl)
theorem dJ10_unlinkFirst_5 : decode cJ10_unlinkFirst 5 = .ok (.aload_n 1, 1) := dk_43 (dk_at dksJ10_unlinkFirst_0 5 rfl rfl)
theorem dJ10_unlinkFirst_6 : decode cJ10_unlinkFirst 6 = .ok (.getfield 36, 3) := dk_180 0 36 (dk_at dksJ10_unlinkFirst_0 6 rfl rfl)
theorem dJ10_unlinkFirst_9 : decode cJ10_unlinkFirst 9 = .ok (.astore_n 3, 1) := dk_78 (dk_at dksJ10_unlinkFirst_0 9 rfl rfl)
theorem dJ10_unlinkFirst_10 : decode cJ10_unlinkFirst 10 = .ok (.aload_n 1, 1) := dk_43 (dk_at dksJ10_unlinkFirst_0 10 rfl rfl)
theorem dJ10_unlinkFirst_11 : decode cJ10_unlinkFirst 11 = .ok (.aconst_null, 1) := dk_1 (dk_at dksJ10_unlinkFirst_0 11 rfl rfl)
theorem dJ10_unlinkFirst_12 : decode cJ10_unlinkFirst 12 = .ok (.putfield 39, 3) := dk_181 0 39 (dk_at dksJ10_unlinkFirst_0 12 rfl rfl)
theorem dJ10_unlinkFirst_15 : decode cJ10_unlinkFirst 15 = .ok (.aload_n 1, 1) := dk_43 (dk_at dksJ10_unlinkFirst_0 15 rfl rfl)
theorem dJ10_unlinkFirst_16 : decode cJ10_unlinkFirst 16 = .ok (.aconst_null, 1) := dk_1 (dk_at dksJ10_unlinkFirst_0 16 rfl rfl)
theorem dJ10_unlinkFirst_17 : decode cJ10_unlinkFirst 17 = .ok (.putfield 36, 3) := dk_181 0 36 (dk_at dksJ10_unlinkFirst_0 17 rfl rfl)
theorem dJ10_unlinkFirst_20 : decode cJ10_unlinkFirst 20 = .ok (.aload_n 0, 1) := dk_42 (dk_at dksJ10_unlinkFirst_0 20 rfl rfl)
theorem dJ10_unlinkFirst_21 : decode cJ10_unlinkFirst 21 = .ok (.aload_n 3, 1) := dk_45 (dk_at dksJ10_unlinkFirst_0 21 rfl rfl)
theorem dJ10_unlinkFirst_22 : decode cJ10_unlinkFirst 22 = .ok (.putfield 18, 3) := dk_181 0 18 (dk_at dksJ10_unlinkFirst_1 0 rfl rfl)
theorem dJ10_unlinkFirst_25 : decode cJ10_unlinkFirst 25 = .ok (.aload_n 3, 1) := dk_45 (dk_at dksJ10_unlinkFirst_1 3 rfl rfl)
theorem dJ10_unlinkFirst_26 : decode cJ10_unlinkFirst 26 = .ok (.ifnonnull 11, 3) := dk_199 0 11 (dk_at dksJ10_unlinkFirst_1 4 rfl rfl)
theorem dJ10_unlinkFirst_29 : decode cJ10_unlinkFirst 29 = .ok (.aload_n 0, 1) := dk_42 (dk_at dksJ10_unlinkFirst_1 7 rfl rfl)
theorem dJ10_unlinkFirst_30 : decode cJ10_unlinkFirst 30 = .ok (.aconst_null, 1) := dk_1 (dk_at dksJ10_unlinkFirst_1 8 rfl rfl)
theorem dJ10_unlinkFirst_31 : decode cJ10_unlinkFirst 31 = .ok (.putfield 27, 3) := dk_181 0 27 (dk_at dksJ10_unlinkFirst_1 9 rfl rfl)
theorem dJ10_unlinkFirst_34 : decode cJ10_unlinkFirst 34 = .ok (.goto 8, 3) := dk_167 0 8 (dk_at dksJ10_unlinkFirst_1 12 rfl rfl)
theorem dJ10_unlinkFirst_37 : decode cJ10_unlinkFirst 37 = .ok (.aload_n 3, 1) := dk_45 (dk_at dksJ10_unlinkFirst_1 15 rfl rfl)
theorem dJ10_unlinkFirst_38 : decode cJ10_unlinkFirst 38 = .ok (.aconst_null, 1) := dk_1 (dk_at dksJ10_unlinkFirst_1 16 rfl rfl)
theorem dJ10_unlinkFirst_39 : decode cJ10_unlinkFirst 39 = .ok (.putfield 30, 3) := dk_181 0 30 (dk_at dksJ10_unlinkFirst_1 17 rfl rfl)
theorem dJ10_unlinkFirst_42 : decode cJ10_unlinkFirst 42 = .ok (.aload_n 0, 1) := dk_42 (dk_at dksJ10_unlinkFirst_1 20 rfl rfl)
theorem dJ10_unlinkFirst_43 : decode cJ10_unlinkFirst 43 = .ok (.dup, 1) := dk_89 (dk_at dksJ10_unlinkFirst_1 21 rfl rfl)
theorem dJ10_unlinkFirst_44 : decode cJ10_unlinkFirst 44 = .ok (.getfield 7, 3) := dk_180 0 7 (dk_at dksJ10_unlinkFirst_2 0 rfl rfl)
theorem dJ10_unlinkFirst_47 : decode cJ10_unlinkFirst 47 = .ok (.iconst 1, 1) := dk_4 (dk_at dksJ10_unlinkFirst_2 3 rfl rfl)
theorem dJ10_unlinkFirst_48 : decode cJ10_unlinkFirst 48 = .ok (.isub, 1) := dk_100 (dk_at dksJ10_unlinkFirst_2 4 rfl rfl)
theorem dJ10_unlinkFirst_49 : decode cJ10_unlinkFirst 49 = .ok (.putfield 7, 3) := dk_181 0 7 (dk_at dksJ10_unlinkFirst_2 5 rfl rfl)
theorem dJ10_unlinkFirst_52 : decode cJ10_unlinkFirst 52 = .ok (.aload_n 0, 1) := dk_42 (dk_at dksJ10_unlinkFirst_2 8 rfl rfl)
theorem dJ10_unlinkFirst_53 : decode cJ10_unlinkFirst 53 = .ok (.dup, 1) := dk_89 (dk_at dksJ10_unlinkFirst_2 9 rfl rfl)
theorem dJ10_unlinkFirst_54 : decode cJ10_unlinkFirst 54 = .ok (.getfield 33, 3) := dk_180 0 33 (dk_at dksJ10_unlinkFirst_2 10 rfl rfl)
theorem dJ10_unlinkFirst_57 : decode cJ10_unlinkFirst 57 = .ok (.iconst 1, 1) := dk_4 (dk_at dksJ10_unlinkFirst_2 13 rfl rfl)
theorem dJ10_unlinkFirst_58 : decode cJ10_unlinkFirst 58 = .ok (.iadd, 1) := dk_96 (dk_at dksJ10_unlinkFirst_2 14 rfl rfl)
theorem dJ10_unlinkFirst_59 : decode cJ10_unlinkFirst 59 = .ok (.putfield 33, 3) := dk_181 0 33 (dk_at dksJ10_unlinkFirst_2 15 rfl rfl)
theorem dJ10_unlinkFirst_62 : decode cJ10_unlinkFirst 62 = .ok (.aload_n 2, 1) := dk_44 (dk_at dksJ10_unlinkFirst_2 18 rfl rfl)
theorem dJ10_unlinkFirst_63 : decode cJ10_unlinkFirst 63 = .ok (.areturn, 1) := dk_176 (dk_at dksJ10_unlinkFirst_2 19 rfl rfl)
abbrev cJ10_remove : ByteArray := prog_77_method_25_code
def yJ10_remove : MethodName := ⟨RJ10, "remove", "(I)Ljava/lang/Object;"⟩
def dkwJ10_remove_0 : List UInt8 := [42, 27, 182, 0, 90, 42, 42, 27, 182, 0, 86, 182, 0, 64, 176]
abbrev dktJ10_remove_0 : List UInt8 := dkwJ10_remove_0 ++ []
theorem dksJ10_remove_0 : cJ10_remove.data.toList.drop 0 = dktJ10_remove_0 := by decide +kernel
theorem dJ10_remove_0 : decode cJ10_remove 0 = .ok (.aload_n 0, 1) := dk_42 (dk_at dksJ10_remove_0 0 rfl rfl)
theorem dJ10_remove_1 : decode cJ10_remove 1 = .ok (.iload_n 1, 1) := dk_27 (dk_at dksJ10_remove_0 1 rfl rfl)
theorem dJ10_remove_2 : decode cJ10_remove 2 = .ok (.invokevirtual 90, 3) := dk_182 0 90 (dk_at dksJ10_remove_0 2 rfl rfl)
theorem dJ10_remove_5 : decode cJ10_remove 5 = .ok (.aload_n 0, 1) := dk_42 (dk_at dksJ10_remove_0 5 rfl rfl)
theorem dJ10_remove_6 : decode cJ10_remove 6 = .ok (.aload_n 0, 1) := dk_42 (dk_at dksJ10_remove_0 6 rfl rfl)
theorem dJ10_remove_7 : decode cJ10_remove 7 = .ok (.iload_n 1, 1) := dk_27 (dk_at dksJ10_remove_0 7 rfl rfl)
theorem dJ10_remove_8 : decode cJ10_remove 8 = .ok (.invokevirtual 86, 3) := dk_182 0 86 (dk_at dksJ10_remove_0 8 rfl rfl)
theorem dJ10_remove_11 : decode cJ10_remove 11 = .ok (.invokevirtual 64, 3) := dk_182 0 64 (dk_at dksJ10_remove_0 11 rfl rfl)
theorem dJ10_remove_14 : decode cJ10_remove 14 = .ok (.areturn, 1) := dk_176 (dk_at dksJ10_remove_0 14 rfl rfl)
abbrev cJ10_unlink : ByteArray := prog_77_method_8_code
def yJ10_unlink : MethodName := ⟨RJ10, "unlink", "(Ljava/util/LinkedList$Node;)Ljava/lang/Object;"⟩
def dkwJ10_unlink_3 : List UInt8 := [180, 0, 7, 4, 100, 181, 0, 7, 42, 89, 180, 0, 33, 4, 96, 181, 0, 33, 44, 176]
abbrev dktJ10_unlink_3 : List UInt8 := dkwJ10_unlink_3 ++ []
def dkwJ10_unlink_2 : List UInt8 := [181, 0, 27, 167, 0, 14, 45, 25, 4, 181, 0, 30, 43, 1, 181, 0, 36, 43, 1, 181, 0, 39, 42, 89]
abbrev dktJ10_unlink_2 : List UInt8 := dkwJ10_unlink_2 ++ dktJ10_unlink_3
def dkwJ10_unlink_1 : List UInt8 := [181, 0, 18, 167, 0, 14, 25, 4, 45, 181, 0, 36, 43, 1, 181, 0, 30, 45, 199, 0, 12, 42, 25, 4]
abbrev dktJ10_unlink_1 : List UInt8 := dkwJ10_unlink_1 ++ dktJ10_unlink_2
def dkwJ10_unlink_0 : List UInt8 := [43, 180, 0, 39, 77, 43, 180, 0, 36, 78, 43, 180, 0, 30, 58, 4, 25, 4, 199, 0, 11, 42, 45]
abbrev dktJ10_unlink_0 : List UInt8 := dkwJ10_unlink_0 ++ dktJ10_unlink_1
theorem dksJ10_unlink_0 : cJ10_unlink.data.toList.drop 0 = dktJ10_unlink_0 := by decide +kernel
theorem dksJ10_unlink_1 : cJ10_unlink.data.toList.drop 23 = dktJ10_unlink_1 := dk_seg dksJ10_unlink_0 23 rfl rfl
theorem dksJ10_unlink_2 : cJ10_unlink.data.toList.drop 47 = dktJ10_unlink_2 := dk_seg dksJ10_unlink_1 24 rfl rfl
theorem dksJ10_unlink_3 : cJ10_unlink.data.toList.drop 71 = dktJ10_unlink_3 := dk_seg dksJ10_unlink_2 24 rfl rfl
theorem dJ10_unlink_0 : decode cJ10_unlink 0 = .ok (.aload_n 1, 1) := dk_43 (dk_at dksJ10_unlink_0 0 rfl rfl)
theorem dJ10_unlink_1 : decode cJ10_unlink 1 = .ok (.getfield 39, 3) := dk_180 0 39 (dk_at dksJ10_unlink_0 1 rfl rfl)
theorem dJ10_unlink_4 : decode cJ10_unlink 4 = .ok (.astore_n 2, 1) := dk_77 (dk_at dksJ10_unlink_0 4 rfl rfl)
theorem dJ10_unlink_5 : decode cJ10_unlink 5 = .ok (.aload_n 1, 1) := dk_43 (dk_at dksJ10_unlink_0 5 rfl rfl)
theorem dJ10_unlink_6 : decode cJ10_unlink 6 = .ok (.getfield 36, 3) := dk_180 0 36 (dk_at dksJ10_unlink_0 6 rfl rfl)
theorem dJ10_unlink_9 : decode cJ10_unlink 9 = .ok (.astore_n 3, 1) := dk_78 (dk_at dksJ10_unlink_0 9 rfl rfl)
theorem dJ10_unlink_10 : decode cJ10_unlink 10 = .ok (.aload_n 1, 1) := dk_43 (dk_at dksJ10_unlink_0 10 rfl rfl)
theorem dJ10_unlink_11 : decode cJ10_unlink 11 = .ok (.getfield 30, 3) := dk_180 0 30 (dk_at dksJ10_unlink_0 11 rfl rfl)
theorem dJ10_unlink_14 : decode cJ10_unlink 14 = .ok (.astore 4, 2) := dk_58 4 (dk_at dksJ10_unlink_0 14 rfl rfl)
theorem dJ10_unlink_16 : decode cJ10_unlink 16 = .ok (.aload 4, 2) := dk_25 4 (dk_at dksJ10_unlink_0 16 rfl rfl)
theorem dJ10_unlink_18 : decode cJ10_unlink 18 = .ok (.ifnonnull 11, 3) := dk_199 0 11 (dk_at dksJ10_unlink_0 18 rfl rfl)
theorem dJ10_unlink_21 : decode cJ10_unlink 21 = .ok (.aload_n 0, 1) := dk_42 (dk_at dksJ10_unlink_0 21 rfl rfl)
theorem dJ10_unlink_22 : decode cJ10_unlink 22 = .ok (.aload_n 3, 1) := dk_45 (dk_at dksJ10_unlink_0 22 rfl rfl)
theorem dJ10_unlink_23 : decode cJ10_unlink 23 = .ok (.putfield 18, 3) := dk_181 0 18 (dk_at dksJ10_unlink_1 0 rfl rfl)
theorem dJ10_unlink_26 : decode cJ10_unlink 26 = .ok (.goto 14, 3) := dk_167 0 14 (dk_at dksJ10_unlink_1 3 rfl rfl)
theorem dJ10_unlink_29 : decode cJ10_unlink 29 = .ok (.aload 4, 2) := dk_25 4 (dk_at dksJ10_unlink_1 6 rfl rfl)
theorem dJ10_unlink_31 : decode cJ10_unlink 31 = .ok (.aload_n 3, 1) := dk_45 (dk_at dksJ10_unlink_1 8 rfl rfl)
theorem dJ10_unlink_32 : decode cJ10_unlink 32 = .ok (.putfield 36, 3) := dk_181 0 36 (dk_at dksJ10_unlink_1 9 rfl rfl)
theorem dJ10_unlink_35 : decode cJ10_unlink 35 = .ok (.aload_n 1, 1) := dk_43 (dk_at dksJ10_unlink_1 12 rfl rfl)
theorem dJ10_unlink_36 : decode cJ10_unlink 36 = .ok (.aconst_null, 1) := dk_1 (dk_at dksJ10_unlink_1 13 rfl rfl)
theorem dJ10_unlink_37 : decode cJ10_unlink 37 = .ok (.putfield 30, 3) := dk_181 0 30 (dk_at dksJ10_unlink_1 14 rfl rfl)
theorem dJ10_unlink_40 : decode cJ10_unlink 40 = .ok (.aload_n 3, 1) := dk_45 (dk_at dksJ10_unlink_1 17 rfl rfl)
theorem dJ10_unlink_41 : decode cJ10_unlink 41 = .ok (.ifnonnull 12, 3) := dk_199 0 12 (dk_at dksJ10_unlink_1 18 rfl rfl)
theorem dJ10_unlink_44 : decode cJ10_unlink 44 = .ok (.aload_n 0, 1) := dk_42 (dk_at dksJ10_unlink_1 21 rfl rfl)
theorem dJ10_unlink_45 : decode cJ10_unlink 45 = .ok (.aload 4, 2) := dk_25 4 (dk_at dksJ10_unlink_1 22 rfl rfl)
theorem dJ10_unlink_47 : decode cJ10_unlink 47 = .ok (.putfield 27, 3) := dk_181 0 27 (dk_at dksJ10_unlink_2 0 rfl rfl)
theorem dJ10_unlink_50 : decode cJ10_unlink 50 = .ok (.goto 14, 3) := dk_167 0 14 (dk_at dksJ10_unlink_2 3 rfl rfl)
theorem dJ10_unlink_53 : decode cJ10_unlink 53 = .ok (.aload_n 3, 1) := dk_45 (dk_at dksJ10_unlink_2 6 rfl rfl)
theorem dJ10_unlink_54 : decode cJ10_unlink 54 = .ok (.aload 4, 2) := dk_25 4 (dk_at dksJ10_unlink_2 7 rfl rfl)
theorem dJ10_unlink_56 : decode cJ10_unlink 56 = .ok (.putfield 30, 3) := dk_181 0 30 (dk_at dksJ10_unlink_2 9 rfl rfl)
theorem dJ10_unlink_59 : decode cJ10_unlink 59 = .ok (.aload_n 1, 1) := dk_43 (dk_at dksJ10_unlink_2 12 rfl rfl)
theorem dJ10_unlink_60 : decode cJ10_unlink 60 = .ok (.aconst_null, 1) := dk_1 (dk_at dksJ10_unlink_2 13 rfl rfl)
theorem dJ10_unlink_61 : decode cJ10_unlink 61 = .ok (.putfield 36, 3) := dk_181 0 36 (dk_at dksJ10_unlink_2 14 rfl rfl)
theorem dJ10_unlink_64 : decode cJ10_unlink 64 = .ok (.aload_n 1, 1) := dk_43 (dk_at dksJ10_unlink_2 17 rfl rfl)
theorem dJ10_unlink_65 : decode cJ10_unlink 65 = .ok (.aconst_null, 1) := dk_1 (dk_at dksJ10_unlink_2 18 rfl rfl)
theorem dJ10_unlink_66 : decode cJ10_unlink 66 = .ok (.putfield 39, 3) := dk_181 0 39 (dk_at dksJ10_unlink_2 19 rfl rfl)
theorem dJ10_unlink_69 : decode cJ10_unlink 69 = .ok (.aload_n 0, 1) := dk_42 (dk_at dksJ10_unlink_2 22 rfl rfl)
theorem dJ10_unlink_70 : decode cJ10_unlink 70 = .ok (.dup, 1) := dk_89 (dk_at dksJ10_unlink_2 23 rfl rfl)
theorem dJ10_unlink_71 : decode cJ10_unlink 71 = .ok (.getfield 7, 3) := dk_180 0 7 (dk_at dksJ10_unlink_3 0 rfl rfl)
theorem dJ10_unlink_74 : decode cJ10_unlink 74 = .ok (.iconst 1, 1) := dk_4 (dk_at dksJ10_unlink_3 3 rfl rfl)
theorem dJ10_unlink_75 : decode cJ10_unlink 75 = .ok (.isub, 1) := dk_100 (dk_at dksJ10_unlink_3 4 rfl rfl)
theorem dJ10_unlink_76 : decode cJ10_unlink 76 = .ok (.putfield 7, 3) := dk_181 0 7 (dk_at dksJ10_unlink_3 5 rfl rfl)
theorem dJ10_unlink_79 : decode cJ10_unlink 79 = .ok (.aload_n 0, 1) := dk_42 (dk_at dksJ10_unlink_3 8 rfl rfl)
theorem dJ10_unlink_80 : decode cJ10_unlink 80 = .ok (.dup, 1) := dk_89 (dk_at dksJ10_unlink_3 9 rfl rfl)
theorem dJ10_unlink_81 : decode cJ10_unlink 81 = .ok (.getfield 33, 3) := dk_180 0 33 (dk_at dksJ10_unlink_3 10 rfl rfl)
theorem dJ10_unlink_84 : decode cJ10_unlink 84 = .ok (.iconst 1, 1) := dk_4 (dk_at dksJ10_unlink_3 13 rfl rfl)
theorem dJ10_unlink_85 : decode cJ10_unlink 85 = .ok (.iadd, 1) := dk_96 (dk_at dksJ10_unlink_3 14 rfl rfl)
theorem dJ10_unlink_86 : decode cJ10_unlink 86 = .ok (.putfield 33, 3) := dk_181 0 33 (dk_at dksJ10_unlink_3 15 rfl rfl)
theorem dJ10_unlink_89 : decode cJ10_unlink 89 = .ok (.aload_n 2, 1) := dk_44 (dk_at dksJ10_unlink_3 18 rfl rfl)
theorem dJ10_unlink_90 : decode cJ10_unlink 90 = .ok (.areturn, 1) := dk_176 (dk_at dksJ10_unlink_3 19 rfl rfl)
abbrev cJ10_add : ByteArray := prog_77_method_24_code
def yJ10_add : MethodName := ⟨RJ10, "add", "(ILjava/lang/Object;)V"⟩
def dkwJ10_add_1 : List UInt8 := [27, 182, 0, 86, 182, 0, 93, 177]
abbrev dktJ10_add_1 : List UInt8 := dkwJ10_add_1 ++ []
def dkwJ10_add_0 : List UInt8 := [42, 27, 182, 0, 76, 27, 42, 180, 0, 7, 160, 0, 11, 42, 44, 182, 0, 57, 167, 0, 13, 42, 44, 42]
abbrev dktJ10_add_0 : List UInt8 := dkwJ10_add_0 ++ dktJ10_add_1
theorem dksJ10_add_0 : cJ10_add.data.toList.drop 0 = dktJ10_add_0 := by decide +kernel
theorem dksJ10_add_1 : cJ10_add.data.toList.drop 24 = dktJ10_add_1 := dk_seg dksJ10_add_0 24 rfl rfl
theorem dJ10_add_0 : decode cJ10_add 0 = .ok (.aload_n 0, 1) := dk_42 (dk_at dksJ10_add_0 0 rfl rfl)
theorem dJ10_add_1 : decode cJ10_add 1 = .ok (.iload_n 1, 1) := dk_27 (dk_at dksJ10_add_0 1 rfl rfl)
theorem dJ10_add_2 : decode cJ10_add 2 = .ok (.invokevirtual 76, 3) := dk_182 0 76 (dk_at dksJ10_add_0 2 rfl rfl)
theorem dJ10_add_5 : decode cJ10_add 5 = .ok (.iload_n 1, 1) := dk_27 (dk_at dksJ10_add_0 5 rfl rfl)
theorem dJ10_add_6 : decode cJ10_add 6 = .ok (.aload_n 0, 1) := dk_42 (dk_at dksJ10_add_0 6 rfl rfl)
theorem dJ10_add_7 : decode cJ10_add 7 = .ok (.getfield 7, 3) := dk_180 0 7 (dk_at dksJ10_add_0 7 rfl rfl)
theorem dJ10_add_10 : decode cJ10_add 10 = .ok (.if_icmp .ne 11, 3) := dk_160 0 11 (dk_at dksJ10_add_0 10 rfl rfl)
theorem dJ10_add_13 : decode cJ10_add 13 = .ok (.aload_n 0, 1) := dk_42 (dk_at dksJ10_add_0 13 rfl rfl)
theorem dJ10_add_14 : decode cJ10_add 14 = .ok (.aload_n 2, 1) := dk_44 (dk_at dksJ10_add_0 14 rfl rfl)
theorem dJ10_add_15 : decode cJ10_add 15 = .ok (.invokevirtual 57, 3) := dk_182 0 57 (dk_at dksJ10_add_0 15 rfl rfl)
theorem dJ10_add_18 : decode cJ10_add 18 = .ok (.goto 13, 3) := dk_167 0 13 (dk_at dksJ10_add_0 18 rfl rfl)
theorem dJ10_add_21 : decode cJ10_add 21 = .ok (.aload_n 0, 1) := dk_42 (dk_at dksJ10_add_0 21 rfl rfl)
theorem dJ10_add_22 : decode cJ10_add 22 = .ok (.aload_n 2, 1) := dk_44 (dk_at dksJ10_add_0 22 rfl rfl)
theorem dJ10_add_23 : decode cJ10_add 23 = .ok (.aload_n 0, 1) := dk_42 (dk_at dksJ10_add_0 23 rfl rfl)
theorem dJ10_add_24 : decode cJ10_add 24 = .ok (.iload_n 1, 1) := dk_27 (dk_at dksJ10_add_1 0 rfl rfl)
theorem dJ10_add_25 : decode cJ10_add 25 = .ok (.invokevirtual 86, 3) := dk_182 0 86 (dk_at dksJ10_add_1 1 rfl rfl)
theorem dJ10_add_28 : decode cJ10_add 28 = .ok (.invokevirtual 93, 3) := dk_182 0 93 (dk_at dksJ10_add_1 4 rfl rfl)
theorem dJ10_add_31 : decode cJ10_add 31 = .ok (.return_, 1) := dk_177 (dk_at dksJ10_add_1 7 rfl rfl)
abbrev cJ10_linkBefore : ByteArray := prog_77_method_5_code
def yJ10_linkBefore : MethodName := ⟨RJ10, "linkBefore", "(Ljava/lang/Object;Ljava/util/LinkedList$Node;)V"⟩
def dkwJ10_linkBefore_2 : List UInt8 := [96, 181, 0, 7, 42, 89, 180, 0, 33, 4, 96, 181, 0, 33, 177]
abbrev dktJ10_linkBefore_2 : List UInt8 := dkwJ10_linkBefore_2 ++ []
def dkwJ10_linkBefore_1 : List UInt8 := [199, 0, 12, 42, 25, 4, 181, 0, 18, 167, 0, 9, 45, 25, 4, 181, 0, 36, 42, 89, 180, 0, 7, 4]
abbrev dktJ10_linkBefore_1 : List UInt8 := dkwJ10_linkBefore_1 ++ dktJ10_linkBefore_2
def dkwJ10_linkBefore_0 : List UInt8 := [44, 180, 0, 30, 78, 187, 0, 22, 89, 45, 43, 44, 183, 0, 24, 58, 4, 44, 25, 4, 181, 0, 30, 45]
abbrev dktJ10_linkBefore_0 : List UInt8 := dkwJ10_linkBefore_0 ++ dktJ10_linkBefore_1
theorem dksJ10_linkBefore_0 : cJ10_linkBefore.data.toList.drop 0 = dktJ10_linkBefore_0 := by decide +kernel
theorem dksJ10_linkBefore_1 : cJ10_linkBefore.data.toList.drop 24 = dktJ10_linkBefore_1 := dk_seg dksJ10_linkBefore_0 24 rfl rfl
theorem dksJ10_linkBefore_2 : cJ10_linkBefore.data.toList.drop 48 = dktJ10_linkBefore_2 := dk_seg dksJ10_linkBefore_1 24 rfl rfl
theorem dJ10_linkBefore_0 : decode cJ10_linkBefore 0 = .ok (.aload_n 2, 1) := dk_44 (dk_at dksJ10_linkBefore_0 0 rfl rfl)
theorem dJ10_linkBefore_1 : decode cJ10_linkBefore 1 = .ok (.getfield 30, 3) := dk_180 0 30 (dk_at dksJ10_linkBefore_0 1 rfl rfl)
theorem dJ10_linkBefore_4 : decode cJ10_linkBefore 4 = .ok (.astore_n 3, 1) := dk_78 (dk_at dksJ10_linkBefore_0 4 rfl rfl)
theorem dJ10_linkBefore_5 : decode cJ10_linkBefore 5 = .ok (.new 22, 3) := dk_187 0 22 (dk_at dksJ10_linkBefore_0 5 rfl rfl)
theorem dJ10_linkBefore_8 : decode cJ10_linkBefore 8 = .ok (.dup, 1) := dk_89 (dk_at dksJ10_linkBefore_0 8 rfl rfl)
theorem dJ10_linkBefore_9 : decode cJ10_linkBefore 9 = .ok (.aload_n 3, 1) := dk_45 (dk_at dksJ10_linkBefore_0 9 rfl rfl)
theorem dJ10_linkBefore_10 : decode cJ10_linkBefore 10 = .ok (.aload_n 1, 1) := dk_43 (dk_at dksJ10_linkBefore_0 10 rfl rfl)
theorem dJ10_linkBefore_11 : decode cJ10_linkBefore 11 = .ok (.aload_n 2, 1) := dk_44 (dk_at dksJ10_linkBefore_0 11 rfl rfl)
theorem dJ10_linkBefore_12 : decode cJ10_linkBefore 12 = .ok (.invokespecial 24, 3) := dk_183 0 24 (dk_at dksJ10_linkBefore_0 12 rfl rfl)
theorem dJ10_linkBefore_15 : decode cJ10_linkBefore 15 = .ok (.astore 4, 2) := dk_58 4 (dk_at dksJ10_linkBefore_0 15 rfl rfl)
theorem dJ10_linkBefore_17 : decode cJ10_linkBefore 17 = .ok (.aload_n 2, 1) := dk_44 (dk_at dksJ10_linkBefore_0 17 rfl rfl)
theorem dJ10_linkBefore_18 : decode cJ10_linkBefore 18 = .ok (.aload 4, 2) := dk_25 4 (dk_at dksJ10_linkBefore_0 18 rfl rfl)
theorem dJ10_linkBefore_20 : decode cJ10_linkBefore 20 = .ok (.putfield 30, 3) := dk_181 0 30 (dk_at dksJ10_linkBefore_0 20 rfl rfl)
theorem dJ10_linkBefore_23 : decode cJ10_linkBefore 23 = .ok (.aload_n 3, 1) := dk_45 (dk_at dksJ10_linkBefore_0 23 rfl rfl)
theorem dJ10_linkBefore_24 : decode cJ10_linkBefore 24 = .ok (.ifnonnull 12, 3) := dk_199 0 12 (dk_at dksJ10_linkBefore_1 0 rfl rfl)
theorem dJ10_linkBefore_27 : decode cJ10_linkBefore 27 = .ok (.aload_n 0, 1) := dk_42 (dk_at dksJ10_linkBefore_1 3 rfl rfl)
theorem dJ10_linkBefore_28 : decode cJ10_linkBefore 28 = .ok (.aload 4, 2) := dk_25 4 (dk_at dksJ10_linkBefore_1 4 rfl rfl)
theorem dJ10_linkBefore_30 : decode cJ10_linkBefore 30 = .ok (.putfield 18, 3) := dk_181 0 18 (dk_at dksJ10_linkBefore_1 6 rfl rfl)
theorem dJ10_linkBefore_33 : decode cJ10_linkBefore 33 = .ok (.goto 9, 3) := dk_167 0 9 (dk_at dksJ10_linkBefore_1 9 rfl rfl)
theorem dJ10_linkBefore_36 : decode cJ10_linkBefore 36 = .ok (.aload_n 3, 1) := dk_45 (dk_at dksJ10_linkBefore_1 12 rfl rfl)
theorem dJ10_linkBefore_37 : decode cJ10_linkBefore 37 = .ok (.aload 4, 2) := dk_25 4 (dk_at dksJ10_linkBefore_1 13 rfl rfl)
theorem dJ10_linkBefore_39 : decode cJ10_linkBefore 39 = .ok (.putfield 36, 3) := dk_181 0 36 (dk_at dksJ10_linkBefore_1 15 rfl rfl)
theorem dJ10_linkBefore_42 : decode cJ10_linkBefore 42 = .ok (.aload_n 0, 1) := dk_42 (dk_at dksJ10_linkBefore_1 18 rfl rfl)
theorem dJ10_linkBefore_43 : decode cJ10_linkBefore 43 = .ok (.dup, 1) := dk_89 (dk_at dksJ10_linkBefore_1 19 rfl rfl)
theorem dJ10_linkBefore_44 : decode cJ10_linkBefore 44 = .ok (.getfield 7, 3) := dk_180 0 7 (dk_at dksJ10_linkBefore_1 20 rfl rfl)
theorem dJ10_linkBefore_47 : decode cJ10_linkBefore 47 = .ok (.iconst 1, 1) := dk_4 (dk_at dksJ10_linkBefore_1 23 rfl rfl)
theorem dJ10_linkBefore_48 : decode cJ10_linkBefore 48 = .ok (.iadd, 1) := dk_96 (dk_at dksJ10_linkBefore_2 0 rfl rfl)
theorem dJ10_linkBefore_49 : decode cJ10_linkBefore 49 = .ok (.putfield 7, 3) := dk_181 0 7 (dk_at dksJ10_linkBefore_2 1 rfl rfl)
theorem dJ10_linkBefore_52 : decode cJ10_linkBefore 52 = .ok (.aload_n 0, 1) := dk_42 (dk_at dksJ10_linkBefore_2 4 rfl rfl)
theorem dJ10_linkBefore_53 : decode cJ10_linkBefore 53 = .ok (.dup, 1) := dk_89 (dk_at dksJ10_linkBefore_2 5 rfl rfl)
theorem dJ10_linkBefore_54 : decode cJ10_linkBefore 54 = .ok (.getfield 33, 3) := dk_180 0 33 (dk_at dksJ10_linkBefore_2 6 rfl rfl)
theorem dJ10_linkBefore_57 : decode cJ10_linkBefore 57 = .ok (.iconst 1, 1) := dk_4 (dk_at dksJ10_linkBefore_2 9 rfl rfl)
theorem dJ10_linkBefore_58 : decode cJ10_linkBefore 58 = .ok (.iadd, 1) := dk_96 (dk_at dksJ10_linkBefore_2 10 rfl rfl)
theorem dJ10_linkBefore_59 : decode cJ10_linkBefore 59 = .ok (.putfield 33, 3) := dk_181 0 33 (dk_at dksJ10_linkBefore_2 11 rfl rfl)
theorem dJ10_linkBefore_62 : decode cJ10_linkBefore 62 = .ok (.return_, 1) := dk_177 (dk_at dksJ10_linkBefore_2 14 rfl rfl)
abbrev cJ10_set : ByteArray := prog_77_method_23_code
def yJ10_set : MethodName := ⟨RJ10, "set", "(ILjava/lang/Object;)Ljava/lang/Object;"⟩
def dkwJ10_set_1 : List UInt8 := [176]
abbrev dktJ10_set_1 : List UInt8 := dkwJ10_set_1 ++ []
def dkwJ10_set_0 : List UInt8 := [42, 27, 182, 0, 90, 42, 27, 182, 0, 86, 78, 45, 180, 0, 39, 58, 4, 45, 44, 181, 0, 39, 25, 4]
abbrev dktJ10_set_0 : List UInt8 := dkwJ10_set_0 ++ dktJ10_set_1
theorem dksJ10_set_0 : cJ10_set.data.toList.drop 0 = dktJ10_set_0 := by decide +kernel
theorem dksJ10_set_1 : cJ10_set.data.toList.drop 24 = dktJ10_set_1 := dk_seg dksJ10_set_0 24 rfl rfl
theorem dJ10_set_0 : decode cJ10_set 0 = .ok (.aload_n 0, 1) := dk_42 (dk_at dksJ10_set_0 0 rfl rfl)
theorem dJ10_set_1 : decode cJ10_set 1 = .ok (.iload_n 1, 1) := dk_27 (dk_at dksJ10_set_0 1 rfl rfl)
theorem dJ10_set_2 : decode cJ10_set 2 = .ok (.invokevirtual 90, 3) := dk_182 0 90 (dk_at dksJ10_set_0 2 rfl rfl)
theorem dJ10_set_5 : decode cJ10_set 5 = .ok (.aload_n 0, 1) := dk_42 (dk_at dksJ10_set_0 5 rfl rfl)
theorem dJ10_set_6 : decode cJ10_set 6 = .ok (.iload_n 1, 1) := dk_27 (dk_at dksJ10_set_0 6 rfl rfl)
theorem dJ10_set_7 : decode cJ10_set 7 = .ok (.invokevirtual 86, 3) := dk_182 0 86 (dk_at dksJ10_set_0 7 rfl rfl)
theorem dJ10_set_10 : decode cJ10_set 10 = .ok (.astore_n 3, 1) := dk_78 (dk_at dksJ10_set_0 10 rfl rfl)
theorem dJ10_set_11 : decode cJ10_set 11 = .ok (.aload_n 3, 1) := dk_45 (dk_at dksJ10_set_0 11 rfl rfl)
theorem dJ10_set_12 : decode cJ10_set 12 = .ok (.getfield 39, 3) := dk_180 0 39 (dk_at dksJ10_set_0 12 rfl rfl)
theorem dJ10_set_15 : decode cJ10_set 15 = .ok (.astore 4, 2) := dk_58 4 (dk_at dksJ10_set_0 15 rfl rfl)
theorem dJ10_set_17 : decode cJ10_set 17 = .ok (.aload_n 3, 1) := dk_45 (dk_at dksJ10_set_0 17 rfl rfl)
theorem dJ10_set_18 : decode cJ10_set 18 = .ok (.aload_n 2, 1) := dk_44 (dk_at dksJ10_set_0 18 rfl rfl)
theorem dJ10_set_19 : decode cJ10_set 19 = .ok (.putfield 39, 3) := dk_181 0 39 (dk_at dksJ10_set_0 19 rfl rfl)
theorem dJ10_set_22 : decode cJ10_set 22 = .ok (.aload 4, 2) := dk_25 4 (dk_at dksJ10_set_0 22 rfl rfl)
theorem dJ10_set_24 : decode cJ10_set 24 = .ok (.areturn, 1) := dk_176 (dk_at dksJ10_set_1 0 rfl rfl)
theorem q116 : (Jvm.Cond.initialized "java/util/LinkedList") ∈ lw_all := lw_g (lw_at lw_m1 15 rfl) rfl
theorem q260 : (Jvm.Cond.sameField "java/util/LinkedList" "java/util/AbstractList" "modCount" "I") ∈ lw_all := lw_g (lw_at lw_m1 159 rfl) rfl
theorem q271 : (Jvm.Cond.fieldLink "java/util/LinkedList" (33 : Nat) "java/util/LinkedList" "modCount" "I") ∈ lw_all := lw_g (lw_at lw_m1 170 rfl) rfl
theorem q284 : (Jvm.Cond.instantiable "java/util/LinkedList" (4 : Nat)) ∈ lw_all := lw_g (lw_at lw_m1 183 rfl) rfl
theorem q286 : (Jvm.Cond.instanceMethod ({ cls := "java/util/LinkedList", name := "<init>", desc := "()V" } : Jvm.MethodName)) ∈ lw_all := lw_g (lw_at lw_m1 185 rfl) rfl
theorem q287 : (Jvm.Cond.code ({ cls := "java/util/LinkedList", name := "<init>", desc := "()V" } : Jvm.MethodName) prog_77_method_1_code (1 : Nat) (Option.none : Option Jvm.ClassFile.FieldType)) ∈ lw_all := lw_g (lw_at lw_m1 186 rfl) rfl
theorem q288 : (Jvm.Cond.methodLink "java/util/LinkedList" (1 : Nat) ({ cls := "java/util/AbstractSequentialList", name := "<init>", desc := "()V" } : Jvm.MethodName)) ∈ lw_all := lw_g (lw_at lw_m1 187 rfl) rfl
theorem q292 : (Jvm.Cond.fieldLink "java/util/LinkedList" (7 : Nat) "java/util/LinkedList" "size" "I") ∈ lw_all := lw_g (lw_at lw_m1 191 rfl) rfl
theorem q294 : (Jvm.Cond.fieldLink "java/util/LinkedList" (18 : Nat) "java/util/LinkedList" "first" "Ljava/util/LinkedList$Node;") ∈ lw_all := lw_g (lw_at lw_m1 193 rfl) rfl
theorem q295 : (Jvm.Cond.fieldLink "java/util/LinkedList" (27 : Nat) "java/util/LinkedList" "last" "Ljava/util/LinkedList$Node;") ∈ lw_all := lw_g (lw_at lw_m1 194 rfl) rfl
theorem q297 : (Jvm.Cond.lays "java/util/LinkedList" "java/util/LinkedList" "size" "I") ∈ lw_all := lw_g (lw_at lw_m1 196 rfl) rfl
theorem q298 : (Jvm.Cond.soleField "java/util/LinkedList" "size") ∈ lw_all := lw_g (lw_at lw_m1 197 rfl) rfl
theorem q299 : (Jvm.Cond.lays "java/util/LinkedList" "java/util/LinkedList" "first" "Ljava/util/LinkedList$Node;") ∈ lw_all := lw_g (lw_at lw_m1 198 rfl) rfl
theorem q300 : (Jvm.Cond.soleField "java/util/LinkedList" "first") ∈ lw_all := lw_g (lw_at lw_m1 199 rfl) rfl
theorem q301 : (Jvm.Cond.lays "java/util/LinkedList" "java/util/LinkedList" "last" "Ljava/util/LinkedList$Node;") ∈ lw_all := lw_g (lw_at lw_m1 200 rfl) rfl
theorem q302 : (Jvm.Cond.soleField "java/util/LinkedList" "last") ∈ lw_all := lw_g (lw_at lw_m1 201 rfl) rfl
theorem q303 : (Jvm.Cond.lays "java/util/LinkedList" "java/util/AbstractList" "modCount" "I") ∈ lw_all := lw_g (lw_at lw_m1 202 rfl) rfl
theorem q304 : (Jvm.Cond.superclass "java/util/LinkedList" "java/util/AbstractSequentialList") ∈ lw_all := lw_g (lw_at lw_m1 203 rfl) rfl
theorem q427 : (Jvm.Cond.selects "java/util/LinkedList" ({ cls := "java/lang/Object", name := "getClass", desc := "()Ljava/lang/Class;" } : Jvm.MethodName) ({ cls := "java/lang/Object", name := "getClass", desc := "()Ljava/lang/Class;" } : Jvm.MethodName)) ∈ lw_all := lw_g (lw_at lw_m2 86 rfl) rfl
theorem q588 : (Jvm.Cond.instanceMethod ({ cls := "java/util/LinkedList", name := "size", desc := "()I" } : Jvm.MethodName)) ∈ lw_all := lw_g (lw_at lw_m3 7 rfl) rfl
theorem q589 : (Jvm.Cond.selects "java/util/LinkedList" ({ cls := "java/util/LinkedList", name := "size", desc := "()I" } : Jvm.MethodName) ({ cls := "java/util/LinkedList", name := "size", desc := "()I" } : Jvm.MethodName)) ∈ lw_all := lw_g (lw_at lw_m3 8 rfl) rfl
theorem q590 : (Jvm.Cond.code ({ cls := "java/util/LinkedList", name := "size", desc := "()I" } : Jvm.MethodName) prog_77_method_16_code (1 : Nat) (Option.some Jvm.ClassFile.FieldType.int)) ∈ lw_all := lw_g (lw_at lw_m3 9 rfl) rfl
theorem q655 : (Jvm.Cond.selects "java/util/LinkedList" ({ cls := "java/util/AbstractCollection", name := "size", desc := "()I" } : Jvm.MethodName) ({ cls := "java/util/LinkedList", name := "size", desc := "()I" } : Jvm.MethodName)) ∈ lw_all := lw_g (lw_at lw_m3 74 rfl) rfl
theorem q1097 : (Jvm.Cond.instanceMethod ({ cls := "java/util/LinkedList", name := "listIterator", desc := "(I)Ljava/util/ListIterator;" } : Jvm.MethodName)) ∈ lw_all := lw_g (lw_at lw_m5 36 rfl) rfl
theorem q1098 : (Jvm.Cond.code ({ cls := "java/util/LinkedList", name := "listIterator", desc := "(I)Ljava/util/ListIterator;" } : Jvm.MethodName) prog_77_method_49_code (2 : Nat) (Option.some (Jvm.ClassFile.FieldType.object "java/util/ListIterator"))) ∈ lw_all := lw_g (lw_at lw_m5 37 rfl) rfl
theorem q1099 : (Jvm.Cond.methodLink "java/util/LinkedList" (76 : Nat) ({ cls := "java/util/LinkedList", name := "checkPositionIndex", desc := "(I)V" } : Jvm.MethodName)) ∈ lw_all := lw_g (lw_at lw_m5 38 rfl) rfl
theorem q1100 : (Jvm.Cond.privateMethod ({ cls := "java/util/LinkedList", name := "checkPositionIndex", desc := "(I)V" } : Jvm.MethodName)) ∈ lw_tbl := lw_at lw_m5 39 rfl
theorem q1101 : (Jvm.Cond.instanceMethod ({ cls := "java/util/LinkedList", name := "checkPositionIndex", desc := "(I)V" } : Jvm.MethodName)) ∈ lw_all := lw_g (lw_at lw_m5 40 rfl) rfl
theorem q1102 : (Jvm.Cond.code ({ cls := "java/util/LinkedList", name := "checkPositionIndex", desc := "(I)V" } : Jvm.MethodName) prog_77_method_30_code (2 : Nat) (Option.none : Option Jvm.ClassFile.FieldType)) ∈ lw_all := lw_g (lw_at lw_m5 41 rfl) rfl
theorem q1103 : (Jvm.Cond.methodLink "java/util/LinkedList" (128 : Nat) ({ cls := "java/util/LinkedList", name := "isPositionIndex", desc := "(I)Z" } : Jvm.MethodName)) ∈ lw_all := lw_g (lw_at lw_m5 42 rfl) rfl
theorem q1104 : (Jvm.Cond.privateMethod ({ cls := "java/util/LinkedList", name := "isPositionIndex", desc := "(I)Z" } : Jvm.MethodName)) ∈ lw_tbl := lw_at lw_m5 43 rfl
theorem q1105 : (Jvm.Cond.instanceMethod ({ cls := "java/util/LinkedList", name := "isPositionIndex", desc := "(I)Z" } : Jvm.MethodName)) ∈ lw_all := lw_g (lw_at lw_m5 44 rfl) rfl
theorem q1106 : (Jvm.Cond.code ({ cls := "java/util/LinkedList", name := "isPositionIndex", desc := "(I)Z" } : Jvm.MethodName) prog_77_method_27_code (2 : Nat) (Option.some Jvm.ClassFile.FieldType.boolean)) ∈ lw_all := lw_g (lw_at lw_m5 45 rfl) rfl
theorem q1107 : (Jvm.Cond.classLink "java/util/LinkedList" (119 : Nat) "java/lang/IndexOutOfBoundsException") ∈ lw_all := lw_g (lw_at lw_m5 46 rfl) rfl
theorem q1108 : (Jvm.Cond.methodLink "java/util/LinkedList" (121 : Nat) ({ cls := "java/util/LinkedList", name := "outOfBoundsMsg", desc := "(I)Ljava/lang/String;" } : Jvm.MethodName)) ∈ lw_all := lw_g (lw_at lw_m5 47 rfl) rfl
theorem q1109 : (Jvm.Cond.privateMethod ({ cls := "java/util/LinkedList", name := "outOfBoundsMsg", desc := "(I)Ljava/lang/String;" } : Jvm.MethodName)) ∈ lw_tbl := lw_at lw_m5 48 rfl
theorem q1110 : (Jvm.Cond.instanceMethod ({ cls := "java/util/LinkedList", name := "outOfBoundsMsg", desc := "(I)Ljava/lang/String;" } : Jvm.MethodName)) ∈ lw_all := lw_g (lw_at lw_m5 49 rfl) rfl
theorem q1111 : (Jvm.Cond.code ({ cls := "java/util/LinkedList", name := "outOfBoundsMsg", desc := "(I)Ljava/lang/String;" } : Jvm.MethodName) prog_77_method_28_code (2 : Nat) (Option.some (Jvm.ClassFile.FieldType.object "java/lang/String"))) ∈ lw_all := lw_g (lw_at lw_m5 50 rfl) rfl
theorem q1112 : (Jvm.Cond.classLink "java/util/LinkedList" (97 : Nat) "java/lang/StringBuilder") ∈ lw_all := lw_g (lw_at lw_m5 51 rfl) rfl
theorem q1113 : (Jvm.Cond.methodLink "java/util/LinkedList" (99 : Nat) ({ cls := "java/lang/StringBuilder", name := "<init>", desc := "()V" } : Jvm.MethodName)) ∈ lw_all := lw_g (lw_at lw_m5 52 rfl) rfl
theorem q1114 : (Jvm.Cond.stringRef "java/util/LinkedList" (100 : Nat) "Index: ") ∈ lw_tbl := lw_at lw_m5 53 rfl
theorem q1115 : (Jvm.Cond.methodLink "java/util/LinkedList" (102 : Nat) ({ cls := "java/lang/StringBuilder", name := "append", desc := "(Ljava/lang/String;)Ljava/lang/StringBuilder;" } : Jvm.MethodName)) ∈ lw_all := lw_g (lw_at lw_m5 54 rfl) rfl
theorem q1116 : (Jvm.Cond.methodLink "java/util/LinkedList" (106 : Nat) ({ cls := "java/lang/StringBuilder", name := "append", desc := "(I)Ljava/lang/StringBuilder;" } : Jvm.MethodName)) ∈ lw_all := lw_g (lw_at lw_m5 55 rfl) rfl
theorem q1117 : (Jvm.Cond.stringRef "java/util/LinkedList" (109 : Nat) ", Size: ") ∈ lw_tbl := lw_at lw_m5 56 rfl
theorem q1118 : (Jvm.Cond.methodLink "java/util/LinkedList" (111 : Nat) ({ cls := "java/lang/StringBuilder", name := "toString", desc := "()Ljava/lang/String;" } : Jvm.MethodName)) ∈ lw_all := lw_g (lw_at lw_m5 57 rfl) rfl
theorem q1119 : (Jvm.Cond.methodLink "java/util/LinkedList" (125 : Nat) ({ cls := "java/lang/IndexOutOfBoundsException", name := "<init>", desc := "(Ljava/lang/String;)V" } : Jvm.MethodName)) ∈ lw_all := lw_g (lw_at lw_m5 58 rfl) rfl
theorem q1120 : (Jvm.Cond.classLink "java/util/LinkedList" (150 : Nat) "java/util/LinkedList$ListItr") ∈ lw_all := lw_g (lw_at lw_m5 59 rfl) rfl
theorem q1122 : (Jvm.Cond.methodLink "java/util/LinkedList" (152 : Nat) ({ cls := "java/util/LinkedList$ListItr", name := "<init>", desc := "(Ljava/util/LinkedList;I)V" } : Jvm.MethodName)) ∈ lw_all := lw_g (lw_at lw_m5 61 rfl) rfl
theorem q1127 : (Jvm.Cond.instanceMethod ({ cls := "java/util/LinkedList", name := "node", desc := "(I)Ljava/util/LinkedList$Node;" } : Jvm.MethodName)) ∈ lw_all := lw_g (lw_at lw_m5 66 rfl) rfl
theorem q1128 : (Jvm.Cond.selects "java/util/LinkedList" ({ cls := "java/util/LinkedList", name := "node", desc := "(I)Ljava/util/LinkedList$Node;" } : Jvm.MethodName) ({ cls := "java/util/LinkedList", name := "node", desc := "(I)Ljava/util/LinkedList$Node;" } : Jvm.MethodName)) ∈ lw_all := lw_g (lw_at lw_m5 67 rfl) rfl
theorem q1129 : (Jvm.Cond.code ({ cls := "java/util/LinkedList", name := "node", desc := "(I)Ljava/util/LinkedList$Node;" } : Jvm.MethodName) prog_77_method_31_code (4 : Nat) (Option.some (Jvm.ClassFile.FieldType.object "java/util/LinkedList$Node"))) ∈ lw_all := lw_g (lw_at lw_m5 68 rfl) rfl
theorem q1159 : (Jvm.Cond.selects "java/util/LinkedList" ({ cls := "java/util/AbstractList", name := "listIterator", desc := "(I)Ljava/util/ListIterator;" } : Jvm.MethodName) ({ cls := "java/util/LinkedList", name := "listIterator", desc := "(I)Ljava/util/ListIterator;" } : Jvm.MethodName)) ∈ lw_all := lw_g (lw_at lw_m5 98 rfl) rfl
theorem q1234 : (Jvm.Cond.selects "java/util/LinkedList" ({ cls := "java/util/AbstractCollection", name := "iterator", desc := "()Ljava/util/Iterator;" } : Jvm.MethodName) ({ cls := "java/util/AbstractSequentialList", name := "iterator", desc := "()Ljava/util/Iterator;" } : Jvm.MethodName)) ∈ lw_all := lw_g (lw_at lw_m5 173 rfl) rfl
theorem q1239 : (Jvm.Cond.selects "java/util/LinkedList" ({ cls := "java/util/AbstractSequentialList", name := "listIterator", desc := "()Ljava/util/ListIterator;" } : Jvm.MethodName) ({ cls := "java/util/AbstractList", name := "listIterator", desc := "()Ljava/util/ListIterator;" } : Jvm.MethodName)) ∈ lw_all := lw_g (lw_at lw_m5 178 rfl) rfl
theorem q1256 : (Jvm.Cond.selects "java/util/LinkedList" ({ cls := "java/util/AbstractList", name := "size", desc := "()I" } : Jvm.MethodName) ({ cls := "java/util/LinkedList", name := "size", desc := "()I" } : Jvm.MethodName)) ∈ lw_all := lw_g (lw_at lw_m5 195 rfl) rfl
theorem q1402 : (Jvm.Cond.instanceMethod ({ cls := "java/util/LinkedList", name := "get", desc := "(I)Ljava/lang/Object;" } : Jvm.MethodName)) ∈ lw_all := lw_g (lw_at lw_m6 101 rfl) rfl
theorem q1403 : (Jvm.Cond.code ({ cls := "java/util/LinkedList", name := "get", desc := "(I)Ljava/lang/Object;" } : Jvm.MethodName) prog_77_method_22_code (2 : Nat) (Option.some (Jvm.ClassFile.FieldType.object "java/lang/Object"))) ∈ lw_all := lw_g (lw_at lw_m6 102 rfl) rfl
theorem q1404 : (Jvm.Cond.methodLink "java/util/LinkedList" (90 : Nat) ({ cls := "java/util/LinkedList", name := "checkElementIndex", desc := "(I)V" } : Jvm.MethodName)) ∈ lw_all := lw_g (lw_at lw_m6 103 rfl) rfl
theorem q1405 : (Jvm.Cond.privateMethod ({ cls := "java/util/LinkedList", name := "checkElementIndex", desc := "(I)V" } : Jvm.MethodName)) ∈ lw_tbl := lw_at lw_m6 104 rfl
theorem q1406 : (Jvm.Cond.instanceMethod ({ cls := "java/util/LinkedList", name := "checkElementIndex", desc := "(I)V" } : Jvm.MethodName)) ∈ lw_all := lw_g (lw_at lw_m6 105 rfl) rfl
theorem q1407 : (Jvm.Cond.code ({ cls := "java/util/LinkedList", name := "checkElementIndex", desc := "(I)V" } : Jvm.MethodName) prog_77_method_29_code (2 : Nat) (Option.none : Option Jvm.ClassFile.FieldType)) ∈ lw_all := lw_g (lw_at lw_m6 106 rfl) rfl
theorem q1408 : (Jvm.Cond.methodLink "java/util/LinkedList" (115 : Nat) ({ cls := "java/util/LinkedList", name := "isElementIndex", desc := "(I)Z" } : Jvm.MethodName)) ∈ lw_all := lw_g (lw_at lw_m6 107 rfl) rfl
theorem q1409 : (Jvm.Cond.privateMethod ({ cls := "java/util/LinkedList", name := "isElementIndex", desc := "(I)Z" } : Jvm.MethodName)) ∈ lw_tbl := lw_at lw_m6 108 rfl
theorem q1410 : (Jvm.Cond.instanceMethod ({ cls := "java/util/LinkedList", name := "isElementIndex", desc := "(I)Z" } : Jvm.MethodName)) ∈ lw_all := lw_g (lw_at lw_m6 109 rfl) rfl
theorem q1411 : (Jvm.Cond.code ({ cls := "java/util/LinkedList", name := "isElementIndex", desc := "(I)Z" } : Jvm.MethodName) prog_77_method_26_code (2 : Nat) (Option.some Jvm.ClassFile.FieldType.boolean)) ∈ lw_all := lw_g (lw_at lw_m6 110 rfl) rfl
theorem q1412 : (Jvm.Cond.methodLink "java/util/LinkedList" (86 : Nat) ({ cls := "java/util/LinkedList", name := "node", desc := "(I)Ljava/util/LinkedList$Node;" } : Jvm.MethodName)) ∈ lw_all := lw_g (lw_at lw_m6 111 rfl) rfl
theorem q1416 : (Jvm.Cond.selects "java/util/LinkedList" ({ cls := "java/util/AbstractList", name := "get", desc := "(I)Ljava/lang/Object;" } : Jvm.MethodName) ({ cls := "java/util/LinkedList", name := "get", desc := "(I)Ljava/lang/Object;" } : Jvm.MethodName)) ∈ lw_all := lw_g (lw_at lw_m6 115 rfl) rfl
theorem q1601 : (Jvm.Cond.castable "java/util/LinkedList" "java/util/List") ∈ lw_tbl := lw_at lw_m7 60 rfl
theorem q1602 : (Jvm.Cond.selects "java/util/LinkedList" ({ cls := "java/util/List", name := "get", desc := "(I)Ljava/lang/Object;" } : Jvm.MethodName) ({ cls := "java/util/LinkedList", name := "get", desc := "(I)Ljava/lang/Object;" } : Jvm.MethodName)) ∈ lw_all := lw_g (lw_at lw_m7 61 rfl) rfl
theorem q1603 : (Jvm.Cond.unhidden "java/util/LinkedList" "get" "(I)Ljava/lang/Object;") ∈ lw_tbl := lw_at lw_m7 62 rfl
theorem q1604 : (Jvm.Cond.publicMethod ({ cls := "java/util/LinkedList", name := "get", desc := "(I)Ljava/lang/Object;" } : Jvm.MethodName)) ∈ lw_tbl := lw_at lw_m7 63 rfl
theorem q1705 : (Jvm.Cond.castable "java/util/LinkedList" "java/util/Collection") ∈ lw_tbl := lw_at lw_m7 164 rfl
theorem q1706 : (Jvm.Cond.selects "java/util/LinkedList" ({ cls := "java/util/Collection", name := "toArray", desc := "()[Ljava/lang/Object;" } : Jvm.MethodName) ({ cls := "java/util/LinkedList", name := "toArray", desc := "()[Ljava/lang/Object;" } : Jvm.MethodName)) ∈ lw_all := lw_g (lw_at lw_m7 165 rfl) rfl
theorem q1707 : (Jvm.Cond.unhidden "java/util/LinkedList" "toArray" "()[Ljava/lang/Object;") ∈ lw_tbl := lw_at lw_m7 166 rfl
theorem q1708 : (Jvm.Cond.instanceMethod ({ cls := "java/util/LinkedList", name := "toArray", desc := "()[Ljava/lang/Object;" } : Jvm.MethodName)) ∈ lw_all := lw_g (lw_at lw_m7 167 rfl) rfl
theorem q1709 : (Jvm.Cond.publicMethod ({ cls := "java/util/LinkedList", name := "toArray", desc := "()[Ljava/lang/Object;" } : Jvm.MethodName)) ∈ lw_tbl := lw_at lw_m7 168 rfl
theorem q1710 : (Jvm.Cond.code ({ cls := "java/util/LinkedList", name := "toArray", desc := "()[Ljava/lang/Object;" } : Jvm.MethodName) prog_77_method_53_code (4 : Nat) (Option.some (Jvm.ClassFile.FieldType.array (Jvm.ClassFile.FieldType.object "java/lang/Object")))) ∈ lw_all := lw_g (lw_at lw_m7 169 rfl) rfl
theorem q1711 : (Jvm.Cond.classLink "java/util/LinkedList" (68 : Nat) "java/lang/Object") ∈ lw_all := lw_g (lw_at lw_m7 170 rfl) rfl
theorem q1714 : (Jvm.Cond.instanceMethod ({ cls := "java/util/LinkedList", name := "addAll", desc := "(Ljava/util/Collection;)Z" } : Jvm.MethodName)) ∈ lw_all := lw_g (lw_at lw_m7 173 rfl) rfl
theorem q1715 : (Jvm.Cond.selects "java/util/LinkedList" ({ cls := "java/util/LinkedList", name := "addAll", desc := "(Ljava/util/Collection;)Z" } : Jvm.MethodName) ({ cls := "java/util/LinkedList", name := "addAll", desc := "(Ljava/util/Collection;)Z" } : Jvm.MethodName)) ∈ lw_all := lw_g (lw_at lw_m7 174 rfl) rfl
theorem q1716 : (Jvm.Cond.code ({ cls := "java/util/LinkedList", name := "addAll", desc := "(Ljava/util/Collection;)Z" } : Jvm.MethodName) prog_77_method_19_code (2 : Nat) (Option.some Jvm.ClassFile.FieldType.boolean)) ∈ lw_all := lw_g (lw_at lw_m7 175 rfl) rfl
theorem q1717 : (Jvm.Cond.methodLink "java/util/LinkedList" (73 : Nat) ({ cls := "java/util/LinkedList", name := "addAll", desc := "(ILjava/util/Collection;)Z" } : Jvm.MethodName)) ∈ lw_all := lw_g (lw_at lw_m7 176 rfl) rfl
theorem q1718 : (Jvm.Cond.instanceMethod ({ cls := "java/util/LinkedList", name := "addAll", desc := "(ILjava/util/Collection;)Z" } : Jvm.MethodName)) ∈ lw_all := lw_g (lw_at lw_m7 177 rfl) rfl
theorem q1719 : (Jvm.Cond.selects "java/util/LinkedList" ({ cls := "java/util/LinkedList", name := "addAll", desc := "(ILjava/util/Collection;)Z" } : Jvm.MethodName) ({ cls := "java/util/LinkedList", name := "addAll", desc := "(ILjava/util/Collection;)Z" } : Jvm.MethodName)) ∈ lw_all := lw_g (lw_at lw_m7 178 rfl) rfl
theorem q1720 : (Jvm.Cond.code ({ cls := "java/util/LinkedList", name := "addAll", desc := "(ILjava/util/Collection;)Z" } : Jvm.MethodName) prog_77_method_20_code (13 : Nat) (Option.some Jvm.ClassFile.FieldType.boolean)) ∈ lw_all := lw_g (lw_at lw_m7 179 rfl) rfl
theorem q1721 : (Jvm.Cond.interfaceEntry "java/util/LinkedList" (80 : Nat)) ∈ lw_tbl := lw_at lw_m7 180 rfl
theorem q1722 : (Jvm.Cond.methodLink "java/util/LinkedList" (80 : Nat) ({ cls := "java/util/Collection", name := "toArray", desc := "()[Ljava/lang/Object;" } : Jvm.MethodName)) ∈ lw_all := lw_g (lw_at lw_m7 181 rfl) rfl
theorem q1723 : (Jvm.Cond.classLink "java/util/LinkedList" (22 : Nat) "java/util/LinkedList$Node") ∈ lw_all := lw_g (lw_at lw_m7 182 rfl) rfl
theorem q1725 : (Jvm.Cond.methodLink "java/util/LinkedList" (24 : Nat) ({ cls := "java/util/LinkedList$Node", name := "<init>", desc := "(Ljava/util/LinkedList$Node;Ljava/lang/Object;Ljava/util/LinkedList$Node;)V" } : Jvm.MethodName)) ∈ lw_all := lw_g (lw_at lw_m7 184 rfl) rfl
theorem q1731 : (Jvm.Cond.fieldLink "java/util/LinkedList" (39 : Nat) "java/util/LinkedList$Node" "item" "Ljava/lang/Object;") ∈ lw_all := lw_g (lw_at lw_m7 190 rfl) rfl
theorem q1734 : (Jvm.Cond.fieldLink "java/util/LinkedList" (36 : Nat) "java/util/LinkedList$Node" "next" "Ljava/util/LinkedList$Node;") ∈ lw_all := lw_g (lw_at lw_m7 193 rfl) rfl
theorem q1736 : (Jvm.Cond.fieldLink "java/util/LinkedList" (30 : Nat) "java/util/LinkedList$Node" "prev" "Ljava/util/LinkedList$Node;") ∈ lw_all := lw_g (lw_at lw_m7 195 rfl) rfl
theorem q1853 : (Jvm.Cond.selects "java/util/LinkedList" ({ cls := "java/util/Collection", name := "size", desc := "()I" } : Jvm.MethodName) ({ cls := "java/util/LinkedList", name := "size", desc := "()I" } : Jvm.MethodName)) ∈ lw_all := lw_g (lw_at lw_m8 72 rfl) rfl
theorem q1854 : (Jvm.Cond.unhidden "java/util/LinkedList" "size" "()I") ∈ lw_tbl := lw_at lw_m8 73 rfl
theorem q1855 : (Jvm.Cond.publicMethod ({ cls := "java/util/LinkedList", name := "size", desc := "()I" } : Jvm.MethodName)) ∈ lw_tbl := lw_at lw_m8 74 rfl
theorem q1859 : (Jvm.Cond.selects "java/util/LinkedList" ({ cls := "java/util/List", name := "size", desc := "()I" } : Jvm.MethodName) ({ cls := "java/util/LinkedList", name := "size", desc := "()I" } : Jvm.MethodName)) ∈ lw_all := lw_g (lw_at lw_m8 78 rfl) rfl
theorem q2220 : (Jvm.Cond.unhidden "java/util/LinkedList" "getClass" "()Ljava/lang/Class;") ∈ lw_tbl := lw_at lw_m9 199 rfl
theorem q2315 : (Jvm.Cond.instanceMethod ({ cls := "java/util/LinkedList", name := "addLast", desc := "(Ljava/lang/Object;)V" } : Jvm.MethodName)) ∈ lw_all := lw_g (lw_at lw_m10 54 rfl) rfl
theorem q2316 : (Jvm.Cond.selects "java/util/LinkedList" ({ cls := "java/util/LinkedList", name := "addLast", desc := "(Ljava/lang/Object;)V" } : Jvm.MethodName) ({ cls := "java/util/LinkedList", name := "addLast", desc := "(Ljava/lang/Object;)V" } : Jvm.MethodName)) ∈ lw_all := lw_g (lw_at lw_m10 55 rfl) rfl
theorem q2317 : (Jvm.Cond.code ({ cls := "java/util/LinkedList", name := "addLast", desc := "(Ljava/lang/Object;)V" } : Jvm.MethodName) prog_77_method_14_code (2 : Nat) (Option.none : Option Jvm.ClassFile.FieldType)) ∈ lw_all := lw_g (lw_at lw_m10 56 rfl) rfl
theorem q2318 : (Jvm.Cond.methodLink "java/util/LinkedList" (57 : Nat) ({ cls := "java/util/LinkedList", name := "linkLast", desc := "(Ljava/lang/Object;)V" } : Jvm.MethodName)) ∈ lw_all := lw_g (lw_at lw_m10 57 rfl) rfl
theorem q2319 : (Jvm.Cond.instanceMethod ({ cls := "java/util/LinkedList", name := "linkLast", desc := "(Ljava/lang/Object;)V" } : Jvm.MethodName)) ∈ lw_all := lw_g (lw_at lw_m10 58 rfl) rfl
theorem q2320 : (Jvm.Cond.selects "java/util/LinkedList" ({ cls := "java/util/LinkedList", name := "linkLast", desc := "(Ljava/lang/Object;)V" } : Jvm.MethodName) ({ cls := "java/util/LinkedList", name := "linkLast", desc := "(Ljava/lang/Object;)V" } : Jvm.MethodName)) ∈ lw_all := lw_g (lw_at lw_m10 59 rfl) rfl
theorem q2321 : (Jvm.Cond.code ({ cls := "java/util/LinkedList", name := "linkLast", desc := "(Ljava/lang/Object;)V" } : Jvm.MethodName) prog_77_method_4_code (4 : Nat) (Option.none : Option Jvm.ClassFile.FieldType)) ∈ lw_all := lw_g (lw_at lw_m10 60 rfl) rfl
theorem q2337 : (Jvm.Cond.instanceMethod ({ cls := "java/util/LinkedList", name := "removeFirst", desc := "()Ljava/lang/Object;" } : Jvm.MethodName)) ∈ lw_all := lw_g (lw_at lw_m10 76 rfl) rfl
theorem q2338 : (Jvm.Cond.selects "java/util/LinkedList" ({ cls := "java/util/LinkedList", name := "removeFirst", desc := "()Ljava/lang/Object;" } : Jvm.MethodName) ({ cls := "java/util/LinkedList", name := "removeFirst", desc := "()Ljava/lang/Object;" } : Jvm.MethodName)) ∈ lw_all := lw_g (lw_at lw_m10 77 rfl) rfl
theorem q2339 : (Jvm.Cond.code ({ cls := "java/util/LinkedList", name := "removeFirst", desc := "()Ljava/lang/Object;" } : Jvm.MethodName) prog_77_method_11_code (2 : Nat) (Option.some (Jvm.ClassFile.FieldType.object "java/lang/Object"))) ∈ lw_all := lw_g (lw_at lw_m10 78 rfl) rfl
theorem q2340 : (Jvm.Cond.classLink "java/util/LinkedList" (43 : Nat) "java/util/NoSuchElementException") ∈ lw_all := lw_g (lw_at lw_m10 79 rfl) rfl
theorem q2341 : (Jvm.Cond.methodLink "java/util/LinkedList" (45 : Nat) ({ cls := "java/util/NoSuchElementException", name := "<init>", desc := "()V" } : Jvm.MethodName)) ∈ lw_all := lw_g (lw_at lw_m10 80 rfl) rfl
theorem q2342 : (Jvm.Cond.methodLink "java/util/LinkedList" (46 : Nat) ({ cls := "java/util/LinkedList", name := "unlinkFirst", desc := "(Ljava/util/LinkedList$Node;)Ljava/lang/Object;" } : Jvm.MethodName)) ∈ lw_all := lw_g (lw_at lw_m10 81 rfl) rfl
theorem q2343 : (Jvm.Cond.privateMethod ({ cls := "java/util/LinkedList", name := "unlinkFirst", desc := "(Ljava/util/LinkedList$Node;)Ljava/lang/Object;" } : Jvm.MethodName)) ∈ lw_tbl := lw_at lw_m10 82 rfl
theorem q2344 : (Jvm.Cond.instanceMethod ({ cls := "java/util/LinkedList", name := "unlinkFirst", desc := "(Ljava/util/LinkedList$Node;)Ljava/lang/Object;" } : Jvm.MethodName)) ∈ lw_all := lw_g (lw_at lw_m10 83 rfl) rfl
theorem q2345 : (Jvm.Cond.code ({ cls := "java/util/LinkedList", name := "unlinkFirst", desc := "(Ljava/util/LinkedList$Node;)Ljava/lang/Object;" } : Jvm.MethodName) prog_77_method_6_code (4 : Nat) (Option.some (Jvm.ClassFile.FieldType.object "java/lang/Object"))) ∈ lw_all := lw_g (lw_at lw_m10 84 rfl) rfl
theorem q2352 : (Jvm.Cond.sameMethod "java/util/LinkedList" "java/util/AbstractSequentialList" "iterator" "()Ljava/util/Iterator;") ∈ lw_all := lw_g (lw_at lw_m10 91 rfl) rfl
theorem q2354 : (Jvm.Cond.selects "java/util/LinkedList" ({ cls := "java/util/LinkedList", name := "iterator", desc := "()Ljava/util/Iterator;" } : Jvm.MethodName) ({ cls := "java/util/AbstractSequentialList", name := "iterator", desc := "()Ljava/util/Iterator;" } : Jvm.MethodName)) ∈ lw_all := lw_g (lw_at lw_m10 93 rfl) rfl
theorem q2470 : (Jvm.Cond.instanceMethod ({ cls := "java/util/LinkedList", name := "remove", desc := "(I)Ljava/lang/Object;" } : Jvm.MethodName)) ∈ lw_all := lw_g (lw_at lw_m10 209 rfl) rfl
theorem q2471 : (Jvm.Cond.code ({ cls := "java/util/LinkedList", name := "remove", desc := "(I)Ljava/lang/Object;" } : Jvm.MethodName) prog_77_method_25_code (2 : Nat) (Option.some (Jvm.ClassFile.FieldType.object "java/lang/Object"))) ∈ lw_all := lw_g (lw_at lw_m10 210 rfl) rfl
theorem q2472 : (Jvm.Cond.methodLink "java/util/LinkedList" (64 : Nat) ({ cls := "java/util/LinkedList", name := "unlink", desc := "(Ljava/util/LinkedList$Node;)Ljava/lang/Object;" } : Jvm.MethodName)) ∈ lw_all := lw_g (lw_at lw_m10 211 rfl) rfl
theorem q2473 : (Jvm.Cond.instanceMethod ({ cls := "java/util/LinkedList", name := "unlink", desc := "(Ljava/util/LinkedList$Node;)Ljava/lang/Object;" } : Jvm.MethodName)) ∈ lw_all := lw_g (lw_at lw_m10 212 rfl) rfl
theorem q2474 : (Jvm.Cond.selects "java/util/LinkedList" ({ cls := "java/util/LinkedList", name := "unlink", desc := "(Ljava/util/LinkedList$Node;)Ljava/lang/Object;" } : Jvm.MethodName) ({ cls := "java/util/LinkedList", name := "unlink", desc := "(Ljava/util/LinkedList$Node;)Ljava/lang/Object;" } : Jvm.MethodName)) ∈ lw_all := lw_g (lw_at lw_m10 213 rfl) rfl
theorem q2475 : (Jvm.Cond.code ({ cls := "java/util/LinkedList", name := "unlink", desc := "(Ljava/util/LinkedList$Node;)Ljava/lang/Object;" } : Jvm.MethodName) prog_77_method_8_code (5 : Nat) (Option.some (Jvm.ClassFile.FieldType.object "java/lang/Object"))) ∈ lw_all := lw_g (lw_at lw_m10 214 rfl) rfl
theorem q2483 : (Jvm.Cond.selects "java/util/LinkedList" ({ cls := "java/util/AbstractList", name := "remove", desc := "(I)Ljava/lang/Object;" } : Jvm.MethodName) ({ cls := "java/util/LinkedList", name := "remove", desc := "(I)Ljava/lang/Object;" } : Jvm.MethodName)) ∈ lw_all := lw_g (lw_at lw_m10 222 rfl) rfl
theorem q2589 : (Jvm.Cond.instanceMethod ({ cls := "java/util/LinkedList", name := "add", desc := "(ILjava/lang/Object;)V" } : Jvm.MethodName)) ∈ lw_all := lw_g (lw_at lw_m11 88 rfl) rfl
theorem q2590 : (Jvm.Cond.selects "java/util/LinkedList" ({ cls := "java/util/LinkedList", name := "add", desc := "(ILjava/lang/Object;)V" } : Jvm.MethodName) ({ cls := "java/util/LinkedList", name := "add", desc := "(ILjava/lang/Object;)V" } : Jvm.MethodName)) ∈ lw_all := lw_g (lw_at lw_m11 89 rfl) rfl
theorem q2591 : (Jvm.Cond.code ({ cls := "java/util/LinkedList", name := "add", desc := "(ILjava/lang/Object;)V" } : Jvm.MethodName) prog_77_method_24_code (3 : Nat) (Option.none : Option Jvm.ClassFile.FieldType)) ∈ lw_all := lw_g (lw_at lw_m11 90 rfl) rfl
theorem q2592 : (Jvm.Cond.methodLink "java/util/LinkedList" (93 : Nat) ({ cls := "java/util/LinkedList", name := "linkBefore", desc := "(Ljava/lang/Object;Ljava/util/LinkedList$Node;)V" } : Jvm.MethodName)) ∈ lw_all := lw_g (lw_at lw_m11 91 rfl) rfl
theorem q2593 : (Jvm.Cond.instanceMethod ({ cls := "java/util/LinkedList", name := "linkBefore", desc := "(Ljava/lang/Object;Ljava/util/LinkedList$Node;)V" } : Jvm.MethodName)) ∈ lw_all := lw_g (lw_at lw_m11 92 rfl) rfl
theorem q2594 : (Jvm.Cond.selects "java/util/LinkedList" ({ cls := "java/util/LinkedList", name := "linkBefore", desc := "(Ljava/lang/Object;Ljava/util/LinkedList$Node;)V" } : Jvm.MethodName) ({ cls := "java/util/LinkedList", name := "linkBefore", desc := "(Ljava/lang/Object;Ljava/util/LinkedList$Node;)V" } : Jvm.MethodName)) ∈ lw_all := lw_g (lw_at lw_m11 93 rfl) rfl
theorem q2595 : (Jvm.Cond.code ({ cls := "java/util/LinkedList", name := "linkBefore", desc := "(Ljava/lang/Object;Ljava/util/LinkedList$Node;)V" } : Jvm.MethodName) prog_77_method_5_code (5 : Nat) (Option.none : Option Jvm.ClassFile.FieldType)) ∈ lw_all := lw_g (lw_at lw_m11 94 rfl) rfl
theorem q2691 : (Jvm.Cond.selects "java/util/LinkedList" ({ cls := "java/util/AbstractList", name := "set", desc := "(ILjava/lang/Object;)Ljava/lang/Object;" } : Jvm.MethodName) ({ cls := "java/util/LinkedList", name := "set", desc := "(ILjava/lang/Object;)Ljava/lang/Object;" } : Jvm.MethodName)) ∈ lw_all := lw_g (lw_at lw_m11 190 rfl) rfl
theorem q2692 : (Jvm.Cond.instanceMethod ({ cls := "java/util/LinkedList", name := "set", desc := "(ILjava/lang/Object;)Ljava/lang/Object;" } : Jvm.MethodName)) ∈ lw_all := lw_g (lw_at lw_m11 191 rfl) rfl
theorem q2693 : (Jvm.Cond.code ({ cls := "java/util/LinkedList", name := "set", desc := "(ILjava/lang/Object;)Ljava/lang/Object;" } : Jvm.MethodName) prog_77_method_23_code (5 : Nat) (Option.some (Jvm.ClassFile.FieldType.object "java/lang/Object"))) ∈ lw_all := lw_g (lw_at lw_m11 192 rfl) rfl
theorem q2717 : (Jvm.Cond.selects "java/util/LinkedList" ({ cls := "java/util/List", name := "set", desc := "(ILjava/lang/Object;)Ljava/lang/Object;" } : Jvm.MethodName) ({ cls := "java/util/LinkedList", name := "set", desc := "(ILjava/lang/Object;)Ljava/lang/Object;" } : Jvm.MethodName)) ∈ lw_all := lw_g (lw_at lw_m11 216 rfl) rfl
theorem q2718 : (Jvm.Cond.unhidden "java/util/LinkedList" "set" "(ILjava/lang/Object;)Ljava/lang/Object;") ∈ lw_tbl := lw_at lw_m11 217 rfl
theorem q2719 : (Jvm.Cond.publicMethod ({ cls := "java/util/LinkedList", name := "set", desc := "(ILjava/lang/Object;)Ljava/lang/Object;" } : Jvm.MethodName)) ∈ lw_tbl := lw_at lw_m11 218 rfl
theorem q2855 : (Jvm.Cond.selects "java/util/LinkedList" ({ cls := "java/util/List", name := "subList", desc := "(II)Ljava/util/List;" } : Jvm.MethodName) ({ cls := "java/util/AbstractList", name := "subList", desc := "(II)Ljava/util/List;" } : Jvm.MethodName)) ∈ lw_all := lw_g (lw_at lw_m12 114 rfl) rfl
theorem q2856 : (Jvm.Cond.unhidden "java/util/LinkedList" "subList" "(II)Ljava/util/List;") ∈ lw_tbl := lw_at lw_m12 115 rfl
theorem q2955 : (Jvm.Cond.selects "java/util/LinkedList" ({ cls := "java/util/List", name := "listIterator", desc := "(I)Ljava/util/ListIterator;" } : Jvm.MethodName) ({ cls := "java/util/LinkedList", name := "listIterator", desc := "(I)Ljava/util/ListIterator;" } : Jvm.MethodName)) ∈ lw_all := lw_g (lw_at lw_m12 214 rfl) rfl
theorem q2956 : (Jvm.Cond.unhidden "java/util/LinkedList" "listIterator" "(I)Ljava/util/ListIterator;") ∈ lw_tbl := lw_at lw_m12 215 rfl
theorem q2957 : (Jvm.Cond.publicMethod ({ cls := "java/util/LinkedList", name := "listIterator", desc := "(I)Ljava/util/ListIterator;" } : Jvm.MethodName)) ∈ lw_tbl := lw_at lw_m12 216 rfl
theorem q2978 : (Jvm.Cond.selects "java/util/LinkedList" ({ cls := "java/util/List", name := "listIterator", desc := "()Ljava/util/ListIterator;" } : Jvm.MethodName) ({ cls := "java/util/AbstractList", name := "listIterator", desc := "()Ljava/util/ListIterator;" } : Jvm.MethodName)) ∈ lw_all := lw_g (lw_at lw_m12 237 rfl) rfl
theorem q2979 : (Jvm.Cond.unhidden "java/util/LinkedList" "listIterator" "()Ljava/util/ListIterator;") ∈ lw_tbl := lw_at lw_m12 238 rfl
theorem q3930 : (Jvm.Cond.selects "java/util/LinkedList" ({ cls := "java/util/LinkedList", name := "get", desc := "(I)Ljava/lang/Object;" } : Jvm.MethodName) ({ cls := "java/util/LinkedList", name := "get", desc := "(I)Ljava/lang/Object;" } : Jvm.MethodName)) ∈ lw_all := lw_g (lw_at lw_m16 229 rfl) rfl
theorem q3933 : (Jvm.Cond.selects "java/util/LinkedList" ({ cls := "java/util/LinkedList", name := "remove", desc := "(I)Ljava/lang/Object;" } : Jvm.MethodName) ({ cls := "java/util/LinkedList", name := "remove", desc := "(I)Ljava/lang/Object;" } : Jvm.MethodName)) ∈ lw_all := lw_g (lw_at lw_m16 232 rfl) rfl
theorem q3955 : (Jvm.Cond.castable "java/util/LinkedList" "java/lang/Object") ∈ lw_tbl := lw_at lw_m17 14 rfl

/-! java/lang/Math -/
set_option maxRecDepth 100000
def RJ12 : String := "java/lang/Math"
abbrev cJ12_max : ByteArray := prog_32_method_65_code
def yJ12_max : MethodName := ⟨RJ12, "max", "(II)I"⟩
def dkwJ12_max_0 : List UInt8 := [26, 27, 161, 0, 7, 26, 167, 0, 4, 27, 172]
abbrev dktJ12_max_0 : List UInt8 := dkwJ12_max_0 ++ []
theorem dksJ12_max_0 : cJ12_max.data.toList.drop 0 = dktJ12_max_0 := by decide +kernel
theorem dJ12_max_0 : decode cJ12_max 0 = .ok (.iload_n 0, 1) := dk_26 (dk_at dksJ12_max_0 0 rfl rfl)
theorem dJ12_max_1 : decode cJ12_max 1 = .ok (.iload_n 1, 1) := dk_27 (dk_at dksJ12_max_0 1 rfl rfl)
theorem dJ12_max_2 : decode cJ12_max 2 = .ok (.if_icmp .lt 7, 3) := dk_161 0 7 (dk_at dksJ12_max_0 2 rfl rfl)
theorem dJ12_max_5 : decode cJ12_max 5 = .ok (.iload_n 0, 1) := dk_26 (dk_at dksJ12_max_0 5 rfl rfl)
theorem dJ12_max_6 : decode cJ12_max 6 = .ok (.goto 4, 3) := dk_167 0 4 (dk_at dksJ12_max_0 6 rfl rfl)
theorem dJ12_max_9 : decode cJ12_max 9 = .ok (.iload_n 1, 1) := dk_27 (dk_at dksJ12_max_0 9 rfl rfl)
theorem dJ12_max_10 : decode cJ12_max 10 = .ok (.ireturn, 1) := dk_172 (dk_at dksJ12_max_0 10 rfl rfl)
abbrev cJ12_min : ByteArray := prog_32_method_69_code
def yJ12_min : MethodName := ⟨RJ12, "min", "(II)I"⟩
def dkwJ12_min_0 : List UInt8 := [26, 27, 163, 0, 7, 26, 167, 0, 4, 27, 172]
abbrev dktJ12_min_0 : List UInt8 := dkwJ12_min_0 ++ []
theorem dksJ12_min_0 : cJ12_min.data.toList.drop 0 = dktJ12_min_0 := by decide +kernel
theorem dJ12_min_0 : decode cJ12_min 0 = .ok (.iload_n 0, 1) := dk_26 (dk_at dksJ12_min_0 0 rfl rfl)
theorem dJ12_min_1 : decode cJ12_min 1 = .ok (.iload_n 1, 1) := dk_27 (dk_at dksJ12_min_0 1 rfl rfl)
theorem dJ12_min_2 : decode cJ12_min 2 = .ok (.if_icmp .gt 7, 3) := dk_163 0 7 (dk_at dksJ12_min_0 2 rfl rfl)
theorem dJ12_min_5 : decode cJ12_min 5 = .ok (.iload_n 0, 1) := dk_26 (dk_at dksJ12_min_0 5 rfl rfl)
theorem dJ12_min_6 : decode cJ12_min 6 = .ok (.goto 4, 3) := dk_167 0 4 (dk_at dksJ12_min_0 6 rfl rfl)
theorem dJ12_min_9 : decode cJ12_min 9 = .ok (.iload_n 1, 1) := dk_27 (dk_at dksJ12_min_0 9 rfl rfl)
theorem dJ12_min_10 : decode cJ12_min 10 = .ok (.ireturn, 1) := dk_172 (dk_at dksJ12_min_0 10 rfl rfl)
abbrev cJ12_max_2 : ByteArray := prog_32_method_66_code
def yJ12_max_2 : MethodName := ⟨RJ12, "max", "(JJ)J"⟩
def dkwJ12_max_2_0 : List UInt8 := [30, 32, 148, 155, 0, 7, 30, 167, 0, 4, 32, 173]
abbrev dktJ12_max_2_0 : List UInt8 := dkwJ12_max_2_0 ++ []
theorem dksJ12_max_2_0 : cJ12_max_2.data.toList.drop 0 = dktJ12_max_2_0 := by decide +kernel
theorem dJ12_max_2_0 : decode cJ12_max_2 0 = .ok (.lload_n 0, 1) := dk_30 (dk_at dksJ12_max_2_0 0 rfl rfl)
theorem dJ12_max_2_1 : decode cJ12_max_2 1 = .ok (.lload_n 2, 1) := dk_32 (dk_at dksJ12_max_2_0 1 rfl rfl)
theorem dJ12_max_2_2 : decode cJ12_max_2 2 = .ok (.lcmp, 1) := dk_148 (dk_at dksJ12_max_2_0 2 rfl rfl)
theorem dJ12_max_2_3 : decode cJ12_max_2 3 = .ok (.ifCond .lt 7, 3) := dk_155 0 7 (dk_at dksJ12_max_2_0 3 rfl rfl)
theorem dJ12_max_2_6 : decode cJ12_max_2 6 = .ok (.lload_n 0, 1) := dk_30 (dk_at dksJ12_max_2_0 6 rfl rfl)
theorem dJ12_max_2_7 : decode cJ12_max_2 7 = .ok (.goto 4, 3) := dk_167 0 4 (dk_at dksJ12_max_2_0 7 rfl rfl)
theorem dJ12_max_2_10 : decode cJ12_max_2 10 = .ok (.lload_n 2, 1) := dk_32 (dk_at dksJ12_max_2_0 10 rfl rfl)
theorem dJ12_max_2_11 : decode cJ12_max_2 11 = .ok (.lreturn, 1) := dk_173 (dk_at dksJ12_max_2_0 11 rfl rfl)
abbrev cJ12_min_2 : ByteArray := prog_32_method_70_code
def yJ12_min_2 : MethodName := ⟨RJ12, "min", "(JJ)J"⟩
def dkwJ12_min_2_0 : List UInt8 := [30, 32, 148, 157, 0, 7, 30, 167, 0, 4, 32, 173]
abbrev dktJ12_min_2_0 : List UInt8 := dkwJ12_min_2_0 ++ []
theorem dksJ12_min_2_0 : cJ12_min_2.data.toList.drop 0 = dktJ12_min_2_0 := by decide +kernel
theorem dJ12_min_2_0 : decode cJ12_min_2 0 = .ok (.lload_n 0, 1) := dk_30 (dk_at dksJ12_min_2_0 0 rfl rfl)
theorem dJ12_min_2_1 : decode cJ12_min_2 1 = .ok (.lload_n 2, 1) := dk_32 (dk_at dksJ12_min_2_0 1 rfl rfl)
theorem dJ12_min_2_2 : decode cJ12_min_2 2 = .ok (.lcmp, 1) := dk_148 (dk_at dksJ12_min_2_0 2 rfl rfl)
theorem dJ12_min_2_3 : decode cJ12_min_2 3 = .ok (.ifCond .gt 7, 3) := dk_157 0 7 (dk_at dksJ12_min_2_0 3 rfl rfl)
theorem dJ12_min_2_6 : decode cJ12_min_2 6 = .ok (.lload_n 0, 1) := dk_30 (dk_at dksJ12_min_2_0 6 rfl rfl)
theorem dJ12_min_2_7 : decode cJ12_min_2 7 = .ok (.goto 4, 3) := dk_167 0 4 (dk_at dksJ12_min_2_0 7 rfl rfl)
theorem dJ12_min_2_10 : decode cJ12_min_2 10 = .ok (.lload_n 2, 1) := dk_32 (dk_at dksJ12_min_2_0 10 rfl rfl)
theorem dJ12_min_2_11 : decode cJ12_min_2 11 = .ok (.lreturn, 1) := dk_173 (dk_at dksJ12_min_2_0 11 rfl rfl)
theorem q119 : (Jvm.Cond.initialized "java/lang/Math") ∈ lw_all := lw_g (lw_at lw_m1 18 rfl) rfl
theorem q374 : (Jvm.Cond.static ({ cls := "java/lang/Math", name := "max", desc := "(II)I" } : Jvm.MethodName)) ∈ lw_all := lw_g (lw_at lw_m2 33 rfl) rfl
theorem q375 : (Jvm.Cond.code ({ cls := "java/lang/Math", name := "max", desc := "(II)I" } : Jvm.MethodName) prog_32_method_65_code (2 : Nat) (Option.some Jvm.ClassFile.FieldType.int)) ∈ lw_all := lw_g (lw_at lw_m2 34 rfl) rfl
theorem q439 : (Jvm.Cond.static ({ cls := "java/lang/Math", name := "min", desc := "(II)I" } : Jvm.MethodName)) ∈ lw_all := lw_g (lw_at lw_m2 98 rfl) rfl
theorem q440 : (Jvm.Cond.code ({ cls := "java/lang/Math", name := "min", desc := "(II)I" } : Jvm.MethodName) prog_32_method_69_code (2 : Nat) (Option.some Jvm.ClassFile.FieldType.int)) ∈ lw_all := lw_g (lw_at lw_m2 99 rfl) rfl
theorem q1909 : (Jvm.Cond.static ({ cls := "java/lang/Math", name := "max", desc := "(JJ)J" } : Jvm.MethodName)) ∈ lw_all := lw_g (lw_at lw_m8 128 rfl) rfl
theorem q1910 : (Jvm.Cond.code ({ cls := "java/lang/Math", name := "max", desc := "(JJ)J" } : Jvm.MethodName) prog_32_method_66_code (4 : Nat) (Option.some Jvm.ClassFile.FieldType.long)) ∈ lw_all := lw_g (lw_at lw_m8 129 rfl) rfl
theorem q1924 : (Jvm.Cond.static ({ cls := "java/lang/Math", name := "min", desc := "(JJ)J" } : Jvm.MethodName)) ∈ lw_all := lw_g (lw_at lw_m8 143 rfl) rfl
theorem q1925 : (Jvm.Cond.code ({ cls := "java/lang/Math", name := "min", desc := "(JJ)J" } : Jvm.MethodName) prog_32_method_70_code (4 : Nat) (Option.some Jvm.ClassFile.FieldType.long)) ∈ lw_all := lw_g (lw_at lw_m8 144 rfl) rfl

/-! jdk/internal/util/Preconditions -/
set_option maxRecDepth 100000
def RJ25 : String := "jdk/internal/util/Preconditions"
abbrev cJ25_checkFromToIndex : ByteArray := prog_88_method_12_code
def yJ25_checkFromToIndex : MethodName := ⟨RJ25, "checkFromToIndex", "(IIILjava/util/function/BiFunction;)I"⟩
def dkwJ25_checkFromToIndex_0 : List UInt8 := [26, 155, 0, 13, 26, 27, 163, 0, 8, 27, 28, 164, 0, 11, 45, 26, 27, 28, 184, 0, 99, 191, 26, 172]
abbrev dktJ25_checkFromToIndex_0 : List UInt8 := dkwJ25_checkFromToIndex_0 ++ []
theorem dksJ25_checkFromToIndex_0 : cJ25_checkFromToIndex.data.toList.drop 0 = dktJ25_checkFromToIndex_0 := by decide +kernel
theorem dJ25_checkFromToIndex_0 : decode cJ25_checkFromToIndex 0 = .ok (.iload_n 0, 1) := dk_26 (dk_at dksJ25_checkFromToIndex_0 0 rfl rfl)
theorem dJ25_checkFromToIndex_1 : decode cJ25_checkFromToIndex 1 = .ok (.ifCond .lt 13, 3) := dk_155 0 13 (dk_at dksJ25_checkFromToIndex_0 1 rfl rfl)
theorem dJ25_checkFromToIndex_4 : decode cJ25_checkFromToIndex 4 = .ok (.iload_n 0, 1) := dk_26 (dk_at dksJ25_checkFromToIndex_0 4 rfl rfl)
theorem dJ25_checkFromToIndex_5 : decode cJ25_checkFromToIndex 5 = .ok (.iload_n 1, 1) := dk_27 (dk_at dksJ25_checkFromToIndex_0 5 rfl rfl)
theorem dJ25_checkFromToIndex_6 : decode cJ25_checkFromToIndex 6 = .ok (.if_icmp .gt 8, 3) := dk_163 0 8 (dk_at dksJ25_checkFromToIndex_0 6 rfl rfl)
theorem dJ25_checkFromToIndex_9 : decode cJ25_checkFromToIndex 9 = .ok (.iload_n 1, 1) := dk_27 (dk_at dksJ25_checkFromToIndex_0 9 rfl rfl)
theorem dJ25_checkFromToIndex_10 : decode cJ25_checkFromToIndex 10 = .ok (.iload_n 2, 1) := dk_28 (dk_at dksJ25_checkFromToIndex_0 10 rfl rfl)
theorem dJ25_checkFromToIndex_11 : decode cJ25_checkFromToIndex 11 = .ok (.if_icmp .le 11, 3) := dk_164 0 11 (dk_at dksJ25_checkFromToIndex_0 11 rfl rfl)
theorem dJ25_checkFromToIndex_14 : decode cJ25_checkFromToIndex 14 = .ok (.aload_n 3, 1) := dk_45 (dk_at dksJ25_checkFromToIndex_0 14 rfl rfl)
theorem dJ25_checkFromToIndex_15 : decode cJ25_checkFromToIndex 15 = .ok (.iload_n 0, 1) := dk_26 (dk_at dksJ25_checkFromToIndex_0 15 rfl rfl)
theorem dJ25_checkFromToIndex_16 : decode cJ25_checkFromToIndex 16 = .ok (.iload_n 1, 1) := dk_27 (dk_at dksJ25_checkFromToIndex_0 16 rfl rfl)
theorem dJ25_checkFromToIndex_17 : decode cJ25_checkFromToIndex 17 = .ok (.iload_n 2, 1) := dk_28 (dk_at dksJ25_checkFromToIndex_0 17 rfl rfl)
theorem dJ25_checkFromToIndex_18 : decode cJ25_checkFromToIndex 18 = .ok (.invokestatic 99, 3) := dk_184 0 99 (dk_at dksJ25_checkFromToIndex_0 18 rfl rfl)
theorem dJ25_checkFromToIndex_21 : decode cJ25_checkFromToIndex 21 = .ok (.athrow, 1) := dk_191 (dk_at dksJ25_checkFromToIndex_0 21 rfl rfl)
theorem dJ25_checkFromToIndex_22 : decode cJ25_checkFromToIndex 22 = .ok (.iload_n 0, 1) := dk_26 (dk_at dksJ25_checkFromToIndex_0 22 rfl rfl)
theorem dJ25_checkFromToIndex_23 : decode cJ25_checkFromToIndex 23 = .ok (.ireturn, 1) := dk_172 (dk_at dksJ25_checkFromToIndex_0 23 rfl rfl)
abbrev cJ25_checkFromIndexSize : ByteArray := prog_88_method_13_code
def yJ25_checkFromIndexSize : MethodName := ⟨RJ25, "checkFromIndexSize", "(IIILjava/util/function/BiFunction;)I"⟩
def dkwJ25_checkFromIndexSize_1 : List UInt8 := [172]
abbrev dktJ25_checkFromIndexSize_1 : List UInt8 := dkwJ25_checkFromIndexSize_1 ++ []
def dkwJ25_checkFromIndexSize_0 : List UInt8 := [28, 26, 128, 27, 128, 155, 0, 10, 27, 28, 26, 100, 164, 0, 11, 45, 26, 27, 28, 184, 0, 103, 191, 26]
abbrev dktJ25_checkFromIndexSize_0 : List UInt8 := dkwJ25_checkFromIndexSize_0 ++ dktJ25_checkFromIndexSize_1
theorem dksJ25_checkFromIndexSize_0 : cJ25_checkFromIndexSize.data.toList.drop 0 = dktJ25_checkFromIndexSize_0 := by decide +kernel
theorem dksJ25_checkFromIndexSize_1 : cJ25_checkFromIndexSize.data.toList.drop 24 = dktJ25_checkFromIndexSize_1 := dk_seg dksJ25_checkFromIndexSize_0 24 rfl rfl
theorem dJ25_checkFromIndexSize_0 : decode cJ25_checkFromIndexSize 0 = .ok (.iload_n 2, 1) := dk_28 (dk_at dksJ25_checkFromIndexSize_0 0 rfl rfl)
theorem dJ25_checkFromIndexSize_1 : decode cJ25_checkFromIndexSize 1 = .ok (.iload_n 0, 1) := dk_26 (dk_at dksJ25_checkFromIndexSize_0 1 rfl rfl)
theorem dJ25_checkFromIndexSize_2 : decode cJ25_checkFromIndexSize 2 = .ok (.ior, 1) := dk_128 (dk_at dksJ25_checkFromIndexSize_0 2 rfl rfl)
theorem dJ25_checkFromIndexSize_3 : decode cJ25_checkFromIndexSize 3 = .ok (.iload_n 1, 1) := dk_27 (dk_at dksJ25_checkFromIndexSize_0 3 rfl rfl)
theorem dJ25_checkFromIndexSize_4 : decode cJ25_checkFromIndexSize 4 = .ok (.ior, 1) := dk_128 (dk_at dksJ25_checkFromIndexSize_0 4 rfl rfl)
theorem dJ25_checkFromIndexSize_5 : decode cJ25_checkFromIndexSize 5 = .ok (.ifCond .lt 10, 3) := dk_155 0 10 (dk_at dksJ25_checkFromIndexSize_0 5 rfl rfl)
theorem dJ25_checkFromIndexSize_8 : decode cJ25_checkFromIndexSize 8 = .ok (.iload_n 1, 1) := dk_27 (dk_at dksJ25_checkFromIndexSize_0 8 rfl rfl)
theorem dJ25_checkFromIndexSize_9 : decode cJ25_checkFromIndexSize 9 = .ok (.iload_n 2, 1) := dk_28 (dk_at dksJ25_checkFromIndexSize_0 9 rfl rfl)
theorem dJ25_checkFromIndexSize_10 : decode cJ25_checkFromIndexSize 10 = .ok (.iload_n 0, 1) := dk_26 (dk_at dksJ25_checkFromIndexSize_0 10 rfl rfl)
theorem dJ25_checkFromIndexSize_11 : decode cJ25_checkFromIndexSize 11 = .ok (.isub, 1) := dk_100 (dk_at dksJ25_checkFromIndexSize_0 11 rfl rfl)
theorem dJ25_checkFromIndexSize_12 : decode cJ25_checkFromIndexSize 12 = .ok (.if_icmp .le 11, 3) := dk_164 0 11 (dk_at dksJ25_checkFromIndexSize_0 12 rfl rfl)
theorem dJ25_checkFromIndexSize_15 : decode cJ25_checkFromIndexSize 15 = .ok (.aload_n 3, 1) := dk_45 (dk_at dksJ25_checkFromIndexSize_0 15 rfl rfl)
theorem dJ25_checkFromIndexSize_16 : decode cJ25_checkFromIndexSize 16 = .ok (.iload_n 0, 1) := dk_26 (dk_at dksJ25_checkFromIndexSize_0 16 rfl rfl)
theorem dJ25_checkFromIndexSize_17 : decode cJ25_checkFromIndexSize 17 = .ok (.iload_n 1, 1) := dk_27 (dk_at dksJ25_checkFromIndexSize_0 17 rfl rfl)
theorem dJ25_checkFromIndexSize_18 : decode cJ25_checkFromIndexSize 18 = .ok (.iload_n 2, 1) := dk_28 (dk_at dksJ25_checkFromIndexSize_0 18 rfl rfl)
theorem dJ25_checkFromIndexSize_19 : decode cJ25_checkFromIndexSize 19 = .ok (.invokestatic 103, 3) := dk_184 0 103 (dk_at dksJ25_checkFromIndexSize_0 19 rfl rfl)
theorem dJ25_checkFromIndexSize_22 : decode cJ25_checkFromIndexSize 22 = .ok (.athrow, 1) := dk_191 (dk_at dksJ25_checkFromIndexSize_0 22 rfl rfl)
theorem dJ25_checkFromIndexSize_23 : decode cJ25_checkFromIndexSize 23 = .ok (.iload_n 0, 1) := dk_26 (dk_at dksJ25_checkFromIndexSize_0 23 rfl rfl)
theorem dJ25_checkFromIndexSize_24 : decode cJ25_checkFromIndexSize 24 = .ok (.ireturn, 1) := dk_172 (dk_at dksJ25_checkFromIndexSize_1 0 rfl rfl)
abbrev cJ25_checkIndex : ByteArray := prog_88_method_11_code
def yJ25_checkIndex : MethodName := ⟨RJ25, "checkIndex", "(IILjava/util/function/BiFunction;)I"⟩
def dkwJ25_checkIndex_0 : List UInt8 := [26, 155, 0, 8, 26, 27, 161, 0, 10, 44, 26, 27, 184, 0, 95, 191, 26, 172]
abbrev dktJ25_checkIndex_0 : List UInt8 := dkwJ25_checkIndex_0 ++ []
theorem dksJ25_checkIndex_0 : cJ25_checkIndex.data.toList.drop 0 = dktJ25_checkIndex_0 := by decide +kernel
theorem dJ25_checkIndex_0 : decode cJ25_checkIndex 0 = .ok (.iload_n 0, 1) := dk_26 (dk_at dksJ25_checkIndex_0 0 rfl rfl)
theorem dJ25_checkIndex_1 : decode cJ25_checkIndex 1 = .ok (.ifCond .lt 8, 3) := dk_155 0 8 (dk_at dksJ25_checkIndex_0 1 rfl rfl)
theorem dJ25_checkIndex_4 : decode cJ25_checkIndex 4 = .ok (.iload_n 0, 1) := dk_26 (dk_at dksJ25_checkIndex_0 4 rfl rfl)
theorem dJ25_checkIndex_5 : decode cJ25_checkIndex 5 = .ok (.iload_n 1, 1) := dk_27 (dk_at dksJ25_checkIndex_0 5 rfl rfl)
theorem dJ25_checkIndex_6 : decode cJ25_checkIndex 6 = .ok (.if_icmp .lt 10, 3) := dk_161 0 10 (dk_at dksJ25_checkIndex_0 6 rfl rfl)
theorem dJ25_checkIndex_9 : decode cJ25_checkIndex 9 = .ok (.aload_n 2, 1) := dk_44 (dk_at dksJ25_checkIndex_0 9 rfl rfl)
theorem dJ25_checkIndex_10 : decode cJ25_checkIndex 10 = .ok (.iload_n 0, 1) := dk_26 (dk_at dksJ25_checkIndex_0 10 rfl rfl)
theorem dJ25_checkIndex_11 : decode cJ25_checkIndex 11 = .ok (.iload_n 1, 1) := dk_27 (dk_at dksJ25_checkIndex_0 11 rfl rfl)
theorem dJ25_checkIndex_12 : decode cJ25_checkIndex 12 = .ok (.invokestatic 95, 3) := dk_184 0 95 (dk_at dksJ25_checkIndex_0 12 rfl rfl)
theorem dJ25_checkIndex_15 : decode cJ25_checkIndex 15 = .ok (.athrow, 1) := dk_191 (dk_at dksJ25_checkIndex_0 15 rfl rfl)
theorem dJ25_checkIndex_16 : decode cJ25_checkIndex 16 = .ok (.iload_n 0, 1) := dk_26 (dk_at dksJ25_checkIndex_0 16 rfl rfl)
theorem dJ25_checkIndex_17 : decode cJ25_checkIndex 17 = .ok (.ireturn, 1) := dk_172 (dk_at dksJ25_checkIndex_0 17 rfl rfl)
theorem q137 : (Jvm.Cond.initialized "jdk/internal/util/Preconditions") ∈ lw_all := lw_g (lw_at lw_m1 36 rfl) rfl
theorem q813 : (Jvm.Cond.laysStatic "jdk/internal/util/Preconditions" "SIOOBE_FORMATTER" "Ljava/util/function/BiFunction;") ∈ lw_tbl := lw_at lw_m3 232 rfl
theorem q815 : (Jvm.Cond.static ({ cls := "jdk/internal/util/Preconditions", name := "checkFromToIndex", desc := "(IIILjava/util/function/BiFunction;)I" } : Jvm.MethodName)) ∈ lw_all := lw_g (lw_at lw_m3 234 rfl) rfl
theorem q816 : (Jvm.Cond.code ({ cls := "jdk/internal/util/Preconditions", name := "checkFromToIndex", desc := "(IIILjava/util/function/BiFunction;)I" } : Jvm.MethodName) prog_88_method_12_code (4 : Nat) (Option.some Jvm.ClassFile.FieldType.int)) ∈ lw_all := lw_g (lw_at lw_m3 235 rfl) rfl
theorem q861 : (Jvm.Cond.static ({ cls := "jdk/internal/util/Preconditions", name := "checkFromIndexSize", desc := "(IIILjava/util/function/BiFunction;)I" } : Jvm.MethodName)) ∈ lw_all := lw_g (lw_at lw_m4 40 rfl) rfl
theorem q862 : (Jvm.Cond.code ({ cls := "jdk/internal/util/Preconditions", name := "checkFromIndexSize", desc := "(IIILjava/util/function/BiFunction;)I" } : Jvm.MethodName) prog_88_method_13_code (4 : Nat) (Option.some Jvm.ClassFile.FieldType.int)) ∈ lw_all := lw_g (lw_at lw_m4 41 rfl) rfl
theorem q1388 : (Jvm.Cond.static ({ cls := "jdk/internal/util/Preconditions", name := "checkIndex", desc := "(IILjava/util/function/BiFunction;)I" } : Jvm.MethodName)) ∈ lw_all := lw_g (lw_at lw_m6 87 rfl) rfl
theorem q1389 : (Jvm.Cond.code ({ cls := "jdk/internal/util/Preconditions", name := "checkIndex", desc := "(IILjava/util/function/BiFunction;)I" } : Jvm.MethodName) prog_88_method_11_code (3 : Nat) (Option.some Jvm.ClassFile.FieldType.int)) ∈ lw_all := lw_g (lw_at lw_m6 88 rfl) rfl

/-! java/util/LinkedList$Node -/
set_option maxRecDepth 100000
abbrev cJ39_init : ByteArray := prog_79_method_1_code
def yJ39_init : MethodName := ⟨RJ39, "<init>", "(Ljava/util/LinkedList$Node;Ljava/lang/Object;Ljava/util/LinkedList$Node;)V"⟩
def dkwJ39_init_0 : List UInt8 := [42, 183, 0, 1, 42, 44, 181, 0, 7, 42, 45, 181, 0, 13, 42, 43, 181, 0, 17, 177]
abbrev dktJ39_init_0 : List UInt8 := dkwJ39_init_0 ++ []
theorem dksJ39_init_0 : cJ39_init.data.toList.drop 0 = dktJ39_init_0 := by decide +kernel
theorem dJ39_init_0 : decode cJ39_init 0 = .ok (.aload_n 0, 1) := dk_42 (dk_at dksJ39_init_0 0 rfl rfl)
theorem dJ39_init_1 : decode cJ39_init 1 = .ok (.invokespecial 1, 3) := dk_183 0 1 (dk_at dksJ39_init_0 1 rfl rfl)
theorem dJ39_init_4 : decode cJ39_init 4 = .ok (.aload_n 0, 1) := dk_42 (dk_at dksJ39_init_0 4 rfl rfl)
theorem dJ39_init_5 : decode cJ39_init 5 = .ok (.aload_n 2, 1) := dk_44 (dk_at dksJ39_init_0 5 rfl rfl)
theorem dJ39_init_6 : decode cJ39_init 6 = .ok (.putfield 7, 3) := dk_181 0 7 (dk_at dksJ39_init_0 6 rfl rfl)
theorem dJ39_init_9 : decode cJ39_init 9 = .ok (.aload_n 0, 1) := dk_42 (dk_at dksJ39_init_0 9 rfl rfl)
theorem dJ39_init_10 : decode cJ39_init 10 = .ok (.aload_n 3, 1) := dk_45 (dk_at dksJ39_init_0 10 rfl rfl)
theorem dJ39_init_11 : decode cJ39_init 11 = .ok (.putfield 13, 3) := dk_181 0 13 (dk_at dksJ39_init_0 11 rfl rfl)
theorem dJ39_init_14 : decode cJ39_init 14 = .ok (.aload_n 0, 1) := dk_42 (dk_at dksJ39_init_0 14 rfl rfl)
theorem dJ39_init_15 : decode cJ39_init 15 = .ok (.aload_n 1, 1) := dk_43 (dk_at dksJ39_init_0 15 rfl rfl)
theorem dJ39_init_16 : decode cJ39_init 16 = .ok (.putfield 17, 3) := dk_181 0 17 (dk_at dksJ39_init_0 16 rfl rfl)
theorem dJ39_init_19 : decode cJ39_init 19 = .ok (.return_, 1) := dk_177 (dk_at dksJ39_init_0 19 rfl rfl)
theorem q151 : (Jvm.Cond.initialized "java/util/LinkedList$Node") ∈ lw_all := lw_g (lw_at lw_m1 50 rfl) rfl
theorem q429 : (Jvm.Cond.selects "java/util/LinkedList$Node" ({ cls := "java/lang/Object", name := "getClass", desc := "()Ljava/lang/Class;" } : Jvm.MethodName) ({ cls := "java/lang/Object", name := "getClass", desc := "()Ljava/lang/Class;" } : Jvm.MethodName)) ∈ lw_all := lw_g (lw_at lw_m2 88 rfl) rfl
theorem q1724 : (Jvm.Cond.instantiable "java/util/LinkedList$Node" (3 : Nat)) ∈ lw_all := lw_g (lw_at lw_m7 183 rfl) rfl
theorem q1726 : (Jvm.Cond.instanceMethod ({ cls := "java/util/LinkedList$Node", name := "<init>", desc := "(Ljava/util/LinkedList$Node;Ljava/lang/Object;Ljava/util/LinkedList$Node;)V" } : Jvm.MethodName)) ∈ lw_all := lw_g (lw_at lw_m7 185 rfl) rfl
theorem q1727 : (Jvm.Cond.code ({ cls := "java/util/LinkedList$Node", name := "<init>", desc := "(Ljava/util/LinkedList$Node;Ljava/lang/Object;Ljava/util/LinkedList$Node;)V" } : Jvm.MethodName) prog_79_method_1_code (4 : Nat) (Option.none : Option Jvm.ClassFile.FieldType)) ∈ lw_all := lw_g (lw_at lw_m7 186 rfl) rfl
theorem q1728 : (Jvm.Cond.methodLink "java/util/LinkedList$Node" (1 : Nat) ({ cls := "java/lang/Object", name := "<init>", desc := "()V" } : Jvm.MethodName)) ∈ lw_all := lw_g (lw_at lw_m7 187 rfl) rfl
theorem q1729 : (Jvm.Cond.fieldLink "java/util/LinkedList$Node" (7 : Nat) "java/util/LinkedList$Node" "item" "Ljava/lang/Object;") ∈ lw_all := lw_g (lw_at lw_m7 188 rfl) rfl
theorem q1732 : (Jvm.Cond.fieldLink "java/util/LinkedList$Node" (13 : Nat) "java/util/LinkedList$Node" "next" "Ljava/util/LinkedList$Node;") ∈ lw_all := lw_g (lw_at lw_m7 191 rfl) rfl
theorem q1735 : (Jvm.Cond.fieldLink "java/util/LinkedList$Node" (17 : Nat) "java/util/LinkedList$Node" "prev" "Ljava/util/LinkedList$Node;") ∈ lw_all := lw_g (lw_at lw_m7 194 rfl) rfl
theorem q1738 : (Jvm.Cond.lays "java/util/LinkedList$Node" "java/util/LinkedList$Node" "item" "Ljava/lang/Object;") ∈ lw_all := lw_g (lw_at lw_m7 197 rfl) rfl
theorem q1739 : (Jvm.Cond.soleField "java/util/LinkedList$Node" "item") ∈ lw_all := lw_g (lw_at lw_m7 198 rfl) rfl
theorem q1740 : (Jvm.Cond.lays "java/util/LinkedList$Node" "java/util/LinkedList$Node" "next" "Ljava/util/LinkedList$Node;") ∈ lw_all := lw_g (lw_at lw_m7 199 rfl) rfl
theorem q1741 : (Jvm.Cond.soleField "java/util/LinkedList$Node" "next") ∈ lw_all := lw_g (lw_at lw_m7 200 rfl) rfl
theorem q1742 : (Jvm.Cond.lays "java/util/LinkedList$Node" "java/util/LinkedList$Node" "prev" "Ljava/util/LinkedList$Node;") ∈ lw_all := lw_g (lw_at lw_m7 201 rfl) rfl
theorem q1743 : (Jvm.Cond.soleField "java/util/LinkedList$Node" "prev") ∈ lw_all := lw_g (lw_at lw_m7 202 rfl) rfl
theorem q1744 : (Jvm.Cond.superclass "java/util/LinkedList$Node" "java/lang/Object") ∈ lw_all := lw_g (lw_at lw_m7 203 rfl) rfl
theorem q3966 : (Jvm.Cond.castable "java/util/LinkedList$Node" "java/lang/Object") ∈ lw_tbl := lw_at lw_m17 25 rfl

/-! TaxWorkbench$Bracket -/
set_option maxRecDepth 100000
abbrev cX4_init : ByteArray := prog_2_method_1_code
def yX4_init : MethodName := ⟨RX4, "<init>", "(II)V"⟩
def dkwX4_init_0 : List UInt8 := [42, 183, 0, 1, 42, 27, 181, 0, 7, 42, 28, 181, 0, 13, 177]
abbrev dktX4_init_0 : List UInt8 := dkwX4_init_0 ++ []
theorem dksX4_init_0 : cX4_init.data.toList.drop 0 = dktX4_init_0 := by decide +kernel
theorem dX4_init_0 : decode cX4_init 0 = .ok (.aload_n 0, 1) := dk_42 (dk_at dksX4_init_0 0 rfl rfl)
theorem dX4_init_1 : decode cX4_init 1 = .ok (.invokespecial 1, 3) := dk_183 0 1 (dk_at dksX4_init_0 1 rfl rfl)
theorem dX4_init_4 : decode cX4_init 4 = .ok (.aload_n 0, 1) := dk_42 (dk_at dksX4_init_0 4 rfl rfl)
theorem dX4_init_5 : decode cX4_init 5 = .ok (.iload_n 1, 1) := dk_27 (dk_at dksX4_init_0 5 rfl rfl)
theorem dX4_init_6 : decode cX4_init 6 = .ok (.putfield 7, 3) := dk_181 0 7 (dk_at dksX4_init_0 6 rfl rfl)
theorem dX4_init_9 : decode cX4_init 9 = .ok (.aload_n 0, 1) := dk_42 (dk_at dksX4_init_0 9 rfl rfl)
theorem dX4_init_10 : decode cX4_init 10 = .ok (.iload_n 2, 1) := dk_28 (dk_at dksX4_init_0 10 rfl rfl)
theorem dX4_init_11 : decode cX4_init 11 = .ok (.putfield 13, 3) := dk_181 0 13 (dk_at dksX4_init_0 11 rfl rfl)
theorem dX4_init_14 : decode cX4_init 14 = .ok (.return_, 1) := dk_177 (dk_at dksX4_init_0 14 rfl rfl)
theorem q105 : (Jvm.Cond.initialized "TaxWorkbench$Bracket") ∈ lw_all := lw_g (lw_at lw_m1 4 rfl) rfl
theorem q194 : (Jvm.Cond.instantiable "TaxWorkbench$Bracket" (2 : Nat)) ∈ lw_all := lw_g (lw_at lw_m1 93 rfl) rfl
theorem q196 : (Jvm.Cond.instanceMethod ({ cls := "TaxWorkbench$Bracket", name := "<init>", desc := "(II)V" } : Jvm.MethodName)) ∈ lw_all := lw_g (lw_at lw_m1 95 rfl) rfl
theorem q197 : (Jvm.Cond.code ({ cls := "TaxWorkbench$Bracket", name := "<init>", desc := "(II)V" } : Jvm.MethodName) prog_2_method_1_code (3 : Nat) (Option.none : Option Jvm.ClassFile.FieldType)) ∈ lw_all := lw_g (lw_at lw_m1 96 rfl) rfl
theorem q198 : (Jvm.Cond.methodLink "TaxWorkbench$Bracket" (1 : Nat) ({ cls := "java/lang/Object", name := "<init>", desc := "()V" } : Jvm.MethodName)) ∈ lw_all := lw_g (lw_at lw_m1 97 rfl) rfl
theorem q199 : (Jvm.Cond.fieldLink "TaxWorkbench$Bracket" (7 : Nat) "TaxWorkbench$Bracket" "threshold" "I") ∈ lw_all := lw_g (lw_at lw_m1 98 rfl) rfl
theorem q202 : (Jvm.Cond.fieldLink "TaxWorkbench$Bracket" (13 : Nat) "TaxWorkbench$Bracket" "rate" "I") ∈ lw_all := lw_g (lw_at lw_m1 101 rfl) rfl
theorem q205 : (Jvm.Cond.laysFinal "TaxWorkbench$Bracket" "TaxWorkbench$Bracket" "threshold" "I") ∈ lw_all := lw_g (lw_at lw_m1 104 rfl) rfl
theorem q206 : (Jvm.Cond.soleField "TaxWorkbench$Bracket" "threshold") ∈ lw_all := lw_g (lw_at lw_m1 105 rfl) rfl
theorem q207 : (Jvm.Cond.laysFinal "TaxWorkbench$Bracket" "TaxWorkbench$Bracket" "rate" "I") ∈ lw_all := lw_g (lw_at lw_m1 106 rfl) rfl
theorem q208 : (Jvm.Cond.soleField "TaxWorkbench$Bracket" "rate") ∈ lw_all := lw_g (lw_at lw_m1 107 rfl) rfl
theorem q209 : (Jvm.Cond.superclass "TaxWorkbench$Bracket" "java/lang/Object") ∈ lw_all := lw_g (lw_at lw_m1 108 rfl) rfl
theorem q387 : (Jvm.Cond.selects "TaxWorkbench$Bracket" ({ cls := "java/lang/Object", name := "getClass", desc := "()Ljava/lang/Class;" } : Jvm.MethodName) ({ cls := "java/lang/Object", name := "getClass", desc := "()Ljava/lang/Class;" } : Jvm.MethodName)) ∈ lw_all := lw_g (lw_at lw_m2 46 rfl) rfl
theorem q3952 : (Jvm.Cond.castable "TaxWorkbench$Bracket" "java/lang/Object") ∈ lw_tbl := lw_at lw_m17 11 rfl

/-! TaxWorkbench$Charge -/
set_option maxRecDepth 100000
abbrev cX11_init : ByteArray := prog_4_method_1_code
def yX11_init : MethodName := ⟨RX11, "<init>", "(II)V"⟩
def dkwX11_init_0 : List UInt8 := [42, 183, 0, 1, 42, 27, 181, 0, 7, 42, 28, 181, 0, 13, 177]
abbrev dktX11_init_0 : List UInt8 := dkwX11_init_0 ++ []
theorem dksX11_init_0 : cX11_init.data.toList.drop 0 = dktX11_init_0 := by decide +kernel
theorem dX11_init_0 : decode cX11_init 0 = .ok (.aload_n 0, 1) := dk_42 (dk_at dksX11_init_0 0 rfl rfl)
theorem dX11_init_1 : decode cX11_init 1 = .ok (.invokespecial 1, 3) := dk_183 0 1 (dk_at dksX11_init_0 1 rfl rfl)
theorem dX11_init_4 : decode cX11_init 4 = .ok (.aload_n 0, 1) := dk_42 (dk_at dksX11_init_0 4 rfl rfl)
theorem dX11_init_5 : decode cX11_init 5 = .ok (.iload_n 1, 1) := dk_27 (dk_at dksX11_init_0 5 rfl rfl)
theorem dX11_init_6 : decode cX11_init 6 = .ok (.putfield 7, 3) := dk_181 0 7 (dk_at dksX11_init_0 6 rfl rfl)
theorem dX11_init_9 : decode cX11_init 9 = .ok (.aload_n 0, 1) := dk_42 (dk_at dksX11_init_0 9 rfl rfl)
theorem dX11_init_10 : decode cX11_init 10 = .ok (.iload_n 2, 1) := dk_28 (dk_at dksX11_init_0 10 rfl rfl)
theorem dX11_init_11 : decode cX11_init 11 = .ok (.putfield 13, 3) := dk_181 0 13 (dk_at dksX11_init_0 11 rfl rfl)
theorem dX11_init_14 : decode cX11_init 14 = .ok (.return_, 1) := dk_177 (dk_at dksX11_init_0 14 rfl rfl)
theorem q159 : (Jvm.Cond.initialized "TaxWorkbench$Charge") ∈ lw_all := lw_g (lw_at lw_m1 58 rfl) rfl
theorem q389 : (Jvm.Cond.selects "TaxWorkbench$Charge" ({ cls := "java/lang/Object", name := "getClass", desc := "()Ljava/lang/Class;" } : Jvm.MethodName) ({ cls := "java/lang/Object", name := "getClass", desc := "()Ljava/lang/Class;" } : Jvm.MethodName)) ∈ lw_all := lw_g (lw_at lw_m2 48 rfl) rfl
theorem q2264 : (Jvm.Cond.instantiable "TaxWorkbench$Charge" (2 : Nat)) ∈ lw_all := lw_g (lw_at lw_m10 3 rfl) rfl
theorem q2266 : (Jvm.Cond.instanceMethod ({ cls := "TaxWorkbench$Charge", name := "<init>", desc := "(II)V" } : Jvm.MethodName)) ∈ lw_all := lw_g (lw_at lw_m10 5 rfl) rfl
theorem q2267 : (Jvm.Cond.code ({ cls := "TaxWorkbench$Charge", name := "<init>", desc := "(II)V" } : Jvm.MethodName) prog_4_method_1_code (3 : Nat) (Option.none : Option Jvm.ClassFile.FieldType)) ∈ lw_all := lw_g (lw_at lw_m10 6 rfl) rfl
theorem q2268 : (Jvm.Cond.methodLink "TaxWorkbench$Charge" (1 : Nat) ({ cls := "java/lang/Object", name := "<init>", desc := "()V" } : Jvm.MethodName)) ∈ lw_all := lw_g (lw_at lw_m10 7 rfl) rfl
theorem q2269 : (Jvm.Cond.fieldLink "TaxWorkbench$Charge" (7 : Nat) "TaxWorkbench$Charge" "threshold" "I") ∈ lw_all := lw_g (lw_at lw_m10 8 rfl) rfl
theorem q2272 : (Jvm.Cond.fieldLink "TaxWorkbench$Charge" (13 : Nat) "TaxWorkbench$Charge" "amount" "I") ∈ lw_all := lw_g (lw_at lw_m10 11 rfl) rfl
theorem q2275 : (Jvm.Cond.laysFinal "TaxWorkbench$Charge" "TaxWorkbench$Charge" "threshold" "I") ∈ lw_all := lw_g (lw_at lw_m10 14 rfl) rfl
theorem q2276 : (Jvm.Cond.soleField "TaxWorkbench$Charge" "threshold") ∈ lw_all := lw_g (lw_at lw_m10 15 rfl) rfl
theorem q2277 : (Jvm.Cond.laysFinal "TaxWorkbench$Charge" "TaxWorkbench$Charge" "amount" "I") ∈ lw_all := lw_g (lw_at lw_m10 16 rfl) rfl
theorem q2278 : (Jvm.Cond.soleField "TaxWorkbench$Charge" "amount") ∈ lw_all := lw_g (lw_at lw_m10 17 rfl) rfl
theorem q2279 : (Jvm.Cond.superclass "TaxWorkbench$Charge" "java/lang/Object") ∈ lw_all := lw_g (lw_at lw_m10 18 rfl) rfl
theorem q3971 : (Jvm.Cond.castable "TaxWorkbench$Charge" "java/lang/Object") ∈ lw_tbl := lw_at lw_m17 30 rfl

/-! TaxWorkbench$Person -/
set_option maxRecDepth 100000
abbrev cX5_init : ByteArray := prog_8_method_1_code
def yX5_init : MethodName := ⟨RX5, "<init>", "(III)V"⟩
def dkwX5_init_0 : List UInt8 := [42, 183, 0, 1, 42, 27, 181, 0, 7, 42, 28, 181, 0, 13, 42, 29, 181, 0, 16, 177]
abbrev dktX5_init_0 : List UInt8 := dkwX5_init_0 ++ []
theorem dksX5_init_0 : cX5_init.data.toList.drop 0 = dktX5_init_0 := by decide +kernel
theorem dX5_init_0 : decode cX5_init 0 = .ok (.aload_n 0, 1) := dk_42 (dk_at dksX5_init_0 0 rfl rfl)
theorem dX5_init_1 : decode cX5_init 1 = .ok (.invokespecial 1, 3) := dk_183 0 1 (dk_at dksX5_init_0 1 rfl rfl)
theorem dX5_init_4 : decode cX5_init 4 = .ok (.aload_n 0, 1) := dk_42 (dk_at dksX5_init_0 4 rfl rfl)
theorem dX5_init_5 : decode cX5_init 5 = .ok (.iload_n 1, 1) := dk_27 (dk_at dksX5_init_0 5 rfl rfl)
theorem dX5_init_6 : decode cX5_init 6 = .ok (.putfield 7, 3) := dk_181 0 7 (dk_at dksX5_init_0 6 rfl rfl)
theorem dX5_init_9 : decode cX5_init 9 = .ok (.aload_n 0, 1) := dk_42 (dk_at dksX5_init_0 9 rfl rfl)
theorem dX5_init_10 : decode cX5_init 10 = .ok (.iload_n 2, 1) := dk_28 (dk_at dksX5_init_0 10 rfl rfl)
theorem dX5_init_11 : decode cX5_init 11 = .ok (.putfield 13, 3) := dk_181 0 13 (dk_at dksX5_init_0 11 rfl rfl)
theorem dX5_init_14 : decode cX5_init 14 = .ok (.aload_n 0, 1) := dk_42 (dk_at dksX5_init_0 14 rfl rfl)
theorem dX5_init_15 : decode cX5_init 15 = .ok (.iload_n 3, 1) := dk_29 (dk_at dksX5_init_0 15 rfl rfl)
theorem dX5_init_16 : decode cX5_init 16 = .ok (.putfield 16, 3) := dk_181 0 16 (dk_at dksX5_init_0 16 rfl rfl)
theorem dX5_init_19 : decode cX5_init 19 = .ok (.return_, 1) := dk_177 (dk_at dksX5_init_0 19 rfl rfl)
theorem q117 : (Jvm.Cond.initialized "TaxWorkbench$Person") ∈ lw_all := lw_g (lw_at lw_m1 16 rfl) rfl
theorem q336 : (Jvm.Cond.instantiable "TaxWorkbench$Person" (3 : Nat)) ∈ lw_all := lw_g (lw_at lw_m1 235 rfl) rfl
theorem q338 : (Jvm.Cond.instanceMethod ({ cls := "TaxWorkbench$Person", name := "<init>", desc := "(III)V" } : Jvm.MethodName)) ∈ lw_all := lw_g (lw_at lw_m1 237 rfl) rfl
theorem q339 : (Jvm.Cond.code ({ cls := "TaxWorkbench$Person", name := "<init>", desc := "(III)V" } : Jvm.MethodName) prog_8_method_1_code (4 : Nat) (Option.none : Option Jvm.ClassFile.FieldType)) ∈ lw_all := lw_g (lw_at lw_m1 238 rfl) rfl
theorem q340 : (Jvm.Cond.methodLink "TaxWorkbench$Person" (1 : Nat) ({ cls := "java/lang/Object", name := "<init>", desc := "()V" } : Jvm.MethodName)) ∈ lw_all := lw_g (lw_at lw_m1 239 rfl) rfl
theorem q341 : (Jvm.Cond.fieldLink "TaxWorkbench$Person" (7 : Nat) "TaxWorkbench$Person" "earned" "I") ∈ lw_all := lw_g (lw_at lw_m2 0 rfl) rfl
theorem q343 : (Jvm.Cond.fieldLink "TaxWorkbench$Person" (13 : Nat) "TaxWorkbench$Person" "other" "I") ∈ lw_all := lw_g (lw_at lw_m2 2 rfl) rfl
theorem q345 : (Jvm.Cond.fieldLink "TaxWorkbench$Person" (16 : Nat) "TaxWorkbench$Person" "dependents" "I") ∈ lw_all := lw_g (lw_at lw_m2 4 rfl) rfl
theorem q347 : (Jvm.Cond.laysFinal "TaxWorkbench$Person" "TaxWorkbench$Person" "earned" "I") ∈ lw_all := lw_g (lw_at lw_m2 6 rfl) rfl
theorem q348 : (Jvm.Cond.soleField "TaxWorkbench$Person" "earned") ∈ lw_all := lw_g (lw_at lw_m2 7 rfl) rfl
theorem q349 : (Jvm.Cond.laysFinal "TaxWorkbench$Person" "TaxWorkbench$Person" "other" "I") ∈ lw_all := lw_g (lw_at lw_m2 8 rfl) rfl
theorem q350 : (Jvm.Cond.soleField "TaxWorkbench$Person" "other") ∈ lw_all := lw_g (lw_at lw_m2 9 rfl) rfl
theorem q351 : (Jvm.Cond.laysFinal "TaxWorkbench$Person" "TaxWorkbench$Person" "dependents" "I") ∈ lw_all := lw_g (lw_at lw_m2 10 rfl) rfl
theorem q352 : (Jvm.Cond.soleField "TaxWorkbench$Person" "dependents") ∈ lw_all := lw_g (lw_at lw_m2 11 rfl) rfl
theorem q353 : (Jvm.Cond.superclass "TaxWorkbench$Person" "java/lang/Object") ∈ lw_all := lw_g (lw_at lw_m2 12 rfl) rfl
theorem q393 : (Jvm.Cond.selects "TaxWorkbench$Person" ({ cls := "java/lang/Object", name := "getClass", desc := "()Ljava/lang/Class;" } : Jvm.MethodName) ({ cls := "java/lang/Object", name := "getClass", desc := "()Ljava/lang/Class;" } : Jvm.MethodName)) ∈ lw_all := lw_g (lw_at lw_m2 52 rfl) rfl
theorem q3948 : (Jvm.Cond.castable "TaxWorkbench$Person" "java/lang/Object") ∈ lw_tbl := lw_at lw_m17 7 rfl

/-! TaxWorkbench$Case -/
set_option maxRecDepth 100000
abbrev cX7_init : ByteArray := prog_3_method_1_code
def yX7_init : MethodName := ⟨RX7, "<init>", "()V"⟩
def dkwX7_init_0 : List UInt8 := [42, 183, 0, 3, 42, 16, 6, 188, 11, 181, 0, 9, 177]
abbrev dktX7_init_0 : List UInt8 := dkwX7_init_0 ++ []
theorem dksX7_init_0 : cX7_init.data.toList.drop 0 = dktX7_init_0 := by decide +kernel
theorem dX7_init_0 : decode cX7_init 0 = .ok (.aload_n 0, 1) := dk_42 (dk_at dksX7_init_0 0 rfl rfl)
theorem dX7_init_1 : decode cX7_init 1 = .ok (.invokespecial 3, 3) := dk_183 0 3 (dk_at dksX7_init_0 1 rfl rfl)
theorem dX7_init_4 : decode cX7_init 4 = .ok (.aload_n 0, 1) := dk_42 (dk_at dksX7_init_0 4 rfl rfl)
theorem dX7_init_5 : decode cX7_init 5 = .ok (.bipush 6, 2) := dk_16 6 (dk_at dksX7_init_0 5 rfl rfl)
theorem dX7_init_7 : decode cX7_init 7 = .ok (.newarray .long, 2) := dk_188_11 (dk_at dksX7_init_0 7 rfl rfl)
theorem dX7_init_9 : decode cX7_init 9 = .ok (.putfield 9, 3) := dk_181 0 9 (dk_at dksX7_init_0 9 rfl rfl)
theorem dX7_init_12 : decode cX7_init 12 = .ok (.return_, 1) := dk_177 (dk_at dksX7_init_0 12 rfl rfl)
abbrev cX7_set : ByteArray := prog_3_method_3_code
def yX7_set : MethodName := ⟨RX7, "set", "(IIII)V"⟩
def dkwX7_set_0 : List UInt8 := [42, 27, 181, 0, 28, 42, 27, 28, 96, 181, 0, 15, 42, 29, 181, 0, 31, 42, 21, 4, 181, 0, 19, 177]
abbrev dktX7_set_0 : List UInt8 := dkwX7_set_0 ++ []
theorem dksX7_set_0 : cX7_set.data.toList.drop 0 = dktX7_set_0 := by decide +kernel
theorem dX7_set_0 : decode cX7_set 0 = .ok (.aload_n 0, 1) := dk_42 (dk_at dksX7_set_0 0 rfl rfl)
theorem dX7_set_1 : decode cX7_set 1 = .ok (.iload_n 1, 1) := dk_27 (dk_at dksX7_set_0 1 rfl rfl)
theorem dX7_set_2 : decode cX7_set 2 = .ok (.putfield 28, 3) := dk_181 0 28 (dk_at dksX7_set_0 2 rfl rfl)
theorem dX7_set_5 : decode cX7_set 5 = .ok (.aload_n 0, 1) := dk_42 (dk_at dksX7_set_0 5 rfl rfl)
theorem dX7_set_6 : decode cX7_set 6 = .ok (.iload_n 1, 1) := dk_27 (dk_at dksX7_set_0 6 rfl rfl)
theorem dX7_set_7 : decode cX7_set 7 = .ok (.iload_n 2, 1) := dk_28 (dk_at dksX7_set_0 7 rfl rfl)
theorem dX7_set_8 : decode cX7_set 8 = .ok (.iadd, 1) := dk_96 (dk_at dksX7_set_0 8 rfl rfl)
theorem dX7_set_9 : decode cX7_set 9 = .ok (.putfield 15, 3) := dk_181 0 15 (dk_at dksX7_set_0 9 rfl rfl)
theorem dX7_set_12 : decode cX7_set 12 = .ok (.aload_n 0, 1) := dk_42 (dk_at dksX7_set_0 12 rfl rfl)
theorem dX7_set_13 : decode cX7_set 13 = .ok (.iload_n 3, 1) := dk_29 (dk_at dksX7_set_0 13 rfl rfl)
theorem dX7_set_14 : decode cX7_set 14 = .ok (.putfield 31, 3) := dk_181 0 31 (dk_at dksX7_set_0 14 rfl rfl)
theorem dX7_set_17 : decode cX7_set 17 = .ok (.aload_n 0, 1) := dk_42 (dk_at dksX7_set_0 17 rfl rfl)
theorem dX7_set_18 : decode cX7_set 18 = .ok (.iload 4, 2) := dk_21 4 (dk_at dksX7_set_0 18 rfl rfl)
theorem dX7_set_20 : decode cX7_set 20 = .ok (.putfield 19, 3) := dk_181 0 19 (dk_at dksX7_set_0 20 rfl rfl)
theorem dX7_set_23 : decode cX7_set 23 = .ok (.return_, 1) := dk_177 (dk_at dksX7_set_0 23 rfl rfl)
abbrev cX7_above : ByteArray := prog_3_method_2_code
def yX7_above : MethodName := ⟨RX7, "above", "(I)J"⟩
def dkwX7_above_0 : List UInt8 := [9, 42, 180, 0, 15, 133, 27, 133, 42, 180, 0, 19, 133, 105, 101, 184, 0, 22, 173]
abbrev dktX7_above_0 : List UInt8 := dkwX7_above_0 ++ []
theorem dksX7_above_0 : cX7_above.data.toList.drop 0 = dktX7_above_0 := by decide +kernel
theorem dX7_above_0 : decode cX7_above 0 = .ok (.lconst 0, 1) := dk_9 (dk_at dksX7_above_0 0 rfl rfl)
theorem dX7_above_1 : decode cX7_above 1 = .ok (.aload_n 0, 1) := dk_42 (dk_at dksX7_above_0 1 rfl rfl)
theorem dX7_above_2 : decode cX7_above 2 = .ok (.getfield 15, 3) := dk_180 0 15 (dk_at dksX7_above_0 2 rfl rfl)
theorem dX7_above_5 : decode cX7_above 5 = .ok (.i2l, 1) := dk_133 (dk_at dksX7_above_0 5 rfl rfl)
theorem dX7_above_6 : decode cX7_above 6 = .ok (.iload_n 1, 1) := dk_27 (dk_at dksX7_above_0 6 rfl rfl)
theorem dX7_above_7 : decode cX7_above 7 = .ok (.i2l, 1) := dk_133 (dk_at dksX7_above_0 7 rfl rfl)
theorem dX7_above_8 : decode cX7_above 8 = .ok (.aload_n 0, 1) := dk_42 (dk_at dksX7_above_0 8 rfl rfl)
theorem dX7_above_9 : decode cX7_above 9 = .ok (.getfield 19, 3) := dk_180 0 19 (dk_at dksX7_above_0 9 rfl rfl)
theorem dX7_above_12 : decode cX7_above 12 = .ok (.i2l, 1) := dk_133 (dk_at dksX7_above_0 12 rfl rfl)
theorem dX7_above_13 : decode cX7_above 13 = .ok (.lmul, 1) := dk_105 (dk_at dksX7_above_0 13 rfl rfl)
theorem dX7_above_14 : decode cX7_above 14 = .ok (.lsub, 1) := dk_101 (dk_at dksX7_above_0 14 rfl rfl)
theorem dX7_above_15 : decode cX7_above 15 = .ok (.invokestatic 22, 3) := dk_184 0 22 (dk_at dksX7_above_0 15 rfl rfl)
theorem dX7_above_18 : decode cX7_above 18 = .ok (.lreturn, 1) := dk_173 (dk_at dksX7_above_0 18 rfl rfl)
theorem q124 : (Jvm.Cond.initialized "TaxWorkbench$Case") ∈ lw_all := lw_g (lw_at lw_m1 23 rfl) rfl
theorem q388 : (Jvm.Cond.selects "TaxWorkbench$Case" ({ cls := "java/lang/Object", name := "getClass", desc := "()Ljava/lang/Class;" } : Jvm.MethodName) ({ cls := "java/lang/Object", name := "getClass", desc := "()Ljava/lang/Class;" } : Jvm.MethodName)) ∈ lw_all := lw_g (lw_at lw_m2 47 rfl) rfl
theorem q495 : (Jvm.Cond.instantiable "TaxWorkbench$Case" (5 : Nat)) ∈ lw_all := lw_g (lw_at lw_m2 154 rfl) rfl
theorem q497 : (Jvm.Cond.instanceMethod ({ cls := "TaxWorkbench$Case", name := "<init>", desc := "()V" } : Jvm.MethodName)) ∈ lw_all := lw_g (lw_at lw_m2 156 rfl) rfl
theorem q498 : (Jvm.Cond.code ({ cls := "TaxWorkbench$Case", name := "<init>", desc := "()V" } : Jvm.MethodName) prog_3_method_1_code (1 : Nat) (Option.none : Option Jvm.ClassFile.FieldType)) ∈ lw_all := lw_g (lw_at lw_m2 157 rfl) rfl
theorem q499 : (Jvm.Cond.methodLink "TaxWorkbench$Case" (3 : Nat) ({ cls := "java/lang/Object", name := "<init>", desc := "()V" } : Jvm.MethodName)) ∈ lw_all := lw_g (lw_at lw_m2 158 rfl) rfl
theorem q500 : (Jvm.Cond.fieldLink "TaxWorkbench$Case" (28 : Nat) "TaxWorkbench$Case" "earned" "I") ∈ lw_all := lw_g (lw_at lw_m2 159 rfl) rfl
theorem q502 : (Jvm.Cond.fieldLink "TaxWorkbench$Case" (15 : Nat) "TaxWorkbench$Case" "income" "I") ∈ lw_all := lw_g (lw_at lw_m2 161 rfl) rfl
theorem q505 : (Jvm.Cond.fieldLink "TaxWorkbench$Case" (31 : Nat) "TaxWorkbench$Case" "dependents" "I") ∈ lw_all := lw_g (lw_at lw_m2 164 rfl) rfl
theorem q507 : (Jvm.Cond.fieldLink "TaxWorkbench$Case" (19 : Nat) "TaxWorkbench$Case" "factor" "I") ∈ lw_all := lw_g (lw_at lw_m2 166 rfl) rfl
theorem q510 : (Jvm.Cond.fieldLink "TaxWorkbench$Case" (9 : Nat) "TaxWorkbench$Case" "carried" "[J") ∈ lw_all := lw_g (lw_at lw_m2 169 rfl) rfl
theorem q513 : (Jvm.Cond.lays "TaxWorkbench$Case" "TaxWorkbench$Case" "earned" "I") ∈ lw_all := lw_g (lw_at lw_m2 172 rfl) rfl
theorem q514 : (Jvm.Cond.soleField "TaxWorkbench$Case" "earned") ∈ lw_all := lw_g (lw_at lw_m2 173 rfl) rfl
theorem q515 : (Jvm.Cond.lays "TaxWorkbench$Case" "TaxWorkbench$Case" "income" "I") ∈ lw_all := lw_g (lw_at lw_m2 174 rfl) rfl
theorem q516 : (Jvm.Cond.soleField "TaxWorkbench$Case" "income") ∈ lw_all := lw_g (lw_at lw_m2 175 rfl) rfl
theorem q517 : (Jvm.Cond.lays "TaxWorkbench$Case" "TaxWorkbench$Case" "dependents" "I") ∈ lw_all := lw_g (lw_at lw_m2 176 rfl) rfl
theorem q518 : (Jvm.Cond.soleField "TaxWorkbench$Case" "dependents") ∈ lw_all := lw_g (lw_at lw_m2 177 rfl) rfl
theorem q519 : (Jvm.Cond.lays "TaxWorkbench$Case" "TaxWorkbench$Case" "factor" "I") ∈ lw_all := lw_g (lw_at lw_m2 178 rfl) rfl
theorem q520 : (Jvm.Cond.soleField "TaxWorkbench$Case" "factor") ∈ lw_all := lw_g (lw_at lw_m2 179 rfl) rfl
theorem q521 : (Jvm.Cond.laysFinal "TaxWorkbench$Case" "TaxWorkbench$Case" "carried" "[J") ∈ lw_all := lw_g (lw_at lw_m2 180 rfl) rfl
theorem q522 : (Jvm.Cond.soleField "TaxWorkbench$Case" "carried") ∈ lw_all := lw_g (lw_at lw_m2 181 rfl) rfl
theorem q523 : (Jvm.Cond.superclass "TaxWorkbench$Case" "java/lang/Object") ∈ lw_all := lw_g (lw_at lw_m2 182 rfl) rfl
theorem q1889 : (Jvm.Cond.instanceMethod ({ cls := "TaxWorkbench$Case", name := "set", desc := "(IIII)V" } : Jvm.MethodName)) ∈ lw_all := lw_g (lw_at lw_m8 108 rfl) rfl
theorem q1890 : (Jvm.Cond.selects "TaxWorkbench$Case" ({ cls := "TaxWorkbench$Case", name := "set", desc := "(IIII)V" } : Jvm.MethodName) ({ cls := "TaxWorkbench$Case", name := "set", desc := "(IIII)V" } : Jvm.MethodName)) ∈ lw_all := lw_g (lw_at lw_m8 109 rfl) rfl
theorem q1891 : (Jvm.Cond.code ({ cls := "TaxWorkbench$Case", name := "set", desc := "(IIII)V" } : Jvm.MethodName) prog_3_method_3_code (5 : Nat) (Option.none : Option Jvm.ClassFile.FieldType)) ∈ lw_all := lw_g (lw_at lw_m8 110 rfl) rfl
theorem q1905 : (Jvm.Cond.instanceMethod ({ cls := "TaxWorkbench$Case", name := "above", desc := "(I)J" } : Jvm.MethodName)) ∈ lw_all := lw_g (lw_at lw_m8 124 rfl) rfl
theorem q1906 : (Jvm.Cond.selects "TaxWorkbench$Case" ({ cls := "TaxWorkbench$Case", name := "above", desc := "(I)J" } : Jvm.MethodName) ({ cls := "TaxWorkbench$Case", name := "above", desc := "(I)J" } : Jvm.MethodName)) ∈ lw_all := lw_g (lw_at lw_m8 125 rfl) rfl
theorem q1907 : (Jvm.Cond.code ({ cls := "TaxWorkbench$Case", name := "above", desc := "(I)J" } : Jvm.MethodName) prog_3_method_2_code (2 : Nat) (Option.some Jvm.ClassFile.FieldType.long)) ∈ lw_all := lw_g (lw_at lw_m8 126 rfl) rfl
theorem q1908 : (Jvm.Cond.methodLink "TaxWorkbench$Case" (22 : Nat) ({ cls := "java/lang/Math", name := "max", desc := "(JJ)J" } : Jvm.MethodName)) ∈ lw_all := lw_g (lw_at lw_m8 127 rfl) rfl
theorem q3958 : (Jvm.Cond.castable "TaxWorkbench$Case" "java/lang/Object") ∈ lw_tbl := lw_at lw_m17 17 rfl

/-! TaxWorkbench$Credit -/
set_option maxRecDepth 100000
abbrev cX12_value : ByteArray := prog_6_method_3_code
def yX12_value : MethodName := ⟨RX12, "value", "(LTaxWorkbench$Case;)J"⟩
def dkwX12_value_3 : List UInt8 := [182, 0, 61, 105, 101, 184, 0, 65, 173]
abbrev dktX12_value_3 : List UInt8 := dkwX12_value_3 ++ []
def dkwX12_value_2 : List UInt8 := [133, 105, 184, 0, 55, 65, 9, 32, 42, 180, 0, 36, 133, 20, 0, 50, 105, 43, 42, 180, 0, 33]
abbrev dktX12_value_2 : List UInt8 := dkwX12_value_2 ++ dktX12_value_3
def dkwX12_value_1 : List UInt8 := [133, 105, 65, 42, 180, 0, 30, 158, 0, 23, 32, 42, 180, 0, 30, 133, 20, 0, 50, 105, 43, 180, 0, 52]
abbrev dktX12_value_1 : List UInt8 := dkwX12_value_1 ++ dktX12_value_2
def dkwX12_value_0 : List UInt8 := [42, 180, 0, 27, 133, 20, 0, 43, 105, 42, 180, 0, 39, 153, 0, 10, 43, 180, 0, 45, 167, 0, 4, 4]
abbrev dktX12_value_0 : List UInt8 := dkwX12_value_0 ++ dktX12_value_1
theorem dksX12_value_0 : cX12_value.data.toList.drop 0 = dktX12_value_0 := by decide +kernel
theorem dksX12_value_1 : cX12_value.data.toList.drop 24 = dktX12_value_1 := dk_seg dksX12_value_0 24 rfl rfl
theorem dksX12_value_2 : cX12_value.data.toList.drop 48 = dktX12_value_2 := dk_seg dksX12_value_1 24 rfl rfl
theorem dksX12_value_3 : cX12_value.data.toList.drop 70 = dktX12_value_3 := dk_seg dksX12_value_2 22 rfl rfl
theorem dX12_value_0 : decode cX12_value 0 = .ok (.aload_n 0, 1) := dk_42 (dk_at dksX12_value_0 0 rfl rfl)
theorem dX12_value_1 : decode cX12_value 1 = .ok (.getfield 27, 3) := dk_180 0 27 (dk_at dksX12_value_0 1 rfl rfl)
theorem dX12_value_4 : decode cX12_value 4 = .ok (.i2l, 1) := dk_133 (dk_at dksX12_value_0 4 rfl rfl)
theorem dX12_value_5 : decode cX12_value 5 = .ok (.ldc2_w 43, 3) := dk_20 0 43 (dk_at dksX12_value_0 5 rfl rfl)
theorem dX12_value_8 : decode cX12_value 8 = .ok (.lmul, 1) := dk_105 (dk_at dksX12_value_0 8 rfl rfl)
theorem dX12_value_9 : decode cX12_value 9 = .ok (.aload_n 0, 1) := dk_42 (dk_at dksX12_value_0 9 rfl rfl)
theorem dX12_value_10 : decode cX12_value 10 = .ok (.getfield 39, 3) := dk_180 0 39 (dk_at dksX12_value_0 10 rfl rfl)
theorem dX12_value_13 : decode cX12_value 13 = .ok (.ifCond .eq 10, 3) := dk_153 0 10 (dk_at dksX12_value_0 13 rfl rfl)
theorem dX12_value_16 : decode cX12_value 16 = .ok (.aload_n 1, 1) := dk_43 (dk_at dksX12_value_0 16 rfl rfl)
theorem dX12_value_17 : decode cX12_value 17 = .ok (.getfield 45, 3) := dk_180 0 45 (dk_at dksX12_value_0 17 rfl rfl)
theorem dX12_value_20 : decode cX12_value 20 = .ok (.goto 4, 3) := dk_167 0 4 (dk_at dksX12_value_0 20 rfl rfl)
theorem dX12_value_23 : decode cX12_value 23 = .ok (.iconst 1, 1) := dk_4 (dk_at dksX12_value_0 23 rfl rfl)
theorem dX12_value_24 : decode cX12_value 24 = .ok (.i2l, 1) := dk_133 (dk_at dksX12_value_1 0 rfl rfl)
theorem dX12_value_25 : decode cX12_value 25 = .ok (.lmul, 1) := dk_105 (dk_at dksX12_value_1 1 rfl rfl)
theorem dX12_value_26 : decode cX12_value 26 = .ok (.lstore_n 2, 1) := dk_65 (dk_at dksX12_value_1 2 rfl rfl)
theorem dX12_value_27 : decode cX12_value 27 = .ok (.aload_n 0, 1) := dk_42 (dk_at dksX12_value_1 3 rfl rfl)
theorem dX12_value_28 : decode cX12_value 28 = .ok (.getfield 30, 3) := dk_180 0 30 (dk_at dksX12_value_1 4 rfl rfl)
theorem dX12_value_31 : decode cX12_value 31 = .ok (.ifCond .le 23, 3) := dk_158 0 23 (dk_at dksX12_value_1 7 rfl rfl)
theorem dX12_value_34 : decode cX12_value 34 = .ok (.lload_n 2, 1) := dk_32 (dk_at dksX12_value_1 10 rfl rfl)
theorem dX12_value_35 : decode cX12_value 35 = .ok (.aload_n 0, 1) := dk_42 (dk_at dksX12_value_1 11 rfl rfl)
theorem dX12_value_36 : decode cX12_value 36 = .ok (.getfield 30, 3) := dk_180 0 30 (dk_at dksX12_value_1 12 rfl rfl)
theorem dX12_value_39 : decode cX12_value 39 = .ok (.i2l, 1) := dk_133 (dk_at dksX12_value_1 15 rfl rfl)
theorem dX12_value_40 : decode cX12_value 40 = .ok (.ldc2_w 50, 3) := dk_20 0 50 (dk_at dksX12_value_1 16 rfl rfl)
theorem dX12_value_43 : decode cX12_value 43 = .ok (.lmul, 1) := dk_105 (dk_at dksX12_value_1 19 rfl rfl)
theorem dX12_value_44 : decode cX12_value 44 = .ok (.aload_n 1, 1) := dk_43 (dk_at dksX12_value_1 20 rfl rfl)
theorem dX12_value_45 : decode cX12_value 45 = .ok (.getfield 52, 3) := dk_180 0 52 (dk_at dksX12_value_1 21 rfl rfl)
theorem dX12_value_48 : decode cX12_value 48 = .ok (.i2l, 1) := dk_133 (dk_at dksX12_value_2 0 rfl rfl)
theorem dX12_value_49 : decode cX12_value 49 = .ok (.lmul, 1) := dk_105 (dk_at dksX12_value_2 1 rfl rfl)
theorem dX12_value_50 : decode cX12_value 50 = .ok (.invokestatic 55, 3) := dk_184 0 55 (dk_at dksX12_value_2 2 rfl rfl)
theorem dX12_value_53 : decode cX12_value 53 = .ok (.lstore_n 2, 1) := dk_65 (dk_at dksX12_value_2 5 rfl rfl)
theorem dX12_value_54 : decode cX12_value 54 = .ok (.lconst 0, 1) := dk_9 (dk_at dksX12_value_2 6 rfl rfl)
theorem dX12_value_55 : decode cX12_value 55 = .ok (.lload_n 2, 1) := dk_32 (dk_at dksX12_value_2 7 rfl rfl)
theorem dX12_value_56 : decode cX12_value 56 = .ok (.aload_n 0, 1) := dk_42 (dk_at dksX12_value_2 8 rfl rfl)
theorem dX12_value_57 : decode cX12_value 57 = .ok (.getfield 36, 3) := dk_180 0 36 (dk_at dksX12_value_2 9 rfl rfl)
theorem dX12_value_60 : decode cX12_value 60 = .ok (.i2l, 1) := dk_133 (dk_at dksX12_value_2 12 rfl rfl)
theorem dX12_value_61 : decode cX12_value 61 = .ok (.ldc2_w 50, 3) := dk_20 0 50 (dk_at dksX12_value_2 13 rfl rfl)
theorem dX12_value_64 : decode cX12_value 64 = .ok (.lmul, 1) := dk_105 (dk_at dksX12_value_2 16 rfl rfl)
theorem dX12_value_65 : decode cX12_value 65 = .ok (.aload_n 1, 1) := dk_43 (dk_at dksX12_value_2 17 rfl rfl)
theorem dX12_value_66 : decode cX12_value 66 = .ok (.aload_n 0, 1) := dk_42 (dk_at dksX12_value_2 18 rfl rfl)
theorem dX12_value_67 : decode cX12_value 67 = .ok (.getfield 33, 3) := dk_180 0 33 (dk_at dksX12_value_2 19 rfl rfl)
theorem dX12_value_70 : decode cX12_value 70 = .ok (.invokevirtual 61, 3) := dk_182 0 61 (dk_at dksX12_value_3 0 rfl rfl)
theorem dX12_value_73 : decode cX12_value 73 = .ok (.lmul, 1) := dk_105 (dk_at dksX12_value_3 3 rfl rfl)
theorem dX12_value_74 : decode cX12_value 74 = .ok (.lsub, 1) := dk_101 (dk_at dksX12_value_3 4 rfl rfl)
theorem dX12_value_75 : decode cX12_value 75 = .ok (.invokestatic 65, 3) := dk_184 0 65 (dk_at dksX12_value_3 5 rfl rfl)
theorem dX12_value_78 : decode cX12_value 78 = .ok (.lreturn, 1) := dk_173 (dk_at dksX12_value_3 8 rfl rfl)
abbrev cX12_init : ByteArray := prog_6_method_1_code
def yX12_init : MethodName := ⟨RX12, "<init>", "(ILjava/util/List;Z)V"⟩
def dkwX12_init_3 : List UInt8 := [192, 0, 21, 182, 0, 23, 181, 0, 36, 42, 29, 181, 0, 39, 177]
abbrev dktX12_init_3 : List UInt8 := dkwX12_init_3 ++ []
def dkwX12_init_2 : List UInt8 := [185, 0, 15, 2, 0, 192, 0, 21, 182, 0, 23, 181, 0, 33, 42, 44, 6, 185, 0, 15, 2, 0]
abbrev dktX12_init_2 : List UInt8 := dkwX12_init_2 ++ dktX12_init_3
def dkwX12_init_1 : List UInt8 := [181, 0, 27, 42, 44, 4, 185, 0, 15, 2, 0, 192, 0, 21, 182, 0, 23, 181, 0, 30, 42, 44, 5]
abbrev dktX12_init_1 : List UInt8 := dkwX12_init_1 ++ dktX12_init_2
def dkwX12_init_0 : List UInt8 := [42, 183, 0, 3, 42, 27, 181, 0, 9, 42, 44, 3, 185, 0, 15, 2, 0, 192, 0, 21, 182, 0, 23]
abbrev dktX12_init_0 : List UInt8 := dkwX12_init_0 ++ dktX12_init_1
theorem dksX12_init_0 : cX12_init.data.toList.drop 0 = dktX12_init_0 := by decide +kernel
theorem dksX12_init_1 : cX12_init.data.toList.drop 23 = dktX12_init_1 := dk_seg dksX12_init_0 23 rfl rfl
theorem dksX12_init_2 : cX12_init.data.toList.drop 46 = dktX12_init_2 := dk_seg dksX12_init_1 23 rfl rfl
theorem dksX12_init_3 : cX12_init.data.toList.drop 68 = dktX12_init_3 := dk_seg dksX12_init_2 22 rfl rfl
theorem dX12_init_0 : decode cX12_init 0 = .ok (.aload_n 0, 1) := dk_42 (dk_at dksX12_init_0 0 rfl rfl)
theorem dX12_init_1 : decode cX12_init 1 = .ok (.invokespecial 3, 3) := dk_183 0 3 (dk_at dksX12_init_0 1 rfl rfl)
theorem dX12_init_4 : decode cX12_init 4 = .ok (.aload_n 0, 1) := dk_42 (dk_at dksX12_init_0 4 rfl rfl)
theorem dX12_init_5 : decode cX12_init 5 = .ok (.iload_n 1, 1) := dk_27 (dk_at dksX12_init_0 5 rfl rfl)
theorem dX12_init_6 : decode cX12_init 6 = .ok (.putfield 9, 3) := dk_181 0 9 (dk_at dksX12_init_0 6 rfl rfl)
theorem dX12_init_9 : decode cX12_init 9 = .ok (.aload_n 0, 1) := dk_42 (dk_at dksX12_init_0 9 rfl rfl)
theorem dX12_init_10 : decode cX12_init 10 = .ok (.aload_n 2, 1) := dk_44 (dk_at dksX12_init_0 10 rfl rfl)
theorem dX12_init_11 : decode cX12_init 11 = .ok (.iconst 0, 1) := dk_3 (dk_at dksX12_init_0 11 rfl rfl)
theorem dX12_init_12 : decode cX12_init 12 = .ok (.invokeinterface 15 2, 5) := by decide +kernel
theorem dX12_init_17 : decode cX12_init 17 = .ok (.checkcast 21, 3) := dk_192 0 21 (dk_at dksX12_init_0 17 rfl rfl)
theorem dX12_init_20 : decode cX12_init 20 = .ok (.invokevirtual 23, 3) := dk_182 0 23 (dk_at dksX12_init_0 20 rfl rfl)
theorem dX12_init_23 : decode cX12_init 23 = .ok (.putfield 27, 3) := dk_181 0 27 (dk_at dksX12_init_1 0 rfl rfl)
theorem dX12_init_26 : decode cX12_init 26 = .ok (.aload_n 0, 1) := dk_42 (dk_at dksX12_init_1 3 rfl rfl)
theorem dX12_init_27 : decode cX12_init 27 = .ok (.aload_n 2, 1) := dk_44 (dk_at dksX12_init_1 4 rfl rfl)
theorem dX12_init_28 : decode cX12_init 28 = .ok (.iconst 1, 1) := dk_4 (dk_at dksX12_init_1 5 rfl rfl)
theorem dX12_init_29 : decode cX12_init 29 = .ok (.invokeinterface 15 2, 5) := by decide +kernel
theorem dX12_init_34 : decode cX12_init 34 = .ok (.checkcast 21, 3) := dk_192 0 21 (dk_at dksX12_init_1 11 rfl rfl)
theorem dX12_init_37 : decode cX12_init 37 = .ok (.invokevirtual 23, 3) := dk_182 0 23 (dk_at dksX12_init_1 14 rfl rfl)
theorem dX12_init_40 : decode cX12_init 40 = .ok (.putfield 30, 3) := dk_181 0 30 (dk_at dksX12_init_1 17 rfl rfl)
theorem dX12_init_43 : decode cX12_init 43 = .ok (.aload_n 0, 1) := dk_42 (dk_at dksX12_init_1 20 rfl rfl)
theorem dX12_init_44 : decode cX12_init 44 = .ok (.aload_n 2, 1) := dk_44 (dk_at dksX12_init_1 21 rfl rfl)
theorem dX12_init_45 : decode cX12_init 45 = .ok (.iconst 2, 1) := dk_5 (dk_at dksX12_init_1 22 rfl rfl)
theorem dX12_init_46 : decode cX12_init 46 = .ok (.invokeinterface 15 2, 5) := by decide +kernel
theorem dX12_init_51 : decode cX12_init 51 = .ok (.checkcast 21, 3) := dk_192 0 21 (dk_at dksX12_init_2 5 rfl rfl)
theorem dX12_init_54 : decode cX12_init 54 = .ok (.invokevirtual 23, 3) := dk_182 0 23 (dk_at dksX12_init_2 8 rfl rfl)
theorem dX12_init_57 : decode cX12_init 57 = .ok (.putfield 33, 3) := dk_181 0 33 (dk_at dksX12_init_2 11 rfl rfl)
theorem dX12_init_60 : decode cX12_init 60 = .ok (.aload_n 0, 1) := dk_42 (dk_at dksX12_init_2 14 rfl rfl)
theorem dX12_init_61 : decode cX12_init 61 = .ok (.aload_n 2, 1) := dk_44 (dk_at dksX12_init_2 15 rfl rfl)
theorem dX12_init_62 : decode cX12_init 62 = .ok (.iconst 3, 1) := dk_6 (dk_at dksX12_init_2 16 rfl rfl)
theorem dX12_init_63 : decode cX12_init 63 = .ok (.invokeinterface 15 2, 5) := by decide +kernel
theorem dX12_init_68 : decode cX12_init 68 = .ok (.checkcast 21, 3) := dk_192 0 21 (dk_at dksX12_init_3 0 rfl rfl)
theorem dX12_init_71 : decode cX12_init 71 = .ok (.invokevirtual 23, 3) := dk_182 0 23 (dk_at dksX12_init_3 3 rfl rfl)
theorem dX12_init_74 : decode cX12_init 74 = .ok (.putfield 36, 3) := dk_181 0 36 (dk_at dksX12_init_3 6 rfl rfl)
theorem dX12_init_77 : decode cX12_init 77 = .ok (.aload_n 0, 1) := dk_42 (dk_at dksX12_init_3 9 rfl rfl)
theorem dX12_init_78 : decode cX12_init 78 = .ok (.iload_n 3, 1) := dk_29 (dk_at dksX12_init_3 10 rfl rfl)
theorem dX12_init_79 : decode cX12_init 79 = .ok (.putfield 39, 3) := dk_181 0 39 (dk_at dksX12_init_3 11 rfl rfl)
theorem dX12_init_82 : decode cX12_init 82 = .ok (.return_, 1) := dk_177 (dk_at dksX12_init_3 14 rfl rfl)
abbrev cX12_isAllowed : ByteArray := prog_6_method_2_code
def yX12_isAllowed : MethodName := ⟨RX12, "isAllowed", "()Z"⟩
def dkwX12_isAllowed_1 : List UInt8 := [3, 172]
abbrev dktX12_isAllowed_1 : List UInt8 := dkwX12_isAllowed_1 ++ []
def dkwX12_isAllowed_0 : List UInt8 := [42, 180, 0, 30, 17, 3, 231, 163, 0, 17, 42, 180, 0, 36, 17, 3, 231, 163, 0, 7, 4, 167, 0, 4]
abbrev dktX12_isAllowed_0 : List UInt8 := dkwX12_isAllowed_0 ++ dktX12_isAllowed_1
theorem dksX12_isAllowed_0 : cX12_isAllowed.data.toList.drop 0 = dktX12_isAllowed_0 := by decide +kernel
theorem dksX12_isAllowed_1 : cX12_isAllowed.data.toList.drop 24 = dktX12_isAllowed_1 := dk_seg dksX12_isAllowed_0 24 rfl rfl
theorem dX12_isAllowed_0 : decode cX12_isAllowed 0 = .ok (.aload_n 0, 1) := dk_42 (dk_at dksX12_isAllowed_0 0 rfl rfl)
theorem dX12_isAllowed_1 : decode cX12_isAllowed 1 = .ok (.getfield 30, 3) := dk_180 0 30 (dk_at dksX12_isAllowed_0 1 rfl rfl)
theorem dX12_isAllowed_4 : decode cX12_isAllowed 4 = .ok (.sipush 999, 3) := dk_17 3 231 (dk_at dksX12_isAllowed_0 4 rfl rfl)
theorem dX12_isAllowed_7 : decode cX12_isAllowed 7 = .ok (.if_icmp .gt 17, 3) := dk_163 0 17 (dk_at dksX12_isAllowed_0 7 rfl rfl)
theorem dX12_isAllowed_10 : decode cX12_isAllowed 10 = .ok (.aload_n 0, 1) := dk_42 (dk_at dksX12_isAllowed_0 10 rfl rfl)
theorem dX12_isAllowed_11 : decode cX12_isAllowed 11 = .ok (.getfield 36, 3) := dk_180 0 36 (dk_at dksX12_isAllowed_0 11 rfl rfl)
theorem dX12_isAllowed_14 : decode cX12_isAllowed 14 = .ok (.sipush 999, 3) := dk_17 3 231 (dk_at dksX12_isAllowed_0 14 rfl rfl)
theorem dX12_isAllowed_17 : decode cX12_isAllowed 17 = .ok (.if_icmp .gt 7, 3) := dk_163 0 7 (dk_at dksX12_isAllowed_0 17 rfl rfl)
theorem dX12_isAllowed_20 : decode cX12_isAllowed 20 = .ok (.iconst 1, 1) := dk_4 (dk_at dksX12_isAllowed_0 20 rfl rfl)
theorem dX12_isAllowed_21 : decode cX12_isAllowed 21 = .ok (.goto 4, 3) := dk_167 0 4 (dk_at dksX12_isAllowed_0 21 rfl rfl)
theorem dX12_isAllowed_24 : decode cX12_isAllowed 24 = .ok (.iconst 0, 1) := dk_3 (dk_at dksX12_isAllowed_1 0 rfl rfl)
theorem dX12_isAllowed_25 : decode cX12_isAllowed 25 = .ok (.ireturn, 1) := dk_172 (dk_at dksX12_isAllowed_1 1 rfl rfl)
abbrev cX12_part : ByteArray := prog_6_method_4_code
def yX12_part : MethodName := ⟨RX12, "part", "(I)I"⟩
def dkwX12_part_3 : List UInt8 := [172, 42, 180, 0, 39, 153, 0, 7, 4, 167, 0, 4, 3, 172]
abbrev dktX12_part_3 : List UInt8 := dkwX12_part_3 ++ []
def dkwX12_part_2 : List UInt8 := [42, 180, 0, 9, 172, 42, 180, 0, 27, 172, 42, 180, 0, 30, 172, 42, 180, 0, 33, 172, 42, 180, 0, 36]
abbrev dktX12_part_2 : List UInt8 := dkwX12_part_2 ++ dktX12_part_3
def dkwX12_part_1 : List UInt8 := [170, 0, 0, 0, 0, 0, 60, 0, 0, 0, 0, 0, 0, 0, 4, 0, 0, 0, 35, 0, 0, 0, 40, 0, 0, 0, 45, 0, 0, 0, 50, 0, 0, 0, 55]
abbrev dktX12_part_1 : List UInt8 := dkwX12_part_1 ++ dktX12_part_2
def dkwX12_part_0 : List UInt8 := [27]
abbrev dktX12_part_0 : List UInt8 := dkwX12_part_0 ++ dktX12_part_1
theorem dksX12_part_0 : cX12_part.data.toList.drop 0 = dktX12_part_0 := by decide +kernel
theorem dksX12_part_1 : cX12_part.data.toList.drop 1 = dktX12_part_1 := dk_seg dksX12_part_0 1 rfl rfl
theorem dksX12_part_2 : cX12_part.data.toList.drop 36 = dktX12_part_2 := dk_seg dksX12_part_1 35 rfl rfl
theorem dksX12_part_3 : cX12_part.data.toList.drop 60 = dktX12_part_3 := dk_seg dksX12_part_2 24 rfl rfl
theorem dX12_part_0 : decode cX12_part 0 = .ok (.iload_n 1, 1) := dk_27 (dk_at dksX12_part_0 0 rfl rfl)
theorem dX12_part_1 : decode cX12_part 1 = .ok (.tableswitch 60 0 4 #[35, 40, 45, 50, 55], 35) := by decide +kernel
theorem dX12_part_36 : decode cX12_part 36 = .ok (.aload_n 0, 1) := dk_42 (dk_at dksX12_part_2 0 rfl rfl)
theorem dX12_part_37 : decode cX12_part 37 = .ok (.getfield 9, 3) := dk_180 0 9 (dk_at dksX12_part_2 1 rfl rfl)
theorem dX12_part_40 : decode cX12_part 40 = .ok (.ireturn, 1) := dk_172 (dk_at dksX12_part_2 4 rfl rfl)
theorem dX12_part_41 : decode cX12_part 41 = .ok (.aload_n 0, 1) := dk_42 (dk_at dksX12_part_2 5 rfl rfl)
theorem dX12_part_42 : decode cX12_part 42 = .ok (.getfield 27, 3) := dk_180 0 27 (dk_at dksX12_part_2 6 rfl rfl)
theorem dX12_part_45 : decode cX12_part 45 = .ok (.ireturn, 1) := dk_172 (dk_at dksX12_part_2 9 rfl rfl)
theorem dX12_part_46 : decode cX12_part 46 = .ok (.aload_n 0, 1) := dk_42 (dk_at dksX12_part_2 10 rfl rfl)
theorem dX12_part_47 : decode cX12_part 47 = .ok (.getfield 30, 3) := dk_180 0 30 (dk_at dksX12_part_2 11 rfl rfl)
theorem dX12_part_50 : decode cX12_part 50 = .ok (.ireturn, 1) := dk_172 (dk_at dksX12_part_2 14 rfl rfl)
theorem dX12_part_51 : decode cX12_part 51 = .ok (.aload_n 0, 1) := dk_42 (dk_at dksX12_part_2 15 rfl rfl)
theorem dX12_part_52 : decode cX12_part 52 = .ok (.getfield 33, 3) := dk_180 0 33 (dk_at dksX12_part_2 16 rfl rfl)
theorem dX12_part_55 : decode cX12_part 55 = .ok (.ireturn, 1) := dk_172 (dk_at dksX12_part_2 19 rfl rfl)
theorem dX12_part_56 : decode cX12_part 56 = .ok (.aload_n 0, 1) := dk_42 (dk_at dksX12_part_2 20 rfl rfl)
theorem dX12_part_57 : decode cX12_part 57 = .ok (.getfield 36, 3) := dk_180 0 36 (dk_at dksX12_part_2 21 rfl rfl)
theorem dX12_part_60 : decode cX12_part 60 = .ok (.ireturn, 1) := dk_172 (dk_at dksX12_part_3 0 rfl rfl)
theorem dX12_part_61 : decode cX12_part 61 = .ok (.aload_n 0, 1) := dk_42 (dk_at dksX12_part_3 1 rfl rfl)
theorem dX12_part_62 : decode cX12_part 62 = .ok (.getfield 39, 3) := dk_180 0 39 (dk_at dksX12_part_3 2 rfl rfl)
theorem dX12_part_65 : decode cX12_part 65 = .ok (.ifCond .eq 7, 3) := dk_153 0 7 (dk_at dksX12_part_3 5 rfl rfl)
theorem dX12_part_68 : decode cX12_part 68 = .ok (.iconst 1, 1) := dk_4 (dk_at dksX12_part_3 8 rfl rfl)
theorem dX12_part_69 : decode cX12_part 69 = .ok (.goto 4, 3) := dk_167 0 4 (dk_at dksX12_part_3 9 rfl rfl)
theorem dX12_part_72 : decode cX12_part 72 = .ok (.iconst 0, 1) := dk_3 (dk_at dksX12_part_3 12 rfl rfl)
theorem dX12_part_73 : decode cX12_part 73 = .ok (.ireturn, 1) := dk_172 (dk_at dksX12_part_3 13 rfl rfl)
theorem q160 : (Jvm.Cond.initialized "TaxWorkbench$Credit") ∈ lw_all := lw_g (lw_at lw_m1 59 rfl) rfl
theorem q391 : (Jvm.Cond.selects "TaxWorkbench$Credit" ({ cls := "java/lang/Object", name := "getClass", desc := "()Ljava/lang/Class;" } : Jvm.MethodName) ({ cls := "java/lang/Object", name := "getClass", desc := "()Ljava/lang/Class;" } : Jvm.MethodName)) ∈ lw_all := lw_g (lw_at lw_m2 50 rfl) rfl
theorem q501 : (Jvm.Cond.fieldLinkNest "TaxWorkbench$Credit" (52 : Nat) "TaxWorkbench$Case" "earned" "I" "TaxWorkbench") ∈ lw_tbl := lw_at lw_m2 160 rfl
theorem q506 : (Jvm.Cond.fieldLinkNest "TaxWorkbench$Credit" (45 : Nat) "TaxWorkbench$Case" "dependents" "I" "TaxWorkbench") ∈ lw_tbl := lw_at lw_m2 165 rfl
theorem q1945 : (Jvm.Cond.instanceMethod ({ cls := "TaxWorkbench$Credit", name := "value", desc := "(LTaxWorkbench$Case;)J" } : Jvm.MethodName)) ∈ lw_all := lw_g (lw_at lw_m8 164 rfl) rfl
theorem q1946 : (Jvm.Cond.selects "TaxWorkbench$Credit" ({ cls := "TaxWorkbench$Credit", name := "value", desc := "(LTaxWorkbench$Case;)J" } : Jvm.MethodName) ({ cls := "TaxWorkbench$Credit", name := "value", desc := "(LTaxWorkbench$Case;)J" } : Jvm.MethodName)) ∈ lw_all := lw_g (lw_at lw_m8 165 rfl) rfl
theorem q1947 : (Jvm.Cond.code ({ cls := "TaxWorkbench$Credit", name := "value", desc := "(LTaxWorkbench$Case;)J" } : Jvm.MethodName) prog_6_method_3_code (4 : Nat) (Option.some Jvm.ClassFile.FieldType.long)) ∈ lw_all := lw_g (lw_at lw_m8 166 rfl) rfl
theorem q1948 : (Jvm.Cond.constantLong "TaxWorkbench$Credit" (43 : Nat) (1000000 : Int64)) ∈ lw_all := lw_g (lw_at lw_m8 167 rfl) rfl
theorem q1949 : (Jvm.Cond.constantLong "TaxWorkbench$Credit" (50 : Nat) (1000 : Int64)) ∈ lw_all := lw_g (lw_at lw_m8 168 rfl) rfl
theorem q1950 : (Jvm.Cond.methodLink "TaxWorkbench$Credit" (55 : Nat) ({ cls := "java/lang/Math", name := "min", desc := "(JJ)J" } : Jvm.MethodName)) ∈ lw_all := lw_g (lw_at lw_m8 169 rfl) rfl
theorem q1951 : (Jvm.Cond.methodLink "TaxWorkbench$Credit" (61 : Nat) ({ cls := "TaxWorkbench$Case", name := "above", desc := "(I)J" } : Jvm.MethodName)) ∈ lw_all := lw_g (lw_at lw_m8 170 rfl) rfl
theorem q1952 : (Jvm.Cond.methodLink "TaxWorkbench$Credit" (65 : Nat) ({ cls := "java/lang/Math", name := "max", desc := "(JJ)J" } : Jvm.MethodName)) ∈ lw_all := lw_g (lw_at lw_m8 171 rfl) rfl
theorem q2285 : (Jvm.Cond.instantiable "TaxWorkbench$Credit" (6 : Nat)) ∈ lw_all := lw_g (lw_at lw_m10 24 rfl) rfl
theorem q2287 : (Jvm.Cond.instanceMethod ({ cls := "TaxWorkbench$Credit", name := "<init>", desc := "(ILjava/util/List;Z)V" } : Jvm.MethodName)) ∈ lw_all := lw_g (lw_at lw_m10 26 rfl) rfl
theorem q2288 : (Jvm.Cond.code ({ cls := "TaxWorkbench$Credit", name := "<init>", desc := "(ILjava/util/List;Z)V" } : Jvm.MethodName) prog_6_method_1_code (4 : Nat) (Option.none : Option Jvm.ClassFile.FieldType)) ∈ lw_all := lw_g (lw_at lw_m10 27 rfl) rfl
theorem q2289 : (Jvm.Cond.methodLink "TaxWorkbench$Credit" (3 : Nat) ({ cls := "java/lang/Object", name := "<init>", desc := "()V" } : Jvm.MethodName)) ∈ lw_all := lw_g (lw_at lw_m10 28 rfl) rfl
theorem q2290 : (Jvm.Cond.interfaceEntry "TaxWorkbench$Credit" (15 : Nat)) ∈ lw_tbl := lw_at lw_m10 29 rfl
theorem q2291 : (Jvm.Cond.methodLink "TaxWorkbench$Credit" (15 : Nat) ({ cls := "java/util/List", name := "get", desc := "(I)Ljava/lang/Object;" } : Jvm.MethodName)) ∈ lw_all := lw_g (lw_at lw_m10 30 rfl) rfl
theorem q2292 : (Jvm.Cond.classLink "TaxWorkbench$Credit" (21 : Nat) "java/lang/Integer") ∈ lw_all := lw_g (lw_at lw_m10 31 rfl) rfl
theorem q2293 : (Jvm.Cond.methodLink "TaxWorkbench$Credit" (23 : Nat) ({ cls := "java/lang/Integer", name := "intValue", desc := "()I" } : Jvm.MethodName)) ∈ lw_all := lw_g (lw_at lw_m10 32 rfl) rfl
theorem q2294 : (Jvm.Cond.fieldLink "TaxWorkbench$Credit" (9 : Nat) "TaxWorkbench$Credit" "kind" "I") ∈ lw_all := lw_g (lw_at lw_m10 33 rfl) rfl
theorem q2296 : (Jvm.Cond.fieldLink "TaxWorkbench$Credit" (27 : Nat) "TaxWorkbench$Credit" "amount" "I") ∈ lw_all := lw_g (lw_at lw_m10 35 rfl) rfl
theorem q2297 : (Jvm.Cond.fieldLink "TaxWorkbench$Credit" (30 : Nat) "TaxWorkbench$Credit" "phaseIn" "I") ∈ lw_all := lw_g (lw_at lw_m10 36 rfl) rfl
theorem q2298 : (Jvm.Cond.fieldLink "TaxWorkbench$Credit" (33 : Nat) "TaxWorkbench$Credit" "start" "I") ∈ lw_all := lw_g (lw_at lw_m10 37 rfl) rfl
theorem q2299 : (Jvm.Cond.fieldLink "TaxWorkbench$Credit" (36 : Nat) "TaxWorkbench$Credit" "phaseOut" "I") ∈ lw_all := lw_g (lw_at lw_m10 38 rfl) rfl
theorem q2300 : (Jvm.Cond.fieldLink "TaxWorkbench$Credit" (39 : Nat) "TaxWorkbench$Credit" "isPerDependent" "Z") ∈ lw_all := lw_g (lw_at lw_m10 39 rfl) rfl
theorem q2301 : (Jvm.Cond.laysFinal "TaxWorkbench$Credit" "TaxWorkbench$Credit" "kind" "I") ∈ lw_all := lw_g (lw_at lw_m10 40 rfl) rfl
theorem q2302 : (Jvm.Cond.soleField "TaxWorkbench$Credit" "kind") ∈ lw_all := lw_g (lw_at lw_m10 41 rfl) rfl
theorem q2303 : (Jvm.Cond.laysFinal "TaxWorkbench$Credit" "TaxWorkbench$Credit" "amount" "I") ∈ lw_all := lw_g (lw_at lw_m10 42 rfl) rfl
theorem q2304 : (Jvm.Cond.soleField "TaxWorkbench$Credit" "amount") ∈ lw_all := lw_g (lw_at lw_m10 43 rfl) rfl
theorem q2305 : (Jvm.Cond.laysFinal "TaxWorkbench$Credit" "TaxWorkbench$Credit" "phaseIn" "I") ∈ lw_all := lw_g (lw_at lw_m10 44 rfl) rfl
theorem q2306 : (Jvm.Cond.soleField "TaxWorkbench$Credit" "phaseIn") ∈ lw_all := lw_g (lw_at lw_m10 45 rfl) rfl
theorem q2307 : (Jvm.Cond.laysFinal "TaxWorkbench$Credit" "TaxWorkbench$Credit" "start" "I") ∈ lw_all := lw_g (lw_at lw_m10 46 rfl) rfl
theorem q2308 : (Jvm.Cond.soleField "TaxWorkbench$Credit" "start") ∈ lw_all := lw_g (lw_at lw_m10 47 rfl) rfl
theorem q2309 : (Jvm.Cond.laysFinal "TaxWorkbench$Credit" "TaxWorkbench$Credit" "phaseOut" "I") ∈ lw_all := lw_g (lw_at lw_m10 48 rfl) rfl
theorem q2310 : (Jvm.Cond.soleField "TaxWorkbench$Credit" "phaseOut") ∈ lw_all := lw_g (lw_at lw_m10 49 rfl) rfl
theorem q2311 : (Jvm.Cond.laysFinal "TaxWorkbench$Credit" "TaxWorkbench$Credit" "isPerDependent" "Z") ∈ lw_all := lw_g (lw_at lw_m10 50 rfl) rfl
theorem q2312 : (Jvm.Cond.soleField "TaxWorkbench$Credit" "isPerDependent") ∈ lw_all := lw_g (lw_at lw_m10 51 rfl) rfl
theorem q2313 : (Jvm.Cond.superclass "TaxWorkbench$Credit" "java/lang/Object") ∈ lw_all := lw_g (lw_at lw_m10 52 rfl) rfl
theorem q2361 : (Jvm.Cond.instanceMethod ({ cls := "TaxWorkbench$Credit", name := "isAllowed", desc := "()Z" } : Jvm.MethodName)) ∈ lw_all := lw_g (lw_at lw_m10 100 rfl) rfl
theorem q2362 : (Jvm.Cond.selects "TaxWorkbench$Credit" ({ cls := "TaxWorkbench$Credit", name := "isAllowed", desc := "()Z" } : Jvm.MethodName) ({ cls := "TaxWorkbench$Credit", name := "isAllowed", desc := "()Z" } : Jvm.MethodName)) ∈ lw_all := lw_g (lw_at lw_m10 101 rfl) rfl
theorem q2363 : (Jvm.Cond.code ({ cls := "TaxWorkbench$Credit", name := "isAllowed", desc := "()Z" } : Jvm.MethodName) prog_6_method_2_code (1 : Nat) (Option.some Jvm.ClassFile.FieldType.boolean)) ∈ lw_all := lw_g (lw_at lw_m10 102 rfl) rfl
theorem q2432 : (Jvm.Cond.instanceMethod ({ cls := "TaxWorkbench$Credit", name := "part", desc := "(I)I" } : Jvm.MethodName)) ∈ lw_all := lw_g (lw_at lw_m10 171 rfl) rfl
theorem q2433 : (Jvm.Cond.selects "TaxWorkbench$Credit" ({ cls := "TaxWorkbench$Credit", name := "part", desc := "(I)I" } : Jvm.MethodName) ({ cls := "TaxWorkbench$Credit", name := "part", desc := "(I)I" } : Jvm.MethodName)) ∈ lw_all := lw_g (lw_at lw_m10 172 rfl) rfl
theorem q2434 : (Jvm.Cond.code ({ cls := "TaxWorkbench$Credit", name := "part", desc := "(I)I" } : Jvm.MethodName) prog_6_method_4_code (2 : Nat) (Option.some Jvm.ClassFile.FieldType.int)) ∈ lw_all := lw_g (lw_at lw_m10 173 rfl) rfl
theorem q3972 : (Jvm.Cond.castable "TaxWorkbench$Credit" "java/lang/Object") ∈ lw_tbl := lw_at lw_m17 31 rfl

/-! TaxWorkbench$Rules -/
set_option maxRecDepth 100000
abbrev cX3_init : ByteArray := prog_10_method_1_code
def yX3_init : MethodName := ⟨RX3, "<init>", "()V"⟩
def dkwX3_init_2 : List UInt8 := [187, 0, 40, 89, 183, 0, 42, 181, 0, 43, 177]
abbrev dktX3_init_2 : List UInt8 := dkwX3_init_2 ++ []
def dkwX3_init_1 : List UInt8 := [181, 0, 26, 42, 5, 188, 10, 181, 0, 30, 42, 187, 0, 33, 89, 183, 0, 35, 181, 0, 36, 42]
abbrev dktX3_init_1 : List UInt8 := dkwX3_init_1 ++ dktX3_init_2
def dkwX3_init_0 : List UInt8 := [42, 183, 0, 3, 42, 187, 0, 9, 89, 3, 3, 183, 0, 11, 184, 0, 14, 181, 0, 20, 42, 6, 188, 10]
abbrev dktX3_init_0 : List UInt8 := dkwX3_init_0 ++ dktX3_init_1
theorem dksX3_init_0 : cX3_init.data.toList.drop 0 = dktX3_init_0 := by decide +kernel
theorem dksX3_init_1 : cX3_init.data.toList.drop 24 = dktX3_init_1 := dk_seg dksX3_init_0 24 rfl rfl
theorem dksX3_init_2 : cX3_init.data.toList.drop 46 = dktX3_init_2 := dk_seg dksX3_init_1 22 rfl rfl
theorem dX3_init_0 : decode cX3_init 0 = .ok (.aload_n 0, 1) := dk_42 (dk_at dksX3_init_0 0 rfl rfl)
theorem dX3_init_1 : decode cX3_init 1 = .ok (.invokespecial 3, 3) := dk_183 0 3 (dk_at dksX3_init_0 1 rfl rfl)
theorem dX3_init_4 : decode cX3_init 4 = .ok (.aload_n 0, 1) := dk_42 (dk_at dksX3_init_0 4 rfl rfl)
theorem dX3_init_5 : decode cX3_init 5 = .ok (.new 9, 3) := dk_187 0 9 (dk_at dksX3_init_0 5 rfl rfl)
theorem dX3_init_8 : decode cX3_init 8 = .ok (.dup, 1) := dk_89 (dk_at dksX3_init_0 8 rfl rfl)
theorem dX3_init_9 : decode cX3_init 9 = .ok (.iconst 0, 1) := dk_3 (dk_at dksX3_init_0 9 rfl rfl)
theorem dX3_init_10 : decode cX3_init 10 = .ok (.iconst 0, 1) := dk_3 (dk_at dksX3_init_0 10 rfl rfl)
theorem dX3_init_11 : decode cX3_init 11 = .ok (.invokespecial 11, 3) := dk_183 0 11 (dk_at dksX3_init_0 11 rfl rfl)
theorem dX3_init_14 : decode cX3_init 14 = .ok (.invokestatic 14, 3) := dk_184 0 14 (dk_at dksX3_init_0 14 rfl rfl)
theorem dX3_init_17 : decode cX3_init 17 = .ok (.putfield 20, 3) := dk_181 0 20 (dk_at dksX3_init_0 17 rfl rfl)
theorem dX3_init_20 : decode cX3_init 20 = .ok (.aload_n 0, 1) := dk_42 (dk_at dksX3_init_0 20 rfl rfl)
theorem dX3_init_21 : decode cX3_init 21 = .ok (.iconst 3, 1) := dk_6 (dk_at dksX3_init_0 21 rfl rfl)
theorem dX3_init_22 : decode cX3_init 22 = .ok (.newarray .int, 2) := dk_188_10 (dk_at dksX3_init_0 22 rfl rfl)
theorem dX3_init_24 : decode cX3_init 24 = .ok (.putfield 26, 3) := dk_181 0 26 (dk_at dksX3_init_1 0 rfl rfl)
theorem dX3_init_27 : decode cX3_init 27 = .ok (.aload_n 0, 1) := dk_42 (dk_at dksX3_init_1 3 rfl rfl)
theorem dX3_init_28 : decode cX3_init 28 = .ok (.iconst 2, 1) := dk_5 (dk_at dksX3_init_1 4 rfl rfl)
theorem dX3_init_29 : decode cX3_init 29 = .ok (.newarray .int, 2) := dk_188_10 (dk_at dksX3_init_1 5 rfl rfl)
theorem dX3_init_31 : decode cX3_init 31 = .ok (.putfield 30, 3) := dk_181 0 30 (dk_at dksX3_init_1 7 rfl rfl)
theorem dX3_init_34 : decode cX3_init 34 = .ok (.aload_n 0, 1) := dk_42 (dk_at dksX3_init_1 10 rfl rfl)
theorem dX3_init_35 : decode cX3_init 35 = .ok (.new 33, 3) := dk_187 0 33 (dk_at dksX3_init_1 11 rfl rfl)
theorem dX3_init_38 : decode cX3_init 38 = .ok (.dup, 1) := dk_89 (dk_at dksX3_init_1 14 rfl rfl)
theorem dX3_init_39 : decode cX3_init 39 = .ok (.invokespecial 35, 3) := dk_183 0 35 (dk_at dksX3_init_1 15 rfl rfl)
theorem dX3_init_42 : decode cX3_init 42 = .ok (.putfield 36, 3) := dk_181 0 36 (dk_at dksX3_init_1 18 rfl rfl)
theorem dX3_init_45 : decode cX3_init 45 = .ok (.aload_n 0, 1) := dk_42 (dk_at dksX3_init_1 21 rfl rfl)
theorem dX3_init_46 : decode cX3_init 46 = .ok (.new 40, 3) := dk_187 0 40 (dk_at dksX3_init_2 0 rfl rfl)
theorem dX3_init_49 : decode cX3_init 49 = .ok (.dup, 1) := dk_89 (dk_at dksX3_init_2 3 rfl rfl)
theorem dX3_init_50 : decode cX3_init 50 = .ok (.invokespecial 42, 3) := dk_183 0 42 (dk_at dksX3_init_2 4 rfl rfl)
theorem dX3_init_53 : decode cX3_init 53 = .ok (.putfield 43, 3) := dk_181 0 43 (dk_at dksX3_init_2 7 rfl rfl)
theorem dX3_init_56 : decode cX3_init 56 = .ok (.return_, 1) := dk_177 (dk_at dksX3_init_2 10 rfl rfl)
abbrev cX3_copy : ByteArray := prog_10_method_2_code
def yX3_copy : MethodName := ⟨RX3, "copy", "()LTaxWorkbench$Rules;"⟩
def dkwX3_copy_3 : List UInt8 := [176]
abbrev dktX3_copy_3 : List UInt8 := dkwX3_copy_3 ++ []
def dkwX3_copy_2 : List UInt8 := [180, 0, 36, 42, 180, 0, 36, 182, 0, 54, 87, 43, 180, 0, 43, 42, 180, 0, 43, 182, 0, 58, 87, 43]
abbrev dktX3_copy_2 : List UInt8 := dkwX3_copy_2 ++ dktX3_copy_3
def dkwX3_copy_1 : List UInt8 := [180, 0, 26, 3, 6, 184, 0, 48, 42, 180, 0, 30, 3, 43, 180, 0, 30, 3, 5, 184, 0, 48, 43]
abbrev dktX3_copy_1 : List UInt8 := dkwX3_copy_1 ++ dktX3_copy_2
def dkwX3_copy_0 : List UInt8 := [187, 0, 21, 89, 183, 0, 47, 76, 43, 42, 180, 0, 20, 181, 0, 20, 42, 180, 0, 26, 3, 43]
abbrev dktX3_copy_0 : List UInt8 := dkwX3_copy_0 ++ dktX3_copy_1
theorem dksX3_copy_0 : cX3_copy.data.toList.drop 0 = dktX3_copy_0 := by decide +kernel
theorem dksX3_copy_1 : cX3_copy.data.toList.drop 22 = dktX3_copy_1 := dk_seg dksX3_copy_0 22 rfl rfl
theorem dksX3_copy_2 : cX3_copy.data.toList.drop 45 = dktX3_copy_2 := dk_seg dksX3_copy_1 23 rfl rfl
theorem dksX3_copy_3 : cX3_copy.data.toList.drop 69 = dktX3_copy_3 := dk_seg dksX3_copy_2 24 rfl rfl
theorem dX3_copy_0 : decode cX3_copy 0 = .ok (.new 21, 3) := dk_187 0 21 (dk_at dksX3_copy_0 0 rfl rfl)
theorem dX3_copy_3 : decode cX3_copy 3 = .ok (.dup, 1) := dk_89 (dk_at dksX3_copy_0 3 rfl rfl)
theorem dX3_copy_4 : decode cX3_copy 4 = .ok (.invokespecial 47, 3) := dk_183 0 47 (dk_at dksX3_copy_0 4 rfl rfl)
theorem dX3_copy_7 : decode cX3_copy 7 = .ok (.astore_n 1, 1) := dk_76 (dk_at dksX3_copy_0 7 rfl rfl)
theorem dX3_copy_8 : decode cX3_copy 8 = .ok (.aload_n 1, 1) := dk_43 (dk_at dksX3_copy_0 8 rfl rfl)
theorem dX3_copy_9 : decode cX3_copy 9 = .ok (.aload_n 0, 1) := dk_42 (dk_at dksX3_copy_0 9 rfl rfl)
theorem dX3_copy_10 : decode cX3_copy 10 = .ok (.getfield 20, 3) := dk_180 0 20 (dk_at dksX3_copy_0 10 rfl rfl)
theorem dX3_copy_13 : decode cX3_copy 13 = .ok (.putfield 20, 3) := dk_181 0 20 (dk_at dksX3_copy_0 13 rfl rfl)
theorem dX3_copy_16 : decode cX3_copy 16 = .ok (.aload_n 0, 1) := dk_42 (dk_at dksX3_copy_0 16 rfl rfl)
theorem dX3_copy_17 : decode cX3_copy 17 = .ok (.getfield 26, 3) := dk_180 0 26 (dk_at dksX3_copy_0 17 rfl rfl)
theorem dX3_copy_20 : decode cX3_copy 20 = .ok (.iconst 0, 1) := dk_3 (dk_at dksX3_copy_0 20 rfl rfl)
theorem dX3_copy_21 : decode cX3_copy 21 = .ok (.aload_n 1, 1) := dk_43 (dk_at dksX3_copy_0 21 rfl rfl)
theorem dX3_copy_22 : decode cX3_copy 22 = .ok (.getfield 26, 3) := dk_180 0 26 (dk_at dksX3_copy_1 0 rfl rfl)
theorem dX3_copy_25 : decode cX3_copy 25 = .ok (.iconst 0, 1) := dk_3 (dk_at dksX3_copy_1 3 rfl rfl)
theorem dX3_copy_26 : decode cX3_copy 26 = .ok (.iconst 3, 1) := dk_6 (dk_at dksX3_copy_1 4 rfl rfl)
theorem dX3_copy_27 : decode cX3_copy 27 = .ok (.invokestatic 48, 3) := dk_184 0 48 (dk_at dksX3_copy_1 5 rfl rfl)
theorem dX3_copy_30 : decode cX3_copy 30 = .ok (.aload_n 0, 1) := dk_42 (dk_at dksX3_copy_1 8 rfl rfl)
theorem dX3_copy_31 : decode cX3_copy 31 = .ok (.getfield 30, 3) := dk_180 0 30 (dk_at dksX3_copy_1 9 rfl rfl)
theorem dX3_copy_34 : decode cX3_copy 34 = .ok (.iconst 0, 1) := dk_3 (dk_at dksX3_copy_1 12 rfl rfl)
theorem dX3_copy_35 : decode cX3_copy 35 = .ok (.aload_n 1, 1) := dk_43 (dk_at dksX3_copy_1 13 rfl rfl)
theorem dX3_copy_36 : decode cX3_copy 36 = .ok (.getfield 30, 3) := dk_180 0 30 (dk_at dksX3_copy_1 14 rfl rfl)
theorem dX3_copy_39 : decode cX3_copy 39 = .ok (.iconst 0, 1) := dk_3 (dk_at dksX3_copy_1 17 rfl rfl)
theorem dX3_copy_40 : decode cX3_copy 40 = .ok (.iconst 2, 1) := dk_5 (dk_at dksX3_copy_1 18 rfl rfl)
theorem dX3_copy_41 : decode cX3_copy 41 = .ok (.invokestatic 48, 3) := dk_184 0 48 (dk_at dksX3_copy_1 19 rfl rfl)
theorem dX3_copy_44 : decode cX3_copy 44 = .ok (.aload_n 1, 1) := dk_43 (dk_at dksX3_copy_1 22 rfl rfl)
theorem dX3_copy_45 : decode cX3_copy 45 = .ok (.getfield 36, 3) := dk_180 0 36 (dk_at dksX3_copy_2 0 rfl rfl)
theorem dX3_copy_48 : decode cX3_copy 48 = .ok (.aload_n 0, 1) := dk_42 (dk_at dksX3_copy_2 3 rfl rfl)
theorem dX3_copy_49 : decode cX3_copy 49 = .ok (.getfield 36, 3) := dk_180 0 36 (dk_at dksX3_copy_2 4 rfl rfl)
theorem dX3_copy_52 : decode cX3_copy 52 = .ok (.invokevirtual 54, 3) := dk_182 0 54 (dk_at dksX3_copy_2 7 rfl rfl)
theorem dX3_copy_55 : decode cX3_copy 55 = .ok (.pop, 1) := dk_87 (dk_at dksX3_copy_2 10 rfl rfl)
theorem dX3_copy_56 : decode cX3_copy 56 = .ok (.aload_n 1, 1) := dk_43 (dk_at dksX3_copy_2 11 rfl rfl)
theorem dX3_copy_57 : decode cX3_copy 57 = .ok (.getfield 43, 3) := dk_180 0 43 (dk_at dksX3_copy_2 12 rfl rfl)
theorem dX3_copy_60 : decode cX3_copy 60 = .ok (.aload_n 0, 1) := dk_42 (dk_at dksX3_copy_2 15 rfl rfl)
theorem dX3_copy_61 : decode cX3_copy 61 = .ok (.getfield 43, 3) := dk_180 0 43 (dk_at dksX3_copy_2 16 rfl rfl)
theorem dX3_copy_64 : decode cX3_copy 64 = .ok (.invokevirtual 58, 3) := dk_182 0 58 (dk_at dksX3_copy_2 19 rfl rfl)
theorem dX3_copy_67 : decode cX3_copy 67 = .ok (.pop, 1) := dk_87 (dk_at dksX3_copy_2 22 rfl rfl)
theorem dX3_copy_68 : decode cX3_copy 68 = .ok (.aload_n 1, 1) := dk_43 (dk_at dksX3_copy_2 23 rfl rfl)
theorem dX3_copy_69 : decode cX3_copy 69 = .ok (.areturn, 1) := dk_176 (dk_at dksX3_copy_3 0 rfl rfl)
abbrev cX3_allowanceLeft : ByteArray := prog_10_method_4_code
def yX3_allowanceLeft : MethodName := ⟨RX3, "allowanceLeft", "(LTaxWorkbench$Case;)J"⟩
def dkwX3_allowanceLeft_1 : List UInt8 := [133, 20, 0, 106, 105, 43, 42, 180, 0, 26, 4, 46, 182, 0, 108, 105, 101, 184, 0, 112, 173]
abbrev dktX3_allowanceLeft_1 : List UInt8 := dkwX3_allowanceLeft_1 ++ []
def dkwX3_allowanceLeft_0 : List UInt8 := [9, 42, 180, 0, 26, 3, 46, 133, 20, 0, 99, 105, 43, 180, 0, 101, 133, 105, 42, 180, 0, 26, 5, 46]
abbrev dktX3_allowanceLeft_0 : List UInt8 := dkwX3_allowanceLeft_0 ++ dktX3_allowanceLeft_1
theorem dksX3_allowanceLeft_0 : cX3_allowanceLeft.data.toList.drop 0 = dktX3_allowanceLeft_0 := by decide +kernel
theorem dksX3_allowanceLeft_1 : cX3_allowanceLeft.data.toList.drop 24 = dktX3_allowanceLeft_1 := dk_seg dksX3_allowanceLeft_0 24 rfl rfl
theorem dX3_allowanceLeft_0 : decode cX3_allowanceLeft 0 = .ok (.lconst 0, 1) := dk_9 (dk_at dksX3_allowanceLeft_0 0 rfl rfl)
theorem dX3_allowanceLeft_1 : decode cX3_allowanceLeft 1 = .ok (.aload_n 0, 1) := dk_42 (dk_at dksX3_allowanceLeft_0 1 rfl rfl)
theorem dX3_allowanceLeft_2 : decode cX3_allowanceLeft 2 = .ok (.getfield 26, 3) := dk_180 0 26 (dk_at dksX3_allowanceLeft_0 2 rfl rfl)
theorem dX3_allowanceLeft_5 : decode cX3_allowanceLeft 5 = .ok (.iconst 0, 1) := dk_3 (dk_at dksX3_allowanceLeft_0 5 rfl rfl)
theorem dX3_allowanceLeft_6 : decode cX3_allowanceLeft 6 = .ok (.iaload, 1) := dk_46 (dk_at dksX3_allowanceLeft_0 6 rfl rfl)
theorem dX3_allowanceLeft_7 : decode cX3_allowanceLeft 7 = .ok (.i2l, 1) := dk_133 (dk_at dksX3_allowanceLeft_0 7 rfl rfl)
theorem dX3_allowanceLeft_8 : decode cX3_allowanceLeft 8 = .ok (.ldc2_w 99, 3) := dk_20 0 99 (dk_at dksX3_allowanceLeft_0 8 rfl rfl)
theorem dX3_allowanceLeft_11 : decode cX3_allowanceLeft 11 = .ok (.lmul, 1) := dk_105 (dk_at dksX3_allowanceLeft_0 11 rfl rfl)
theorem dX3_allowanceLeft_12 : decode cX3_allowanceLeft 12 = .ok (.aload_n 1, 1) := dk_43 (dk_at dksX3_allowanceLeft_0 12 rfl rfl)
theorem dX3_allowanceLeft_13 : decode cX3_allowanceLeft 13 = .ok (.getfield 101, 3) := dk_180 0 101 (dk_at dksX3_allowanceLeft_0 13 rfl rfl)
theorem dX3_allowanceLeft_16 : decode cX3_allowanceLeft 16 = .ok (.i2l, 1) := dk_133 (dk_at dksX3_allowanceLeft_0 16 rfl rfl)
theorem dX3_allowanceLeft_17 : decode cX3_allowanceLeft 17 = .ok (.lmul, 1) := dk_105 (dk_at dksX3_allowanceLeft_0 17 rfl rfl)
theorem dX3_allowanceLeft_18 : decode cX3_allowanceLeft 18 = .ok (.aload_n 0, 1) := dk_42 (dk_at dksX3_allowanceLeft_0 18 rfl rfl)
theorem dX3_allowanceLeft_19 : decode cX3_allowanceLeft 19 = .ok (.getfield 26, 3) := dk_180 0 26 (dk_at dksX3_allowanceLeft_0 19 rfl rfl)
theorem dX3_allowanceLeft_22 : decode cX3_allowanceLeft 22 = .ok (.iconst 2, 1) := dk_5 (dk_at dksX3_allowanceLeft_0 22 rfl rfl)
theorem dX3_allowanceLeft_23 : decode cX3_allowanceLeft 23 = .ok (.iaload, 1) := dk_46 (dk_at dksX3_allowanceLeft_0 23 rfl rfl)
theorem dX3_allowanceLeft_24 : decode cX3_allowanceLeft 24 = .ok (.i2l, 1) := dk_133 (dk_at dksX3_allowanceLeft_1 0 rfl rfl)
theorem dX3_allowanceLeft_25 : decode cX3_allowanceLeft 25 = .ok (.ldc2_w 106, 3) := dk_20 0 106 (dk_at dksX3_allowanceLeft_1 1 rfl rfl)
theorem dX3_allowanceLeft_28 : decode cX3_allowanceLeft 28 = .ok (.lmul, 1) := dk_105 (dk_at dksX3_allowanceLeft_1 4 rfl rfl)
theorem dX3_allowanceLeft_29 : decode cX3_allowanceLeft 29 = .ok (.aload_n 1, 1) := dk_43 (dk_at dksX3_allowanceLeft_1 5 rfl rfl)
theorem dX3_allowanceLeft_30 : decode cX3_allowanceLeft 30 = .ok (.aload_n 0, 1) := dk_42 (dk_at dksX3_allowanceLeft_1 6 rfl rfl)
theorem dX3_allowanceLeft_31 : decode cX3_allowanceLeft 31 = .ok (.getfield 26, 3) := dk_180 0 26 (dk_at dksX3_allowanceLeft_1 7 rfl rfl)
theorem dX3_allowanceLeft_34 : decode cX3_allowanceLeft 34 = .ok (.iconst 1, 1) := dk_4 (dk_at dksX3_allowanceLeft_1 10 rfl rfl)
theorem dX3_allowanceLeft_35 : decode cX3_allowanceLeft 35 = .ok (.iaload, 1) := dk_46 (dk_at dksX3_allowanceLeft_1 11 rfl rfl)
theorem dX3_allowanceLeft_36 : decode cX3_allowanceLeft 36 = .ok (.invokevirtual 108, 3) := dk_182 0 108 (dk_at dksX3_allowanceLeft_1 12 rfl rfl)
theorem dX3_allowanceLeft_39 : decode cX3_allowanceLeft 39 = .ok (.lmul, 1) := dk_105 (dk_at dksX3_allowanceLeft_1 15 rfl rfl)
theorem dX3_allowanceLeft_40 : decode cX3_allowanceLeft 40 = .ok (.lsub, 1) := dk_101 (dk_at dksX3_allowanceLeft_1 16 rfl rfl)
theorem dX3_allowanceLeft_41 : decode cX3_allowanceLeft 41 = .ok (.invokestatic 112, 3) := dk_184 0 112 (dk_at dksX3_allowanceLeft_1 17 rfl rfl)
theorem dX3_allowanceLeft_44 : decode cX3_allowanceLeft 44 = .ok (.lreturn, 1) := dk_173 (dk_at dksX3_allowanceLeft_1 20 rfl rfl)
abbrev cX3_scheduled : ByteArray := prog_10_method_5_code
def yX3_scheduled : MethodName := ⟨RX3, "scheduled", "(JI)J"⟩
def dkwX3_scheduled_6 : List UInt8 := [132, 6, 1, 167, 255, 120, 22, 4, 173]
abbrev dktX3_scheduled_6 : List UInt8 := dkwX3_scheduled_6 ++ []
def dkwX3_scheduled_5 : List UInt8 := [42, 180, 0, 20, 21, 6, 185, 0, 67, 2, 0, 192, 0, 9, 180, 0, 75, 133, 105, 97, 55, 4]
abbrev dktX3_scheduled_5 : List UInt8 := dkwX3_scheduled_5 ++ dktX3_scheduled_6
def dkwX3_scheduled_4 : List UInt8 := [20, 0, 120, 55, 9, 22, 4, 9, 31, 22, 9, 184, 0, 122, 22, 7, 101, 184, 0, 112, 20, 0, 106, 109]
abbrev dktX3_scheduled_4 : List UInt8 := dkwX3_scheduled_4 ++ dktX3_scheduled_5
def dkwX3_scheduled_3 : List UInt8 := [185, 0, 67, 2, 0, 192, 0, 9, 180, 0, 71, 133, 20, 0, 99, 105, 29, 133, 105, 167, 0, 6]
abbrev dktX3_scheduled_3 : List UInt8 := dkwX3_scheduled_3 ++ dktX3_scheduled_4
def dkwX3_scheduled_2 : List UInt8 := [21, 6, 4, 96, 42, 180, 0, 20, 185, 0, 59, 1, 0, 162, 0, 33, 42, 180, 0, 20, 21, 6, 4, 96]
abbrev dktX3_scheduled_2 : List UInt8 := dkwX3_scheduled_2 ++ dktX3_scheduled_3
def dkwX3_scheduled_1 : List UInt8 := [21, 6, 185, 0, 67, 2, 0, 192, 0, 9, 180, 0, 71, 133, 20, 0, 99, 105, 29, 133, 105, 55, 7]
abbrev dktX3_scheduled_1 : List UInt8 := dkwX3_scheduled_1 ++ dktX3_scheduled_2
def dkwX3_scheduled_0 : List UInt8 := [9, 55, 4, 3, 54, 6, 21, 6, 42, 180, 0, 20, 185, 0, 59, 1, 0, 162, 0, 128, 42, 180, 0, 20]
abbrev dktX3_scheduled_0 : List UInt8 := dkwX3_scheduled_0 ++ dktX3_scheduled_1
theorem dksX3_scheduled_0 : cX3_scheduled.data.toList.drop 0 = dktX3_scheduled_0 := by decide +kernel
theorem dksX3_scheduled_1 : cX3_scheduled.data.toList.drop 24 = dktX3_scheduled_1 := dk_seg dksX3_scheduled_0 24 rfl rfl
theorem dksX3_scheduled_2 : cX3_scheduled.data.toList.drop 47 = dktX3_scheduled_2 := dk_seg dksX3_scheduled_1 23 rfl rfl
theorem dksX3_scheduled_3 : cX3_scheduled.data.toList.drop 71 = dktX3_scheduled_3 := dk_seg dksX3_scheduled_2 24 rfl rfl
theorem dksX3_scheduled_4 : cX3_scheduled.data.toList.drop 93 = dktX3_scheduled_4 := dk_seg dksX3_scheduled_3 22 rfl rfl
theorem dksX3_scheduled_5 : cX3_scheduled.data.toList.drop 117 = dktX3_scheduled_5 := dk_seg dksX3_scheduled_4 24 rfl rfl
theorem dksX3_scheduled_6 : cX3_scheduled.data.toList.drop 139 = dktX3_scheduled_6 := dk_seg dksX3_scheduled_5 22 rfl rfl
theorem dX3_scheduled_0 : decode cX3_scheduled 0 = .ok (.lconst 0, 1) := dk_9 (dk_at dksX3_scheduled_0 0 rfl rfl)
theorem dX3_scheduled_1 : decode cX3_scheduled 1 = .ok (.lstore 4, 2) := dk_55 4 (dk_at dksX3_scheduled_0 1 rfl rfl)
theorem dX3_scheduled_3 : decode cX3_scheduled 3 = .ok (.iconst 0, 1) := dk_3 (dk_at dksX3_scheduled_0 3 rfl rfl)
theorem dX3_scheduled_4 : decode cX3_scheduled 4 = .ok (.istore 6, 2) := dk_54 6 (dk_at dksX3_scheduled_0 4 rfl rfl)
theorem dX3_scheduled_6 : decode cX3_scheduled 6 = .ok (.iload 6, 2) := dk_21 6 (dk_at dksX3_scheduled_0 6 rfl rfl)
theorem dX3_scheduled_8 : decode cX3_scheduled 8 = .ok (.aload_n 0, 1) := dk_42 (dk_at dksX3_scheduled_0 8 rfl rfl)
theorem dX3_scheduled_9 : decode cX3_scheduled 9 = .ok (.getfield 20, 3) := dk_180 0 20 (dk_at dksX3_scheduled_0 9 rfl rfl)
theorem dX3_scheduled_12 : decode cX3_scheduled 12 = .ok (.invokeinterface 59 1, 5) := by decide +kernel
theorem dX3_scheduled_17 : decode cX3_scheduled 17 = .ok (.if_icmp .ge 128, 3) := dk_162 0 128 (dk_at dksX3_scheduled_0 17 rfl rfl)
theorem dX3_scheduled_20 : decode cX3_scheduled 20 = .ok (.aload_n 0, 1) := dk_42 (dk_at dksX3_scheduled_0 20 rfl rfl)
theorem dX3_scheduled_21 : decode cX3_scheduled 21 = .ok (.getfield 20, 3) := dk_180 0 20 (dk_at dksX3_scheduled_0 21 rfl rfl)
theorem dX3_scheduled_24 : decode cX3_scheduled 24 = .ok (.iload 6, 2) := dk_21 6 (dk_at dksX3_scheduled_1 0 rfl rfl)
theorem dX3_scheduled_26 : decode cX3_scheduled 26 = .ok (.invokeinterface 67 2, 5) := by decide +kernel
theorem dX3_scheduled_31 : decode cX3_scheduled 31 = .ok (.checkcast 9, 3) := dk_192 0 9 (dk_at dksX3_scheduled_1 7 rfl rfl)
theorem dX3_scheduled_34 : decode cX3_scheduled 34 = .ok (.getfield 71, 3) := dk_180 0 71 (dk_at dksX3_scheduled_1 10 rfl rfl)
theorem dX3_scheduled_37 : decode cX3_scheduled 37 = .ok (.i2l, 1) := dk_133 (dk_at dksX3_scheduled_1 13 rfl rfl)
theorem dX3_scheduled_38 : decode cX3_scheduled 38 = .ok (.ldc2_w 99, 3) := dk_20 0 99 (dk_at dksX3_scheduled_1 14 rfl rfl)
theorem dX3_scheduled_41 : decode cX3_scheduled 41 = .ok (.lmul, 1) := dk_105 (dk_at dksX3_scheduled_1 17 rfl rfl)
theorem dX3_scheduled_42 : decode cX3_scheduled 42 = .ok (.iload_n 3, 1) := dk_29 (dk_at dksX3_scheduled_1 18 rfl rfl)
theorem dX3_scheduled_43 : decode cX3_scheduled 43 = .ok (.i2l, 1) := dk_133 (dk_at dksX3_scheduled_1 19 rfl rfl)
theorem dX3_scheduled_44 : decode cX3_scheduled 44 = .ok (.lmul, 1) := dk_105 (dk_at dksX3_scheduled_1 20 rfl rfl)
theorem dX3_scheduled_45 : decode cX3_scheduled 45 = .ok (.lstore 7, 2) := dk_55 7 (dk_at dksX3_scheduled_1 21 rfl rfl)
theorem dX3_scheduled_47 : decode cX3_scheduled 47 = .ok (.iload 6, 2) := dk_21 6 (dk_at dksX3_scheduled_2 0 rfl rfl)
theorem dX3_scheduled_49 : decode cX3_scheduled 49 = .ok (.iconst 1, 1) := dk_4 (dk_at dksX3_scheduled_2 2 rfl rfl)
theorem dX3_scheduled_50 : decode cX3_scheduled 50 = .ok (.iadd, 1) := dk_96 (dk_at dksX3_scheduled_2 3 rfl rfl)
theorem dX3_scheduled_51 : decode cX3_scheduled 51 = .ok (.aload_n 0, 1) := dk_42 (dk_at dksX3_scheduled_2 4 rfl rfl)
theorem dX3_scheduled_52 : decode cX3_scheduled 52 = .ok (.getfield 20, 3) := dk_180 0 20 (dk_at dksX3_scheduled_2 5 rfl rfl)
theorem dX3_scheduled_55 : decode cX3_scheduled 55 = .ok (.invokeinterface 59 1, 5) := by decide +kernel
theorem dX3_scheduled_60 : decode cX3_scheduled 60 = .ok (.if_icmp .ge 33, 3) := dk_162 0 33 (dk_at dksX3_scheduled_2 13 rfl rfl)
theorem dX3_scheduled_63 : decode cX3_scheduled 63 = .ok (.aload_n 0, 1) := dk_42 (dk_at dksX3_scheduled_2 16 rfl rfl)
theorem dX3_scheduled_64 : decode cX3_scheduled 64 = .ok (.getfield 20, 3) := dk_180 0 20 (dk_at dksX3_scheduled_2 17 rfl rfl)
theorem dX3_scheduled_67 : decode cX3_scheduled 67 = .ok (.iload 6, 2) := dk_21 6 (dk_at dksX3_scheduled_2 20 rfl rfl)
theorem dX3_scheduled_69 : decode cX3_scheduled 69 = .ok (.iconst 1, 1) := dk_4 (dk_at dksX3_scheduled_2 22 rfl rfl)
theorem dX3_scheduled_70 : decode cX3_scheduled 70 = .ok (.iadd, 1) := dk_96 (dk_at dksX3_scheduled_2 23 rfl rfl)
theorem dX3_scheduled_71 : decode cX3_scheduled 71 = .ok (.invokeinterface 67 2, 5) := by decide +kernel
theorem dX3_scheduled_76 : decode cX3_scheduled 76 = .ok (.checkcast 9, 3) := dk_192 0 9 (dk_at dksX3_scheduled_3 5 rfl rfl)
theorem dX3_scheduled_79 : decode cX3_scheduled 79 = .ok (.getfield 71, 3) := dk_180 0 71 (dk_at dksX3_scheduled_3 8 rfl rfl)
theorem dX3_scheduled_82 : decode cX3_scheduled 82 = .ok (.i2l, 1) := dk_133 (dk_at dksX3_scheduled_3 11 rfl rfl)
theorem dX3_scheduled_83 : decode cX3_scheduled 83 = .ok (.ldc2_w 99, 3) := dk_20 0 99 (dk_at dksX3_scheduled_3 12 rfl rfl)
theorem dX3_scheduled_86 : decode cX3_scheduled 86 = .ok (.lmul, 1) := dk_105 (dk_at dksX3_scheduled_3 15 rfl rfl)
theorem dX3_scheduled_87 : decode cX3_scheduled 87 = .ok (.iload_n 3, 1) := dk_29 (dk_at dksX3_scheduled_3 16 rfl rfl)
theorem dX3_scheduled_88 : decode cX3_scheduled 88 = .ok (.i2l, 1) := dk_133 (dk_at dksX3_scheduled_3 17 rfl rfl)
theorem dX3_scheduled_89 : decode cX3_scheduled 89 = .ok (.lmul, 1) := dk_105 (dk_at dksX3_scheduled_3 18 rfl rfl)
theorem dX3_scheduled_90 : decode cX3_scheduled 90 = .ok (.goto 6, 3) := dk_167 0 6 (dk_at dksX3_scheduled_3 19 rfl rfl)
theorem dX3_scheduled_93 : decode cX3_scheduled 93 = .ok (.ldc2_w 120, 3) := dk_20 0 120 (dk_at dksX3_scheduled_4 0 rfl rfl)
theorem dX3_scheduled_96 : decode cX3_scheduled 96 = .ok (.lstore 9, 2) := dk_55 9 (dk_at dksX3_scheduled_4 3 rfl rfl)
theorem dX3_scheduled_98 : decode cX3_scheduled 98 = .ok (.lload 4, 2) := dk_22 4 (dk_at dksX3_scheduled_4 5 rfl rfl)
theorem dX3_scheduled_100 : decode cX3_scheduled 100 = .ok (.lconst 0, 1) := dk_9 (dk_at dksX3_scheduled_4 7 rfl rfl)
theorem dX3_scheduled_101 : decode cX3_scheduled 101 = .ok (.lload_n 1, 1) := dk_31 (dk_at dksX3_scheduled_4 8 rfl rfl)
theorem dX3_scheduled_102 : decode cX3_scheduled 102 = .ok (.lload 9, 2) := dk_22 9 (dk_at dksX3_scheduled_4 9 rfl rfl)
theorem dX3_scheduled_104 : decode cX3_scheduled 104 = .ok (.invokestatic 122, 3) := dk_184 0 122 (dk_at dksX3_scheduled_4 11 rfl rfl)
theorem dX3_scheduled_107 : decode cX3_scheduled 107 = .ok (.lload 7, 2) := dk_22 7 (dk_at dksX3_scheduled_4 14 rfl rfl)
theorem dX3_scheduled_109 : decode cX3_scheduled 109 = .ok (.lsub, 1) := dk_101 (dk_at dksX3_scheduled_4 16 rfl rfl)
theorem dX3_scheduled_110 : decode cX3_scheduled 110 = .ok (.invokestatic 112, 3) := dk_184 0 112 (dk_at dksX3_scheduled_4 17 rfl rfl)
theorem dX3_scheduled_113 : decode cX3_scheduled 113 = .ok (.ldc2_w 106, 3) := dk_20 0 106 (dk_at dksX3_scheduled_4 20 rfl rfl)
theorem dX3_scheduled_116 : decode cX3_scheduled 116 = .ok (.ldiv, 1) := dk_109 (dk_at dksX3_scheduled_4 23 rfl rfl)
theorem dX3_scheduled_117 : decode cX3_scheduled 117 = .ok (.aload_n 0, 1) := dk_42 (dk_at dksX3_scheduled_5 0 rfl rfl)
theorem dX3_scheduled_118 : decode cX3_scheduled 118 = .ok (.getfield 20, 3) := dk_180 0 20 (dk_at dksX3_scheduled_5 1 rfl rfl)
theorem dX3_scheduled_121 : decode cX3_scheduled 121 = .ok (.iload 6, 2) := dk_21 6 (dk_at dksX3_scheduled_5 4 rfl rfl)
theorem dX3_scheduled_123 : decode cX3_scheduled 123 = .ok (.invokeinterface 67 2, 5) := by decide +kernel
theorem dX3_scheduled_128 : decode cX3_scheduled 128 = .ok (.checkcast 9, 3) := dk_192 0 9 (dk_at dksX3_scheduled_5 11 rfl rfl)
theorem dX3_scheduled_131 : decode cX3_scheduled 131 = .ok (.getfield 75, 3) := dk_180 0 75 (dk_at dksX3_scheduled_5 14 rfl rfl)
theorem dX3_scheduled_134 : decode cX3_scheduled 134 = .ok (.i2l, 1) := dk_133 (dk_at dksX3_scheduled_5 17 rfl rfl)
theorem dX3_scheduled_135 : decode cX3_scheduled 135 = .ok (.lmul, 1) := dk_105 (dk_at dksX3_scheduled_5 18 rfl rfl)
theorem dX3_scheduled_136 : decode cX3_scheduled 136 = .ok (.ladd, 1) := dk_97 (dk_at dksX3_scheduled_5 19 rfl rfl)
theorem dX3_scheduled_137 : decode cX3_scheduled 137 = .ok (.lstore 4, 2) := dk_55 4 (dk_at dksX3_scheduled_5 20 rfl rfl)
theorem dX3_scheduled_139 : decode cX3_scheduled 139 = .ok (.iinc 6 1, 3) := dk_132 6 1 (dk_at dksX3_scheduled_6 0 rfl rfl)
theorem dX3_scheduled_142 : decode cX3_scheduled 142 = .ok (.goto (-136), 3) := dk_167 255 120 (dk_at dksX3_scheduled_6 3 rfl rfl)
theorem dX3_scheduled_145 : decode cX3_scheduled 145 = .ok (.lload 4, 2) := dk_22 4 (dk_at dksX3_scheduled_6 6 rfl rfl)
theorem dX3_scheduled_147 : decode cX3_scheduled 147 = .ok (.lreturn, 1) := dk_173 (dk_at dksX3_scheduled_6 8 rfl rfl)
abbrev cX3_minimum : ByteArray := prog_10_method_6_code
def yX3_minimum : MethodName := ⟨RX3, "minimum", "(LTaxWorkbench$Case;)J"⟩
def dkwX3_minimum_0 : List UInt8 := [42, 180, 0, 30, 4, 46, 133, 20, 0, 106, 105, 43, 42, 180, 0, 30, 3, 46, 182, 0, 108, 105, 173]
abbrev dktX3_minimum_0 : List UInt8 := dkwX3_minimum_0 ++ []
theorem dksX3_minimum_0 : cX3_minimum.data.toList.drop 0 = dktX3_minimum_0 := by decide +kernel
theorem dX3_minimum_0 : decode cX3_minimum 0 = .ok (.aload_n 0, 1) := dk_42 (dk_at dksX3_minimum_0 0 rfl rfl)
theorem dX3_minimum_1 : decode cX3_minimum 1 = .ok (.getfield 30, 3) := dk_180 0 30 (dk_at dksX3_minimum_0 1 rfl rfl)
theorem dX3_minimum_4 : decode cX3_minimum 4 = .ok (.iconst 1, 1) := dk_4 (dk_at dksX3_minimum_0 4 rfl rfl)
theorem dX3_minimum_5 : decode cX3_minimum 5 = .ok (.iaload, 1) := dk_46 (dk_at dksX3_minimum_0 5 rfl rfl)
theorem dX3_minimum_6 : decode cX3_minimum 6 = .ok (.i2l, 1) := dk_133 (dk_at dksX3_minimum_0 6 rfl rfl)
theorem dX3_minimum_7 : decode cX3_minimum 7 = .ok (.ldc2_w 106, 3) := dk_20 0 106 (dk_at dksX3_minimum_0 7 rfl rfl)
theorem dX3_minimum_10 : decode cX3_minimum 10 = .ok (.lmul, 1) := dk_105 (dk_at dksX3_minimum_0 10 rfl rfl)
theorem dX3_minimum_11 : decode cX3_minimum 11 = .ok (.aload_n 1, 1) := dk_43 (dk_at dksX3_minimum_0 11 rfl rfl)
theorem dX3_minimum_12 : decode cX3_minimum 12 = .ok (.aload_n 0, 1) := dk_42 (dk_at dksX3_minimum_0 12 rfl rfl)
theorem dX3_minimum_13 : decode cX3_minimum 13 = .ok (.getfield 30, 3) := dk_180 0 30 (dk_at dksX3_minimum_0 13 rfl rfl)
theorem dX3_minimum_16 : decode cX3_minimum 16 = .ok (.iconst 0, 1) := dk_3 (dk_at dksX3_minimum_0 16 rfl rfl)
theorem dX3_minimum_17 : decode cX3_minimum 17 = .ok (.iaload, 1) := dk_46 (dk_at dksX3_minimum_0 17 rfl rfl)
theorem dX3_minimum_18 : decode cX3_minimum 18 = .ok (.invokevirtual 108, 3) := dk_182 0 108 (dk_at dksX3_minimum_0 18 rfl rfl)
theorem dX3_minimum_21 : decode cX3_minimum 21 = .ok (.lmul, 1) := dk_105 (dk_at dksX3_minimum_0 21 rfl rfl)
theorem dX3_minimum_22 : decode cX3_minimum 22 = .ok (.lreturn, 1) := dk_173 (dk_at dksX3_minimum_0 22 rfl rfl)
abbrev cX3_charged : ByteArray := prog_10_method_7_code
def yX3_charged : MethodName := ⟨RX3, "charged", "(LTaxWorkbench$Case;)J"⟩
def dkwX3_charged_3 : List UInt8 := [132, 4, 1, 167, 255, 189, 32, 173]
abbrev dktX3_charged_3 : List UInt8 := dkwX3_charged_3 ++ []
def dkwX3_charged_2 : List UInt8 := [133, 105, 148, 155, 0, 16, 25, 5, 180, 0, 132, 133, 20, 0, 99, 105, 167, 0, 4, 9, 97, 65]
abbrev dktX3_charged_2 : List UInt8 := dkwX3_charged_2 ++ dktX3_charged_3
def dkwX3_charged_1 : List UInt8 := [182, 0, 125, 192, 0, 126, 58, 5, 32, 43, 180, 0, 128, 133, 25, 5, 180, 0, 131, 133, 43, 180, 0, 101]
abbrev dktX3_charged_1 : List UInt8 := dkwX3_charged_1 ++ dktX3_charged_2
def dkwX3_charged_0 : List UInt8 := [9, 65, 3, 54, 4, 21, 4, 42, 180, 0, 36, 182, 0, 97, 162, 0, 61, 42, 180, 0, 36, 21, 4]
abbrev dktX3_charged_0 : List UInt8 := dkwX3_charged_0 ++ dktX3_charged_1
theorem dksX3_charged_0 : cX3_charged.data.toList.drop 0 = dktX3_charged_0 := by decide +kernel
theorem dksX3_charged_1 : cX3_charged.data.toList.drop 23 = dktX3_charged_1 := dk_seg dksX3_charged_0 23 rfl rfl
theorem dksX3_charged_2 : cX3_charged.data.toList.drop 47 = dktX3_charged_2 := dk_seg dksX3_charged_1 24 rfl rfl
theorem dksX3_charged_3 : cX3_charged.data.toList.drop 69 = dktX3_charged_3 := dk_seg dksX3_charged_2 22 rfl rfl
theorem dX3_charged_0 : decode cX3_charged 0 = .ok (.lconst 0, 1) := dk_9 (dk_at dksX3_charged_0 0 rfl rfl)
theorem dX3_charged_1 : decode cX3_charged 1 = .ok (.lstore_n 2, 1) := dk_65 (dk_at dksX3_charged_0 1 rfl rfl)
theorem dX3_charged_2 : decode cX3_charged 2 = .ok (.iconst 0, 1) := dk_3 (dk_at dksX3_charged_0 2 rfl rfl)
theorem dX3_charged_3 : decode cX3_charged 3 = .ok (.istore 4, 2) := dk_54 4 (dk_at dksX3_charged_0 3 rfl rfl)
theorem dX3_charged_5 : decode cX3_charged 5 = .ok (.iload 4, 2) := dk_21 4 (dk_at dksX3_charged_0 5 rfl rfl)
theorem dX3_charged_7 : decode cX3_charged 7 = .ok (.aload_n 0, 1) := dk_42 (dk_at dksX3_charged_0 7 rfl rfl)
theorem dX3_charged_8 : decode cX3_charged 8 = .ok (.getfield 36, 3) := dk_180 0 36 (dk_at dksX3_charged_0 8 rfl rfl)
theorem dX3_charged_11 : decode cX3_charged 11 = .ok (.invokevirtual 97, 3) := dk_182 0 97 (dk_at dksX3_charged_0 11 rfl rfl)
theorem dX3_charged_14 : decode cX3_charged 14 = .ok (.if_icmp .ge 61, 3) := dk_162 0 61 (dk_at dksX3_charged_0 14 rfl rfl)
theorem dX3_charged_17 : decode cX3_charged 17 = .ok (.aload_n 0, 1) := dk_42 (dk_at dksX3_charged_0 17 rfl rfl)
theorem dX3_charged_18 : decode cX3_charged 18 = .ok (.getfield 36, 3) := dk_180 0 36 (dk_at dksX3_charged_0 18 rfl rfl)
theorem dX3_charged_21 : decode cX3_charged 21 = .ok (.iload 4, 2) := dk_21 4 (dk_at dksX3_charged_0 21 rfl rfl)
theorem dX3_charged_23 : decode cX3_charged 23 = .ok (.invokevirtual 125, 3) := dk_182 0 125 (dk_at dksX3_charged_1 0 rfl rfl)
theorem dX3_charged_26 : decode cX3_charged 26 = .ok (.checkcast 126, 3) := dk_192 0 126 (dk_at dksX3_charged_1 3 rfl rfl)
theorem dX3_charged_29 : decode cX3_charged 29 = .ok (.astore 5, 2) := dk_58 5 (dk_at dksX3_charged_1 6 rfl rfl)
theorem dX3_charged_31 : decode cX3_charged 31 = .ok (.lload_n 2, 1) := dk_32 (dk_at dksX3_charged_1 8 rfl rfl)
theorem dX3_charged_32 : decode cX3_charged 32 = .ok (.aload_n 1, 1) := dk_43 (dk_at dksX3_charged_1 9 rfl rfl)
theorem dX3_charged_33 : decode cX3_charged 33 = .ok (.getfield 128, 3) := dk_180 0 128 (dk_at dksX3_charged_1 10 rfl rfl)
theorem dX3_charged_36 : decode cX3_charged 36 = .ok (.i2l, 1) := dk_133 (dk_at dksX3_charged_1 13 rfl rfl)
theorem dX3_charged_37 : decode cX3_charged 37 = .ok (.aload 5, 2) := dk_25 5 (dk_at dksX3_charged_1 14 rfl rfl)
theorem dX3_charged_39 : decode cX3_charged 39 = .ok (.getfield 131, 3) := dk_180 0 131 (dk_at dksX3_charged_1 16 rfl rfl)
theorem dX3_charged_42 : decode cX3_charged 42 = .ok (.i2l, 1) := dk_133 (dk_at dksX3_charged_1 19 rfl rfl)
theorem dX3_charged_43 : decode cX3_charged 43 = .ok (.aload_n 1, 1) := dk_43 (dk_at dksX3_charged_1 20 rfl rfl)
theorem dX3_charged_44 : decode cX3_charged 44 = .ok (.getfield 101, 3) := dk_180 0 101 (dk_at dksX3_charged_1 21 rfl rfl)
theorem dX3_charged_47 : decode cX3_charged 47 = .ok (.i2l, 1) := dk_133 (dk_at dksX3_charged_2 0 rfl rfl)
theorem dX3_charged_48 : decode cX3_charged 48 = .ok (.lmul, 1) := dk_105 (dk_at dksX3_charged_2 1 rfl rfl)
theorem dX3_charged_49 : decode cX3_charged 49 = .ok (.lcmp, 1) := dk_148 (dk_at dksX3_charged_2 2 rfl rfl)
theorem dX3_charged_50 : decode cX3_charged 50 = .ok (.ifCond .lt 16, 3) := dk_155 0 16 (dk_at dksX3_charged_2 3 rfl rfl)
theorem dX3_charged_53 : decode cX3_charged 53 = .ok (.aload 5, 2) := dk_25 5 (dk_at dksX3_charged_2 6 rfl rfl)
theorem dX3_charged_55 : decode cX3_charged 55 = .ok (.getfield 132, 3) := dk_180 0 132 (dk_at dksX3_charged_2 8 rfl rfl)
theorem dX3_charged_58 : decode cX3_charged 58 = .ok (.i2l, 1) := dk_133 (dk_at dksX3_charged_2 11 rfl rfl)
theorem dX3_charged_59 : decode cX3_charged 59 = .ok (.ldc2_w 99, 3) := dk_20 0 99 (dk_at dksX3_charged_2 12 rfl rfl)
theorem dX3_charged_62 : decode cX3_charged 62 = .ok (.lmul, 1) := dk_105 (dk_at dksX3_charged_2 15 rfl rfl)
theorem dX3_charged_63 : decode cX3_charged 63 = .ok (.goto 4, 3) := dk_167 0 4 (dk_at dksX3_charged_2 16 rfl rfl)
theorem dX3_charged_66 : decode cX3_charged 66 = .ok (.lconst 0, 1) := dk_9 (dk_at dksX3_charged_2 19 rfl rfl)
theorem dX3_charged_67 : decode cX3_charged 67 = .ok (.ladd, 1) := dk_97 (dk_at dksX3_charged_2 20 rfl rfl)
theorem dX3_charged_68 : decode cX3_charged 68 = .ok (.lstore_n 2, 1) := dk_65 (dk_at dksX3_charged_2 21 rfl rfl)
theorem dX3_charged_69 : decode cX3_charged 69 = .ok (.iinc 4 1, 3) := dk_132 4 1 (dk_at dksX3_charged_3 0 rfl rfl)
theorem dX3_charged_72 : decode cX3_charged 72 = .ok (.goto (-67), 3) := dk_167 255 189 (dk_at dksX3_charged_3 3 rfl rfl)
theorem dX3_charged_75 : decode cX3_charged 75 = .ok (.lload_n 2, 1) := dk_32 (dk_at dksX3_charged_3 6 rfl rfl)
theorem dX3_charged_76 : decode cX3_charged 76 = .ok (.lreturn, 1) := dk_173 (dk_at dksX3_charged_3 7 rfl rfl)
abbrev cX3_isAllowed : ByteArray := prog_10_method_3_code
def yX3_isAllowed : MethodName := ⟨RX3, "isAllowed", "()Z"⟩
def dkwX3_isAllowed_10 : List UInt8 := [172]
abbrev dktX3_isAllowed_10 : List UInt8 := dkwX3_isAllowed_10 ++ []
def dkwX3_isAllowed_9 : List UInt8 := [182, 0, 97, 7, 163, 0, 19, 42, 180, 0, 43, 182, 0, 98, 16, 6, 163, 0, 7, 4, 167, 0, 4, 3]
abbrev dktX3_isAllowed_9 : List UInt8 := dkwX3_isAllowed_9 ++ dktX3_isAllowed_10
def dkwX3_isAllowed_8 : List UInt8 := [17, 3, 231, 163, 0, 42, 42, 180, 0, 30, 4, 46, 17, 3, 231, 163, 0, 30, 42, 180, 0, 36]
abbrev dktX3_isAllowed_8 : List UInt8 := dkwX3_isAllowed_8 ++ dktX3_isAllowed_9
def dkwX3_isAllowed_7 : List UInt8 := [192, 0, 92, 78, 27, 45, 182, 0, 94, 126, 60, 167, 255, 230, 27, 153, 0, 54, 42, 180, 0, 26, 5, 46]
abbrev dktX3_isAllowed_7 : List UInt8 := dkwX3_isAllowed_7 ++ dktX3_isAllowed_8
def dkwX3_isAllowed_6 : List UInt8 := [180, 0, 43, 182, 0, 78, 77, 44, 185, 0, 82, 1, 0, 153, 0, 23, 44, 185, 0, 88, 1, 0]
abbrev dktX3_isAllowed_6 : List UInt8 := dkwX3_isAllowed_6 ++ dktX3_isAllowed_7
def dkwX3_isAllowed_5 : List UInt8 := [192, 0, 9, 180, 0, 71, 164, 0, 7, 4, 167, 0, 4, 3, 126, 60, 132, 2, 1, 167, 255, 169, 42]
abbrev dktX3_isAllowed_5 : List UInt8 := dkwX3_isAllowed_5 ++ dktX3_isAllowed_6
def dkwX3_isAllowed_4 : List UInt8 := [185, 0, 67, 2, 0, 192, 0, 9, 180, 0, 71, 42, 180, 0, 20, 28, 4, 100, 185, 0, 67, 2, 0]
abbrev dktX3_isAllowed_4 : List UInt8 := dkwX3_isAllowed_4 ++ dktX3_isAllowed_5
def dkwX3_isAllowed_3 : List UInt8 := [192, 0, 9, 180, 0, 75, 17, 3, 231, 163, 0, 48, 28, 153, 0, 40, 42, 180, 0, 20, 28]
abbrev dktX3_isAllowed_3 : List UInt8 := dkwX3_isAllowed_3 ++ dktX3_isAllowed_4
def dkwX3_isAllowed_2 : List UInt8 := [180, 0, 20, 185, 0, 59, 1, 0, 162, 0, 80, 27, 42, 180, 0, 20, 28, 185, 0, 67, 2, 0]
abbrev dktX3_isAllowed_2 : List UInt8 := dkwX3_isAllowed_2 ++ dktX3_isAllowed_3
def dkwX3_isAllowed_1 : List UInt8 := [185, 0, 67, 2, 0, 192, 0, 9, 180, 0, 71, 154, 0, 7, 4, 167, 0, 4, 3, 60, 3, 61, 28, 42]
abbrev dktX3_isAllowed_1 : List UInt8 := dkwX3_isAllowed_1 ++ dktX3_isAllowed_2
def dkwX3_isAllowed_0 : List UInt8 := [42, 180, 0, 20, 185, 0, 59, 1, 0, 4, 16, 6, 184, 0, 63, 153, 0, 26, 42, 180, 0, 20, 3]
abbrev dktX3_isAllowed_0 : List UInt8 := dkwX3_isAllowed_0 ++ dktX3_isAllowed_1
theorem dksX3_isAllowed_0 : cX3_isAllowed.data.toList.drop 0 = dktX3_isAllowed_0 := by decide +kernel
theorem dksX3_isAllowed_1 : cX3_isAllowed.data.toList.drop 23 = dktX3_isAllowed_1 := dk_seg dksX3_isAllowed_0 23 rfl rfl
theorem dksX3_isAllowed_2 : cX3_isAllowed.data.toList.drop 47 = dktX3_isAllowed_2 := dk_seg dksX3_isAllowed_1 24 rfl rfl
theorem dksX3_isAllowed_3 : cX3_isAllowed.data.toList.drop 69 = dktX3_isAllowed_3 := dk_seg dksX3_isAllowed_2 22 rfl rfl
theorem dksX3_isAllowed_4 : cX3_isAllowed.data.toList.drop 90 = dktX3_isAllowed_4 := dk_seg dksX3_isAllowed_3 21 rfl rfl
theorem dksX3_isAllowed_5 : cX3_isAllowed.data.toList.drop 113 = dktX3_isAllowed_5 := dk_seg dksX3_isAllowed_4 23 rfl rfl
theorem dksX3_isAllowed_6 : cX3_isAllowed.data.toList.drop 136 = dktX3_isAllowed_6 := dk_seg dksX3_isAllowed_5 23 rfl rfl
theorem dksX3_isAllowed_7 : cX3_isAllowed.data.toList.drop 158 = dktX3_isAllowed_7 := dk_seg dksX3_isAllowed_6 22 rfl rfl
theorem dksX3_isAllowed_8 : cX3_isAllowed.data.toList.drop 182 = dktX3_isAllowed_8 := dk_seg dksX3_isAllowed_7 24 rfl rfl
theorem dksX3_isAllowed_9 : cX3_isAllowed.data.toList.drop 204 = dktX3_isAllowed_9 := dk_seg dksX3_isAllowed_8 22 rfl rfl
theorem dksX3_isAllowed_10 : cX3_isAllowed.data.toList.drop 228 = dktX3_isAllowed_10 := dk_seg dksX3_isAllowed_9 24 rfl rfl
theorem dX3_isAllowed_0 : decode cX3_isAllowed 0 = .ok (.aload_n 0, 1) := dk_42 (dk_at dksX3_isAllowed_0 0 rfl rfl)
theorem dX3_isAllowed_1 : decode cX3_isAllowed 1 = .ok (.getfield 20, 3) := dk_180 0 20 (dk_at dksX3_isAllowed_0 1 rfl rfl)
theorem dX3_isAllowed_4 : decode cX3_isAllowed 4 = .ok (.invokeinterface 59 1, 5) := by decide +kernel
theorem dX3_isAllowed_9 : decode cX3_isAllowed 9 = .ok (.iconst 1, 1) := dk_4 (dk_at dksX3_isAllowed_0 9 rfl rfl)
theorem dX3_isAllowed_10 : decode cX3_isAllowed 10 = .ok (.bipush 6, 2) := dk_16 6 (dk_at dksX3_isAllowed_0 10 rfl rfl)
theorem dX3_isAllowed_12 : decode cX3_isAllowed 12 = .ok (.invokestatic 63, 3) := dk_184 0 63 (dk_at dksX3_isAllowed_0 12 rfl rfl)
theorem dX3_isAllowed_15 : decode cX3_isAllowed 15 = .ok (.ifCond .eq 26, 3) := dk_153 0 26 (dk_at dksX3_isAllowed_0 15 rfl rfl)
theorem dX3_isAllowed_18 : decode cX3_isAllowed 18 = .ok (.aload_n 0, 1) := dk_42 (dk_at dksX3_isAllowed_0 18 rfl rfl)
theorem dX3_isAllowed_19 : decode cX3_isAllowed 19 = .ok (.getfield 20, 3) := dk_180 0 20 (dk_at dksX3_isAllowed_0 19 rfl rfl)
theorem dX3_isAllowed_22 : decode cX3_isAllowed 22 = .ok (.iconst 0, 1) := dk_3 (dk_at dksX3_isAllowed_0 22 rfl rfl)
theorem dX3_isAllowed_23 : decode cX3_isAllowed 23 = .ok (.invokeinterface 67 2, 5) := by decide +kernel
theorem dX3_isAllowed_28 : decode cX3_isAllowed 28 = .ok (.checkcast 9, 3) := dk_192 0 9 (dk_at dksX3_isAllowed_1 5 rfl rfl)
theorem dX3_isAllowed_31 : decode cX3_isAllowed 31 = .ok (.getfield 71, 3) := dk_180 0 71 (dk_at dksX3_isAllowed_1 8 rfl rfl)
theorem dX3_isAllowed_34 : decode cX3_isAllowed 34 = .ok (.ifCond .ne 7, 3) := dk_154 0 7 (dk_at dksX3_isAllowed_1 11 rfl rfl)
theorem dX3_isAllowed_37 : decode cX3_isAllowed 37 = .ok (.iconst 1, 1) := dk_4 (dk_at dksX3_isAllowed_1 14 rfl rfl)
theorem dX3_isAllowed_38 : decode cX3_isAllowed 38 = .ok (.goto 4, 3) := dk_167 0 4 (dk_at dksX3_isAllowed_1 15 rfl rfl)
theorem dX3_isAllowed_41 : decode cX3_isAllowed 41 = .ok (.iconst 0, 1) := dk_3 (dk_at dksX3_isAllowed_1 18 rfl rfl)
theorem dX3_isAllowed_42 : decode cX3_isAllowed 42 = .ok (.istore_n 1, 1) := dk_60 (dk_at dksX3_isAllowed_1 19 rfl rfl)
theorem dX3_isAllowed_43 : decode cX3_isAllowed 43 = .ok (.iconst 0, 1) := dk_3 (dk_at dksX3_isAllowed_1 20 rfl rfl)
theorem dX3_isAllowed_44 : decode cX3_isAllowed 44 = .ok (.istore_n 2, 1) := dk_61 (dk_at dksX3_isAllowed_1 21 rfl rfl)
theorem dX3_isAllowed_45 : decode cX3_isAllowed 45 = .ok (.iload_n 2, 1) := dk_28 (dk_at dksX3_isAllowed_1 22 rfl rfl)
theorem dX3_isAllowed_46 : decode cX3_isAllowed 46 = .ok (.aload_n 0, 1) := dk_42 (dk_at dksX3_isAllowed_1 23 rfl rfl)
theorem dX3_isAllowed_47 : decode cX3_isAllowed 47 = .ok (.getfield 20, 3) := dk_180 0 20 (dk_at dksX3_isAllowed_2 0 rfl rfl)
theorem dX3_isAllowed_50 : decode cX3_isAllowed 50 = .ok (.invokeinterface 59 1, 5) := by decide +kernel
theorem dX3_isAllowed_55 : decode cX3_isAllowed 55 = .ok (.if_icmp .ge 80, 3) := dk_162 0 80 (dk_at dksX3_isAllowed_2 8 rfl rfl)
theorem dX3_isAllowed_58 : decode cX3_isAllowed 58 = .ok (.iload_n 1, 1) := dk_27 (dk_at dksX3_isAllowed_2 11 rfl rfl)
theorem dX3_isAllowed_59 : decode cX3_isAllowed 59 = .ok (.aload_n 0, 1) := dk_42 (dk_at dksX3_isAllowed_2 12 rfl rfl)
theorem dX3_isAllowed_60 : decode cX3_isAllowed 60 = .ok (.getfield 20, 3) := dk_180 0 20 (dk_at dksX3_isAllowed_2 13 rfl rfl)
theorem dX3_isAllowed_63 : decode cX3_isAllowed 63 = .ok (.iload_n 2, 1) := dk_28 (dk_at dksX3_isAllowed_2 16 rfl rfl)
theorem dX3_isAllowed_64 : decode cX3_isAllowed 64 = .ok (.invokeinterface 67 2, 5) := by decide +kernel
theorem dX3_isAllowed_69 : decode cX3_isAllowed 69 = .ok (.checkcast 9, 3) := dk_192 0 9 (dk_at dksX3_isAllowed_3 0 rfl rfl)
theorem dX3_isAllowed_72 : decode cX3_isAllowed 72 = .ok (.getfield 75, 3) := dk_180 0 75 (dk_at dksX3_isAllowed_3 3 rfl rfl)
theorem dX3_isAllowed_75 : decode cX3_isAllowed 75 = .ok (.sipush 999, 3) := dk_17 3 231 (dk_at dksX3_isAllowed_3 6 rfl rfl)
theorem dX3_isAllowed_78 : decode cX3_isAllowed 78 = .ok (.if_icmp .gt 48, 3) := dk_163 0 48 (dk_at dksX3_isAllowed_3 9 rfl rfl)
theorem dX3_isAllowed_81 : decode cX3_isAllowed 81 = .ok (.iload_n 2, 1) := dk_28 (dk_at dksX3_isAllowed_3 12 rfl rfl)
theorem dX3_isAllowed_82 : decode cX3_isAllowed 82 = .ok (.ifCond .eq 40, 3) := dk_153 0 40 (dk_at dksX3_isAllowed_3 13 rfl rfl)
theorem dX3_isAllowed_85 : decode cX3_isAllowed 85 = .ok (.aload_n 0, 1) := dk_42 (dk_at dksX3_isAllowed_3 16 rfl rfl)
theorem dX3_isAllowed_86 : decode cX3_isAllowed 86 = .ok (.getfield 20, 3) := dk_180 0 20 (dk_at dksX3_isAllowed_3 17 rfl rfl)
theorem dX3_isAllowed_89 : decode cX3_isAllowed 89 = .ok (.iload_n 2, 1) := dk_28 (dk_at dksX3_isAllowed_3 20 rfl rfl)
theorem dX3_isAllowed_90 : decode cX3_isAllowed 90 = .ok (.invokeinterface 67 2, 5) := by decide +kernel
theorem dX3_isAllowed_95 : decode cX3_isAllowed 95 = .ok (.checkcast 9, 3) := dk_192 0 9 (dk_at dksX3_isAllowed_4 5 rfl rfl)
theorem dX3_isAllowed_98 : decode cX3_isAllowed 98 = .ok (.getfield 71, 3) := dk_180 0 71 (dk_at dksX3_isAllowed_4 8 rfl rfl)
theorem dX3_isAllowed_101 : decode cX3_isAllowed 101 = .ok (.aload_n 0, 1) := dk_42 (dk_at dksX3_isAllowed_4 11 rfl rfl)
theorem dX3_isAllowed_102 : decode cX3_isAllowed 102 = .ok (.getfield 20, 3) := dk_180 0 20 (dk_at dksX3_isAllowed_4 12 rfl rfl)
theorem dX3_isAllowed_105 : decode cX3_isAllowed 105 = .ok (.iload_n 2, 1) := dk_28 (dk_at dksX3_isAllowed_4 15 rfl rfl)
theorem dX3_isAllowed_106 : decode cX3_isAllowed 106 = .ok (.iconst 1, 1) := dk_4 (dk_at dksX3_isAllowed_4 16 rfl rfl)
theorem dX3_isAllowed_107 : decode cX3_isAllowed 107 = .ok (.isub, 1) := dk_100 (dk_at dksX3_isAllowed_4 17 rfl rfl)
theorem dX3_isAllowed_108 : decode cX3_isAllowed 108 = .ok (.invokeinterface 67 2, 5) := by decide +kernel
theorem dX3_isAllowed_113 : decode cX3_isAllowed 113 = .ok (.checkcast 9, 3) := dk_192 0 9 (dk_at dksX3_isAllowed_5 0 rfl rfl)
theorem dX3_isAllowed_116 : decode cX3_isAllowed 116 = .ok (.getfield 71, 3) := dk_180 0 71 (dk_at dksX3_isAllowed_5 3 rfl rfl)
theorem dX3_isAllowed_119 : decode cX3_isAllowed 119 = .ok (.if_icmp .le 7, 3) := dk_164 0 7 (dk_at dksX3_isAllowed_5 6 rfl rfl)
theorem dX3_isAllowed_122 : decode cX3_isAllowed 122 = .ok (.iconst 1, 1) := dk_4 (dk_at dksX3_isAllowed_5 9 rfl rfl)
theorem dX3_isAllowed_123 : decode cX3_isAllowed 123 = .ok (.goto 4, 3) := dk_167 0 4 (dk_at dksX3_isAllowed_5 10 rfl rfl)
theorem dX3_isAllowed_126 : decode cX3_isAllowed 126 = .ok (.iconst 0, 1) := dk_3 (dk_at dksX3_isAllowed_5 13 rfl rfl)
theorem dX3_isAllowed_127 : decode cX3_isAllowed 127 = .ok (.iand, 1) := dk_126 (dk_at dksX3_isAllowed_5 14 rfl rfl)
theorem dX3_isAllowed_128 : decode cX3_isAllowed 128 = .ok (.istore_n 1, 1) := dk_60 (dk_at dksX3_isAllowed_5 15 rfl rfl)
theorem dX3_isAllowed_129 : decode cX3_isAllowed 129 = .ok (.iinc 2 1, 3) := dk_132 2 1 (dk_at dksX3_isAllowed_5 16 rfl rfl)
theorem dX3_isAllowed_132 : decode cX3_isAllowed 132 = .ok (.goto (-87), 3) := dk_167 255 169 (dk_at dksX3_isAllowed_5 19 rfl rfl)
theorem dX3_isAllowed_135 : decode cX3_isAllowed 135 = .ok (.aload_n 0, 1) := dk_42 (dk_at dksX3_isAllowed_5 22 rfl rfl)
theorem dX3_isAllowed_136 : decode cX3_isAllowed 136 = .ok (.getfield 43, 3) := dk_180 0 43 (dk_at dksX3_isAllowed_6 0 rfl rfl)
theorem dX3_isAllowed_139 : decode cX3_isAllowed 139 = .ok (.invokevirtual 78, 3) := dk_182 0 78 (dk_at dksX3_isAllowed_6 3 rfl rfl)
theorem dX3_isAllowed_142 : decode cX3_isAllowed 142 = .ok (.astore_n 2, 1) := dk_77 (dk_at dksX3_isAllowed_6 6 rfl rfl)
theorem dX3_isAllowed_143 : decode cX3_isAllowed 143 = .ok (.aload_n 2, 1) := dk_44 (dk_at dksX3_isAllowed_6 7 rfl rfl)
theorem dX3_isAllowed_144 : decode cX3_isAllowed 144 = .ok (.invokeinterface 82 1, 5) := by decide +kernel
theorem dX3_isAllowed_149 : decode cX3_isAllowed 149 = .ok (.ifCond .eq 23, 3) := dk_153 0 23 (dk_at dksX3_isAllowed_6 13 rfl rfl)
theorem dX3_isAllowed_152 : decode cX3_isAllowed 152 = .ok (.aload_n 2, 1) := dk_44 (dk_at dksX3_isAllowed_6 16 rfl rfl)
theorem dX3_isAllowed_153 : decode cX3_isAllowed 153 = .ok (.invokeinterface 88 1, 5) := by decide +kernel
theorem dX3_isAllowed_158 : decode cX3_isAllowed 158 = .ok (.checkcast 92, 3) := dk_192 0 92 (dk_at dksX3_isAllowed_7 0 rfl rfl)
theorem dX3_isAllowed_161 : decode cX3_isAllowed 161 = .ok (.astore_n 3, 1) := dk_78 (dk_at dksX3_isAllowed_7 3 rfl rfl)
theorem dX3_isAllowed_162 : decode cX3_isAllowed 162 = .ok (.iload_n 1, 1) := dk_27 (dk_at dksX3_isAllowed_7 4 rfl rfl)
theorem dX3_isAllowed_163 : decode cX3_isAllowed 163 = .ok (.aload_n 3, 1) := dk_45 (dk_at dksX3_isAllowed_7 5 rfl rfl)
theorem dX3_isAllowed_164 : decode cX3_isAllowed 164 = .ok (.invokevirtual 94, 3) := dk_182 0 94 (dk_at dksX3_isAllowed_7 6 rfl rfl)
theorem dX3_isAllowed_167 : decode cX3_isAllowed 167 = .ok (.iand, 1) := dk_126 (dk_at dksX3_isAllowed_7 9 rfl rfl)
theorem dX3_isAllowed_168 : decode cX3_isAllowed 168 = .ok (.istore_n 1, 1) := dk_60 (dk_at dksX3_isAllowed_7 10 rfl rfl)
theorem dX3_isAllowed_169 : decode cX3_isAllowed 169 = .ok (.goto (-26), 3) := dk_167 255 230 (dk_at dksX3_isAllowed_7 11 rfl rfl)
theorem dX3_isAllowed_172 : decode cX3_isAllowed 172 = .ok (.iload_n 1, 1) := dk_27 (dk_at dksX3_isAllowed_7 14 rfl rfl)
theorem dX3_isAllowed_173 : decode cX3_isAllowed 173 = .ok (.ifCond .eq 54, 3) := dk_153 0 54 (dk_at dksX3_isAllowed_7 15 rfl rfl)
theorem dX3_isAllowed_176 : decode cX3_isAllowed 176 = .ok (.aload_n 0, 1) := dk_42 (dk_at dksX3_isAllowed_7 18 rfl rfl)
theorem dX3_isAllowed_177 : decode cX3_isAllowed 177 = .ok (.getfield 26, 3) := dk_180 0 26 (dk_at dksX3_isAllowed_7 19 rfl rfl)
theorem dX3_isAllowed_180 : decode cX3_isAllowed 180 = .ok (.iconst 2, 1) := dk_5 (dk_at dksX3_isAllowed_7 22 rfl rfl)
theorem dX3_isAllowed_181 : decode cX3_isAllowed 181 = .ok (.iaload, 1) := dk_46 (dk_at dksX3_isAllowed_7 23 rfl rfl)
theorem dX3_isAllowed_182 : decode cX3_isAllowed 182 = .ok (.sipush 999, 3) := dk_17 3 231 (dk_at dksX3_isAllowed_8 0 rfl rfl)
theorem dX3_isAllowed_185 : decode cX3_isAllowed 185 = .ok (.if_icmp .gt 42, 3) := dk_163 0 42 (dk_at dksX3_isAllowed_8 3 rfl rfl)
theorem dX3_isAllowed_188 : decode cX3_isAllowed 188 = .ok (.aload_n 0, 1) := dk_42 (dk_at dksX3_isAllowed_8 6 rfl rfl)
theorem dX3_isAllowed_189 : decode cX3_isAllowed 189 = .ok (.getfield 30, 3) := dk_180 0 30 (dk_at dksX3_isAllowed_8 7 rfl rfl)
theorem dX3_isAllowed_192 : decode cX3_isAllowed 192 = .ok (.iconst 1, 1) := dk_4 (dk_at dksX3_isAllowed_8 10 rfl rfl)
theorem dX3_isAllowed_193 : decode cX3_isAllowed 193 = .ok (.iaload, 1) := dk_46 (dk_at dksX3_isAllowed_8 11 rfl rfl)
theorem dX3_isAllowed_194 : decode cX3_isAllowed 194 = .ok (.sipush 999, 3) := dk_17 3 231 (dk_at dksX3_isAllowed_8 12 rfl rfl)
theorem dX3_isAllowed_197 : decode cX3_isAllowed 197 = .ok (.if_icmp .gt 30, 3) := dk_163 0 30 (dk_at dksX3_isAllowed_8 15 rfl rfl)
theorem dX3_isAllowed_200 : decode cX3_isAllowed 200 = .ok (.aload_n 0, 1) := dk_42 (dk_at dksX3_isAllowed_8 18 rfl rfl)
theorem dX3_isAllowed_201 : decode cX3_isAllowed 201 = .ok (.getfield 36, 3) := dk_180 0 36 (dk_at dksX3_isAllowed_8 19 rfl rfl)
theorem dX3_isAllowed_204 : decode cX3_isAllowed 204 = .ok (.invokevirtual 97, 3) := dk_182 0 97 (dk_at dksX3_isAllowed_9 0 rfl rfl)
theorem dX3_isAllowed_207 : decode cX3_isAllowed 207 = .ok (.iconst 4, 1) := dk_7 (dk_at dksX3_isAllowed_9 3 rfl rfl)
theorem dX3_isAllowed_208 : decode cX3_isAllowed 208 = .ok (.if_icmp .gt 19, 3) := dk_163 0 19 (dk_at dksX3_isAllowed_9 4 rfl rfl)
theorem dX3_isAllowed_211 : decode cX3_isAllowed 211 = .ok (.aload_n 0, 1) := dk_42 (dk_at dksX3_isAllowed_9 7 rfl rfl)
theorem dX3_isAllowed_212 : decode cX3_isAllowed 212 = .ok (.getfield 43, 3) := dk_180 0 43 (dk_at dksX3_isAllowed_9 8 rfl rfl)
theorem dX3_isAllowed_215 : decode cX3_isAllowed 215 = .ok (.invokevirtual 98, 3) := dk_182 0 98 (dk_at dksX3_isAllowed_9 11 rfl rfl)
theorem dX3_isAllowed_218 : decode cX3_isAllowed 218 = .ok (.bipush 6, 2) := dk_16 6 (dk_at dksX3_isAllowed_9 14 rfl rfl)
theorem dX3_isAllowed_220 : decode cX3_isAllowed 220 = .ok (.if_icmp .gt 7, 3) := dk_163 0 7 (dk_at dksX3_isAllowed_9 16 rfl rfl)
theorem dX3_isAllowed_223 : decode cX3_isAllowed 223 = .ok (.iconst 1, 1) := dk_4 (dk_at dksX3_isAllowed_9 19 rfl rfl)
theorem dX3_isAllowed_224 : decode cX3_isAllowed 224 = .ok (.goto 4, 3) := dk_167 0 4 (dk_at dksX3_isAllowed_9 20 rfl rfl)
theorem dX3_isAllowed_227 : decode cX3_isAllowed 227 = .ok (.iconst 0, 1) := dk_3 (dk_at dksX3_isAllowed_9 23 rfl rfl)
theorem dX3_isAllowed_228 : decode cX3_isAllowed 228 = .ok (.ireturn, 1) := dk_172 (dk_at dksX3_isAllowed_10 0 rfl rfl)
theorem q104 : (Jvm.Cond.initialized "TaxWorkbench$Rules") ∈ lw_all := lw_g (lw_at lw_m1 3 rfl) rfl
theorem q188 : (Jvm.Cond.instantiable "TaxWorkbench$Rules" (5 : Nat)) ∈ lw_all := lw_g (lw_at lw_m1 87 rfl) rfl
theorem q190 : (Jvm.Cond.instanceMethod ({ cls := "TaxWorkbench$Rules", name := "<init>", desc := "()V" } : Jvm.MethodName)) ∈ lw_all := lw_g (lw_at lw_m1 89 rfl) rfl
theorem q191 : (Jvm.Cond.code ({ cls := "TaxWorkbench$Rules", name := "<init>", desc := "()V" } : Jvm.MethodName) prog_10_method_1_code (1 : Nat) (Option.none : Option Jvm.ClassFile.FieldType)) ∈ lw_all := lw_g (lw_at lw_m1 90 rfl) rfl
theorem q192 : (Jvm.Cond.methodLink "TaxWorkbench$Rules" (3 : Nat) ({ cls := "java/lang/Object", name := "<init>", desc := "()V" } : Jvm.MethodName)) ∈ lw_all := lw_g (lw_at lw_m1 91 rfl) rfl
theorem q193 : (Jvm.Cond.classLink "TaxWorkbench$Rules" (9 : Nat) "TaxWorkbench$Bracket") ∈ lw_all := lw_g (lw_at lw_m1 92 rfl) rfl
theorem q195 : (Jvm.Cond.methodLink "TaxWorkbench$Rules" (11 : Nat) ({ cls := "TaxWorkbench$Bracket", name := "<init>", desc := "(II)V" } : Jvm.MethodName)) ∈ lw_all := lw_g (lw_at lw_m1 94 rfl) rfl
theorem q200 : (Jvm.Cond.fieldLinkNest "TaxWorkbench$Rules" (71 : Nat) "TaxWorkbench$Bracket" "threshold" "I" "TaxWorkbench") ∈ lw_tbl := lw_at lw_m1 99 rfl
theorem q203 : (Jvm.Cond.fieldLinkNest "TaxWorkbench$Rules" (75 : Nat) "TaxWorkbench$Bracket" "rate" "I" "TaxWorkbench") ∈ lw_tbl := lw_at lw_m1 102 rfl
theorem q210 : (Jvm.Cond.methodLink "TaxWorkbench$Rules" (14 : Nat) ({ cls := "java/util/List", name := "of", desc := "(Ljava/lang/Object;)Ljava/util/List;" } : Jvm.MethodName)) ∈ lw_all := lw_g (lw_at lw_m1 109 rfl) rfl
theorem q240 : (Jvm.Cond.classLink "TaxWorkbench$Rules" (33 : Nat) "java/util/ArrayList") ∈ lw_all := lw_g (lw_at lw_m1 139 rfl) rfl
theorem q242 : (Jvm.Cond.methodLink "TaxWorkbench$Rules" (35 : Nat) ({ cls := "java/util/ArrayList", name := "<init>", desc := "()V" } : Jvm.MethodName)) ∈ lw_all := lw_g (lw_at lw_m1 141 rfl) rfl
theorem q283 : (Jvm.Cond.classLink "TaxWorkbench$Rules" (40 : Nat) "java/util/LinkedList") ∈ lw_all := lw_g (lw_at lw_m1 182 rfl) rfl
theorem q285 : (Jvm.Cond.methodLink "TaxWorkbench$Rules" (42 : Nat) ({ cls := "java/util/LinkedList", name := "<init>", desc := "()V" } : Jvm.MethodName)) ∈ lw_all := lw_g (lw_at lw_m1 184 rfl) rfl
theorem q305 : (Jvm.Cond.fieldLink "TaxWorkbench$Rules" (20 : Nat) "TaxWorkbench$Rules" "brackets" "Ljava/util/List;") ∈ lw_all := lw_g (lw_at lw_m1 204 rfl) rfl
theorem q308 : (Jvm.Cond.fieldLink "TaxWorkbench$Rules" (26 : Nat) "TaxWorkbench$Rules" "allowance" "[I") ∈ lw_all := lw_g (lw_at lw_m1 207 rfl) rfl
theorem q311 : (Jvm.Cond.fieldLink "TaxWorkbench$Rules" (30 : Nat) "TaxWorkbench$Rules" "minimum" "[I") ∈ lw_all := lw_g (lw_at lw_m1 210 rfl) rfl
theorem q314 : (Jvm.Cond.fieldLink "TaxWorkbench$Rules" (36 : Nat) "TaxWorkbench$Rules" "charges" "Ljava/util/ArrayList;") ∈ lw_all := lw_g (lw_at lw_m1 213 rfl) rfl
theorem q317 : (Jvm.Cond.fieldLink "TaxWorkbench$Rules" (43 : Nat) "TaxWorkbench$Rules" "credits" "Ljava/util/LinkedList;") ∈ lw_all := lw_g (lw_at lw_m1 216 rfl) rfl
theorem q321 : (Jvm.Cond.lays "TaxWorkbench$Rules" "TaxWorkbench$Rules" "brackets" "Ljava/util/List;") ∈ lw_all := lw_g (lw_at lw_m1 220 rfl) rfl
theorem q322 : (Jvm.Cond.soleField "TaxWorkbench$Rules" "brackets") ∈ lw_all := lw_g (lw_at lw_m1 221 rfl) rfl
theorem q323 : (Jvm.Cond.laysFinal "TaxWorkbench$Rules" "TaxWorkbench$Rules" "allowance" "[I") ∈ lw_all := lw_g (lw_at lw_m1 222 rfl) rfl
theorem q324 : (Jvm.Cond.soleField "TaxWorkbench$Rules" "allowance") ∈ lw_all := lw_g (lw_at lw_m1 223 rfl) rfl
theorem q325 : (Jvm.Cond.laysFinal "TaxWorkbench$Rules" "TaxWorkbench$Rules" "minimum" "[I") ∈ lw_all := lw_g (lw_at lw_m1 224 rfl) rfl
theorem q326 : (Jvm.Cond.soleField "TaxWorkbench$Rules" "minimum") ∈ lw_all := lw_g (lw_at lw_m1 225 rfl) rfl
theorem q327 : (Jvm.Cond.laysFinal "TaxWorkbench$Rules" "TaxWorkbench$Rules" "charges" "Ljava/util/ArrayList;") ∈ lw_all := lw_g (lw_at lw_m1 226 rfl) rfl
theorem q328 : (Jvm.Cond.soleField "TaxWorkbench$Rules" "charges") ∈ lw_all := lw_g (lw_at lw_m1 227 rfl) rfl
theorem q329 : (Jvm.Cond.laysFinal "TaxWorkbench$Rules" "TaxWorkbench$Rules" "credits" "Ljava/util/LinkedList;") ∈ lw_all := lw_g (lw_at lw_m1 228 rfl) rfl
theorem q330 : (Jvm.Cond.soleField "TaxWorkbench$Rules" "credits") ∈ lw_all := lw_g (lw_at lw_m1 229 rfl) rfl
theorem q331 : (Jvm.Cond.superclass "TaxWorkbench$Rules" "java/lang/Object") ∈ lw_all := lw_g (lw_at lw_m1 230 rfl) rfl
theorem q395 : (Jvm.Cond.selects "TaxWorkbench$Rules" ({ cls := "java/lang/Object", name := "getClass", desc := "()Ljava/lang/Class;" } : Jvm.MethodName) ({ cls := "java/lang/Object", name := "getClass", desc := "()Ljava/lang/Class;" } : Jvm.MethodName)) ∈ lw_all := lw_g (lw_at lw_m2 54 rfl) rfl
theorem q504 : (Jvm.Cond.fieldLinkNest "TaxWorkbench$Rules" (128 : Nat) "TaxWorkbench$Case" "income" "I" "TaxWorkbench") ∈ lw_tbl := lw_at lw_m2 163 rfl
theorem q509 : (Jvm.Cond.fieldLinkNest "TaxWorkbench$Rules" (101 : Nat) "TaxWorkbench$Case" "factor" "I" "TaxWorkbench") ∈ lw_tbl := lw_at lw_m2 168 rfl
theorem q602 : (Jvm.Cond.instanceMethod ({ cls := "TaxWorkbench$Rules", name := "copy", desc := "()LTaxWorkbench$Rules;" } : Jvm.MethodName)) ∈ lw_all := lw_g (lw_at lw_m3 21 rfl) rfl
theorem q603 : (Jvm.Cond.selects "TaxWorkbench$Rules" ({ cls := "TaxWorkbench$Rules", name := "copy", desc := "()LTaxWorkbench$Rules;" } : Jvm.MethodName) ({ cls := "TaxWorkbench$Rules", name := "copy", desc := "()LTaxWorkbench$Rules;" } : Jvm.MethodName)) ∈ lw_all := lw_g (lw_at lw_m3 22 rfl) rfl
theorem q604 : (Jvm.Cond.code ({ cls := "TaxWorkbench$Rules", name := "copy", desc := "()LTaxWorkbench$Rules;" } : Jvm.MethodName) prog_10_method_2_code (2 : Nat) (Option.some (Jvm.ClassFile.FieldType.object "TaxWorkbench$Rules"))) ∈ lw_all := lw_g (lw_at lw_m3 23 rfl) rfl
theorem q605 : (Jvm.Cond.classLink "TaxWorkbench$Rules" (21 : Nat) "TaxWorkbench$Rules") ∈ lw_all := lw_g (lw_at lw_m3 24 rfl) rfl
theorem q606 : (Jvm.Cond.methodLink "TaxWorkbench$Rules" (47 : Nat) ({ cls := "TaxWorkbench$Rules", name := "<init>", desc := "()V" } : Jvm.MethodName)) ∈ lw_all := lw_g (lw_at lw_m3 25 rfl) rfl
theorem q607 : (Jvm.Cond.methodLink "TaxWorkbench$Rules" (48 : Nat) ({ cls := "java/lang/System", name := "arraycopy", desc := "(Ljava/lang/Object;ILjava/lang/Object;II)V" } : Jvm.MethodName)) ∈ lw_all := lw_g (lw_at lw_m3 26 rfl) rfl
theorem q608 : (Jvm.Cond.methodLink "TaxWorkbench$Rules" (54 : Nat) ({ cls := "java/util/ArrayList", name := "addAll", desc := "(Ljava/util/Collection;)Z" } : Jvm.MethodName)) ∈ lw_all := lw_g (lw_at lw_m3 27 rfl) rfl
theorem q1713 : (Jvm.Cond.methodLink "TaxWorkbench$Rules" (58 : Nat) ({ cls := "java/util/LinkedList", name := "addAll", desc := "(Ljava/util/Collection;)Z" } : Jvm.MethodName)) ∈ lw_all := lw_g (lw_at lw_m7 172 rfl) rfl
theorem q1899 : (Jvm.Cond.instanceMethod ({ cls := "TaxWorkbench$Rules", name := "allowanceLeft", desc := "(LTaxWorkbench$Case;)J" } : Jvm.MethodName)) ∈ lw_all := lw_g (lw_at lw_m8 118 rfl) rfl
theorem q1900 : (Jvm.Cond.selects "TaxWorkbench$Rules" ({ cls := "TaxWorkbench$Rules", name := "allowanceLeft", desc := "(LTaxWorkbench$Case;)J" } : Jvm.MethodName) ({ cls := "TaxWorkbench$Rules", name := "allowanceLeft", desc := "(LTaxWorkbench$Case;)J" } : Jvm.MethodName)) ∈ lw_all := lw_g (lw_at lw_m8 119 rfl) rfl
theorem q1901 : (Jvm.Cond.code ({ cls := "TaxWorkbench$Rules", name := "allowanceLeft", desc := "(LTaxWorkbench$Case;)J" } : Jvm.MethodName) prog_10_method_4_code (2 : Nat) (Option.some Jvm.ClassFile.FieldType.long)) ∈ lw_all := lw_g (lw_at lw_m8 120 rfl) rfl
theorem q1902 : (Jvm.Cond.constantLong "TaxWorkbench$Rules" (99 : Nat) (1000000 : Int64)) ∈ lw_all := lw_g (lw_at lw_m8 121 rfl) rfl
theorem q1903 : (Jvm.Cond.constantLong "TaxWorkbench$Rules" (106 : Nat) (1000 : Int64)) ∈ lw_all := lw_g (lw_at lw_m8 122 rfl) rfl
theorem q1904 : (Jvm.Cond.methodLink "TaxWorkbench$Rules" (108 : Nat) ({ cls := "TaxWorkbench$Case", name := "above", desc := "(I)J" } : Jvm.MethodName)) ∈ lw_all := lw_g (lw_at lw_m8 123 rfl) rfl
theorem q1911 : (Jvm.Cond.methodLink "TaxWorkbench$Rules" (112 : Nat) ({ cls := "java/lang/Math", name := "max", desc := "(JJ)J" } : Jvm.MethodName)) ∈ lw_all := lw_g (lw_at lw_m8 130 rfl) rfl
theorem q1915 : (Jvm.Cond.instanceMethod ({ cls := "TaxWorkbench$Rules", name := "scheduled", desc := "(JI)J" } : Jvm.MethodName)) ∈ lw_all := lw_g (lw_at lw_m8 134 rfl) rfl
theorem q1916 : (Jvm.Cond.selects "TaxWorkbench$Rules" ({ cls := "TaxWorkbench$Rules", name := "scheduled", desc := "(JI)J" } : Jvm.MethodName) ({ cls := "TaxWorkbench$Rules", name := "scheduled", desc := "(JI)J" } : Jvm.MethodName)) ∈ lw_all := lw_g (lw_at lw_m8 135 rfl) rfl
theorem q1917 : (Jvm.Cond.code ({ cls := "TaxWorkbench$Rules", name := "scheduled", desc := "(JI)J" } : Jvm.MethodName) prog_10_method_5_code (11 : Nat) (Option.some Jvm.ClassFile.FieldType.long)) ∈ lw_all := lw_g (lw_at lw_m8 136 rfl) rfl
theorem q1918 : (Jvm.Cond.interfaceEntry "TaxWorkbench$Rules" (59 : Nat)) ∈ lw_tbl := lw_at lw_m8 137 rfl
theorem q1919 : (Jvm.Cond.methodLink "TaxWorkbench$Rules" (59 : Nat) ({ cls := "java/util/List", name := "size", desc := "()I" } : Jvm.MethodName)) ∈ lw_all := lw_g (lw_at lw_m8 138 rfl) rfl
theorem q1920 : (Jvm.Cond.interfaceEntry "TaxWorkbench$Rules" (67 : Nat)) ∈ lw_tbl := lw_at lw_m8 139 rfl
theorem q1921 : (Jvm.Cond.methodLink "TaxWorkbench$Rules" (67 : Nat) ({ cls := "java/util/List", name := "get", desc := "(I)Ljava/lang/Object;" } : Jvm.MethodName)) ∈ lw_all := lw_g (lw_at lw_m8 140 rfl) rfl
theorem q1922 : (Jvm.Cond.constantLong "TaxWorkbench$Rules" (120 : Nat) (9223372036854775807 : Int64)) ∈ lw_all := lw_g (lw_at lw_m8 141 rfl) rfl
theorem q1923 : (Jvm.Cond.methodLink "TaxWorkbench$Rules" (122 : Nat) ({ cls := "java/lang/Math", name := "min", desc := "(JJ)J" } : Jvm.MethodName)) ∈ lw_all := lw_g (lw_at lw_m8 142 rfl) rfl
theorem q1927 : (Jvm.Cond.instanceMethod ({ cls := "TaxWorkbench$Rules", name := "minimum", desc := "(LTaxWorkbench$Case;)J" } : Jvm.MethodName)) ∈ lw_all := lw_g (lw_at lw_m8 146 rfl) rfl
theorem q1928 : (Jvm.Cond.selects "TaxWorkbench$Rules" ({ cls := "TaxWorkbench$Rules", name := "minimum", desc := "(LTaxWorkbench$Case;)J" } : Jvm.MethodName) ({ cls := "TaxWorkbench$Rules", name := "minimum", desc := "(LTaxWorkbench$Case;)J" } : Jvm.MethodName)) ∈ lw_all := lw_g (lw_at lw_m8 147 rfl) rfl
theorem q1929 : (Jvm.Cond.code ({ cls := "TaxWorkbench$Rules", name := "minimum", desc := "(LTaxWorkbench$Case;)J" } : Jvm.MethodName) prog_10_method_6_code (2 : Nat) (Option.some Jvm.ClassFile.FieldType.long)) ∈ lw_all := lw_g (lw_at lw_m8 148 rfl) rfl
theorem q1931 : (Jvm.Cond.instanceMethod ({ cls := "TaxWorkbench$Rules", name := "charged", desc := "(LTaxWorkbench$Case;)J" } : Jvm.MethodName)) ∈ lw_all := lw_g (lw_at lw_m8 150 rfl) rfl
theorem q1932 : (Jvm.Cond.selects "TaxWorkbench$Rules" ({ cls := "TaxWorkbench$Rules", name := "charged", desc := "(LTaxWorkbench$Case;)J" } : Jvm.MethodName) ({ cls := "TaxWorkbench$Rules", name := "charged", desc := "(LTaxWorkbench$Case;)J" } : Jvm.MethodName)) ∈ lw_all := lw_g (lw_at lw_m8 151 rfl) rfl
theorem q1933 : (Jvm.Cond.code ({ cls := "TaxWorkbench$Rules", name := "charged", desc := "(LTaxWorkbench$Case;)J" } : Jvm.MethodName) prog_10_method_7_code (6 : Nat) (Option.some Jvm.ClassFile.FieldType.long)) ∈ lw_all := lw_g (lw_at lw_m8 152 rfl) rfl
theorem q1934 : (Jvm.Cond.methodLink "TaxWorkbench$Rules" (97 : Nat) ({ cls := "java/util/ArrayList", name := "size", desc := "()I" } : Jvm.MethodName)) ∈ lw_all := lw_g (lw_at lw_m8 153 rfl) rfl
theorem q1935 : (Jvm.Cond.methodLink "TaxWorkbench$Rules" (125 : Nat) ({ cls := "java/util/ArrayList", name := "get", desc := "(I)Ljava/lang/Object;" } : Jvm.MethodName)) ∈ lw_all := lw_g (lw_at lw_m8 154 rfl) rfl
theorem q1936 : (Jvm.Cond.classLink "TaxWorkbench$Rules" (126 : Nat) "TaxWorkbench$Charge") ∈ lw_all := lw_g (lw_at lw_m8 155 rfl) rfl
theorem q2270 : (Jvm.Cond.fieldLinkNest "TaxWorkbench$Rules" (131 : Nat) "TaxWorkbench$Charge" "threshold" "I" "TaxWorkbench") ∈ lw_tbl := lw_at lw_m10 9 rfl
theorem q2273 : (Jvm.Cond.fieldLinkNest "TaxWorkbench$Rules" (132 : Nat) "TaxWorkbench$Charge" "amount" "I" "TaxWorkbench") ∈ lw_tbl := lw_at lw_m10 12 rfl
theorem q2347 : (Jvm.Cond.instanceMethod ({ cls := "TaxWorkbench$Rules", name := "isAllowed", desc := "()Z" } : Jvm.MethodName)) ∈ lw_all := lw_g (lw_at lw_m10 86 rfl) rfl
theorem q2348 : (Jvm.Cond.selects "TaxWorkbench$Rules" ({ cls := "TaxWorkbench$Rules", name := "isAllowed", desc := "()Z" } : Jvm.MethodName) ({ cls := "TaxWorkbench$Rules", name := "isAllowed", desc := "()Z" } : Jvm.MethodName)) ∈ lw_all := lw_g (lw_at lw_m10 87 rfl) rfl
theorem q2349 : (Jvm.Cond.code ({ cls := "TaxWorkbench$Rules", name := "isAllowed", desc := "()Z" } : Jvm.MethodName) prog_10_method_3_code (4 : Nat) (Option.some Jvm.ClassFile.FieldType.boolean)) ∈ lw_all := lw_g (lw_at lw_m10 88 rfl) rfl
theorem q2350 : (Jvm.Cond.methodLinkNest "TaxWorkbench$Rules" (63 : Nat) ({ cls := "TaxWorkbench", name := "isBetween", desc := "(III)Z" } : Jvm.MethodName) "TaxWorkbench") ∈ lw_tbl := lw_at lw_m10 89 rfl
theorem q2351 : (Jvm.Cond.methodLink "TaxWorkbench$Rules" (78 : Nat) ({ cls := "java/util/LinkedList", name := "iterator", desc := "()Ljava/util/Iterator;" } : Jvm.MethodName)) ∈ lw_all := lw_g (lw_at lw_m10 90 rfl) rfl
theorem q2355 : (Jvm.Cond.interfaceEntry "TaxWorkbench$Rules" (82 : Nat)) ∈ lw_tbl := lw_at lw_m10 94 rfl
theorem q2356 : (Jvm.Cond.methodLink "TaxWorkbench$Rules" (82 : Nat) ({ cls := "java/util/Iterator", name := "hasNext", desc := "()Z" } : Jvm.MethodName)) ∈ lw_all := lw_g (lw_at lw_m10 95 rfl) rfl
theorem q2357 : (Jvm.Cond.interfaceEntry "TaxWorkbench$Rules" (88 : Nat)) ∈ lw_tbl := lw_at lw_m10 96 rfl
theorem q2358 : (Jvm.Cond.methodLink "TaxWorkbench$Rules" (88 : Nat) ({ cls := "java/util/Iterator", name := "next", desc := "()Ljava/lang/Object;" } : Jvm.MethodName)) ∈ lw_all := lw_g (lw_at lw_m10 97 rfl) rfl
theorem q2359 : (Jvm.Cond.classLink "TaxWorkbench$Rules" (92 : Nat) "TaxWorkbench$Credit") ∈ lw_all := lw_g (lw_at lw_m10 98 rfl) rfl
theorem q2360 : (Jvm.Cond.methodLink "TaxWorkbench$Rules" (94 : Nat) ({ cls := "TaxWorkbench$Credit", name := "isAllowed", desc := "()Z" } : Jvm.MethodName)) ∈ lw_all := lw_g (lw_at lw_m10 99 rfl) rfl
theorem q2364 : (Jvm.Cond.methodLink "TaxWorkbench$Rules" (98 : Nat) ({ cls := "java/util/LinkedList", name := "size", desc := "()I" } : Jvm.MethodName)) ∈ lw_all := lw_g (lw_at lw_m10 103 rfl) rfl
theorem q3951 : (Jvm.Cond.castable "TaxWorkbench$Rules" "java/lang/Object") ∈ lw_tbl := lw_at lw_m17 10 rfl

/-! TaxWorkbench$Computation -/
set_option maxRecDepth 100000
abbrev cX6_init : ByteArray := prog_5_method_1_code
def yX6_init : MethodName := ⟨RX6, "<init>", "()V"⟩
def dkwX6_init_2 : List UInt8 := [16, 6, 188, 11, 181, 0, 31, 42, 16, 6, 188, 11, 181, 0, 34, 177]
abbrev dktX6_init_2 : List UInt8 := dkwX6_init_2 ++ []
def dkwX6_init_1 : List UInt8 := [16, 6, 188, 11, 181, 0, 22, 42, 16, 6, 188, 11, 181, 0, 25, 42, 16, 6, 188, 11, 181, 0, 28, 42]
abbrev dktX6_init_1 : List UInt8 := dkwX6_init_1 ++ dktX6_init_2
def dkwX6_init_0 : List UInt8 := [42, 183, 0, 3, 42, 187, 0, 9, 89, 183, 0, 11, 181, 0, 12, 42, 16, 6, 188, 11, 181, 0, 18, 42]
abbrev dktX6_init_0 : List UInt8 := dkwX6_init_0 ++ dktX6_init_1
theorem dksX6_init_0 : cX6_init.data.toList.drop 0 = dktX6_init_0 := by decide +kernel
theorem dksX6_init_1 : cX6_init.data.toList.drop 24 = dktX6_init_1 := dk_seg dksX6_init_0 24 rfl rfl
theorem dksX6_init_2 : cX6_init.data.toList.drop 48 = dktX6_init_2 := dk_seg dksX6_init_1 24 rfl rfl
theorem dX6_init_0 : decode cX6_init 0 = .ok (.aload_n 0, 1) := dk_42 (dk_at dksX6_init_0 0 rfl rfl)
theorem dX6_init_1 : decode cX6_init 1 = .ok (.invokespecial 3, 3) := dk_183 0 3 (dk_at dksX6_init_0 1 rfl rfl)
theorem dX6_init_4 : decode cX6_init 4 = .ok (.aload_n 0, 1) := dk_42 (dk_at dksX6_init_0 4 rfl rfl)
theorem dX6_init_5 : decode cX6_init 5 = .ok (.new 9, 3) := dk_187 0 9 (dk_at dksX6_init_0 5 rfl rfl)
theorem dX6_init_8 : decode cX6_init 8 = .ok (.dup, 1) := dk_89 (dk_at dksX6_init_0 8 rfl rfl)
theorem dX6_init_9 : decode cX6_init 9 = .ok (.invokespecial 11, 3) := dk_183 0 11 (dk_at dksX6_init_0 9 rfl rfl)
theorem dX6_init_12 : decode cX6_init 12 = .ok (.putfield 12, 3) := dk_181 0 12 (dk_at dksX6_init_0 12 rfl rfl)
theorem dX6_init_15 : decode cX6_init 15 = .ok (.aload_n 0, 1) := dk_42 (dk_at dksX6_init_0 15 rfl rfl)
theorem dX6_init_16 : decode cX6_init 16 = .ok (.bipush 6, 2) := dk_16 6 (dk_at dksX6_init_0 16 rfl rfl)
theorem dX6_init_18 : decode cX6_init 18 = .ok (.newarray .long, 2) := dk_188_11 (dk_at dksX6_init_0 18 rfl rfl)
theorem dX6_init_20 : decode cX6_init 20 = .ok (.putfield 18, 3) := dk_181 0 18 (dk_at dksX6_init_0 20 rfl rfl)
theorem dX6_init_23 : decode cX6_init 23 = .ok (.aload_n 0, 1) := dk_42 (dk_at dksX6_init_0 23 rfl rfl)
theorem dX6_init_24 : decode cX6_init 24 = .ok (.bipush 6, 2) := dk_16 6 (dk_at dksX6_init_1 0 rfl rfl)
theorem dX6_init_26 : decode cX6_init 26 = .ok (.newarray .long, 2) := dk_188_11 (dk_at dksX6_init_1 2 rfl rfl)
theorem dX6_init_28 : decode cX6_init 28 = .ok (.putfield 22, 3) := dk_181 0 22 (dk_at dksX6_init_1 4 rfl rfl)
theorem dX6_init_31 : decode cX6_init 31 = .ok (.aload_n 0, 1) := dk_42 (dk_at dksX6_init_1 7 rfl rfl)
theorem dX6_init_32 : decode cX6_init 32 = .ok (.bipush 6, 2) := dk_16 6 (dk_at dksX6_init_1 8 rfl rfl)
theorem dX6_init_34 : decode cX6_init 34 = .ok (.newarray .long, 2) := dk_188_11 (dk_at dksX6_init_1 10 rfl rfl)
theorem dX6_init_36 : decode cX6_init 36 = .ok (.putfield 25, 3) := dk_181 0 25 (dk_at dksX6_init_1 12 rfl rfl)
theorem dX6_init_39 : decode cX6_init 39 = .ok (.aload_n 0, 1) := dk_42 (dk_at dksX6_init_1 15 rfl rfl)
theorem dX6_init_40 : decode cX6_init 40 = .ok (.bipush 6, 2) := dk_16 6 (dk_at dksX6_init_1 16 rfl rfl)
theorem dX6_init_42 : decode cX6_init 42 = .ok (.newarray .long, 2) := dk_188_11 (dk_at dksX6_init_1 18 rfl rfl)
theorem dX6_init_44 : decode cX6_init 44 = .ok (.putfield 28, 3) := dk_181 0 28 (dk_at dksX6_init_1 20 rfl rfl)
theorem dX6_init_47 : decode cX6_init 47 = .ok (.aload_n 0, 1) := dk_42 (dk_at dksX6_init_1 23 rfl rfl)
theorem dX6_init_48 : decode cX6_init 48 = .ok (.bipush 6, 2) := dk_16 6 (dk_at dksX6_init_2 0 rfl rfl)
theorem dX6_init_50 : decode cX6_init 50 = .ok (.newarray .long, 2) := dk_188_11 (dk_at dksX6_init_2 2 rfl rfl)
theorem dX6_init_52 : decode cX6_init 52 = .ok (.putfield 31, 3) := dk_181 0 31 (dk_at dksX6_init_2 4 rfl rfl)
theorem dX6_init_55 : decode cX6_init 55 = .ok (.aload_n 0, 1) := dk_42 (dk_at dksX6_init_2 7 rfl rfl)
theorem dX6_init_56 : decode cX6_init 56 = .ok (.bipush 6, 2) := dk_16 6 (dk_at dksX6_init_2 8 rfl rfl)
theorem dX6_init_58 : decode cX6_init 58 = .ok (.newarray .long, 2) := dk_188_11 (dk_at dksX6_init_2 10 rfl rfl)
theorem dX6_init_60 : decode cX6_init 60 = .ok (.putfield 34, 3) := dk_181 0 34 (dk_at dksX6_init_2 12 rfl rfl)
theorem dX6_init_63 : decode cX6_init 63 = .ok (.return_, 1) := dk_177 (dk_at dksX6_init_2 15 rfl rfl)
abbrev cX6_run : ByteArray := prog_5_method_2_code
def yX6_run : MethodName := ⟨RX6, "run", "(LTaxWorkbench$Rules;)J"⟩
def dkwX6_run_7 : List UInt8 := [167, 255, 221, 32, 173]
abbrev dktX6_run_7 : List UInt8 := dkwX6_run_7 ++ []
def dkwX6_run_6 : List UInt8 := [42, 43, 180, 0, 68, 21, 4, 182, 0, 78, 192, 0, 82, 21, 4, 32, 182, 0, 84, 65, 132, 4, 1]
abbrev dktX6_run_6 : List UInt8 := dkwX6_run_6 ++ dktX6_run_7
def dkwX6_run_5 : List UInt8 := [97, 80, 42, 180, 0, 18, 8, 47, 65, 3, 54, 4, 21, 4, 43, 180, 0, 68, 182, 0, 72, 162, 0, 29]
abbrev dktX6_run_5 : List UInt8 := dkwX6_run_5 ++ dktX6_run_6
def dkwX6_run_4 : List UInt8 := [47, 184, 0, 49, 80, 42, 180, 0, 18, 8, 42, 180, 0, 18, 7, 47, 43, 42, 180, 0, 12, 182, 0, 65]
abbrev dktX6_run_4 : List UInt8 := dkwX6_run_4 ++ dktX6_run_5
def dkwX6_run_3 : List UInt8 := [42, 180, 0, 12, 182, 0, 62, 80, 42, 180, 0, 18, 7, 42, 180, 0, 18, 5, 47, 42, 180, 0, 18, 6]
abbrev dktX6_run_3 : List UInt8 := dkwX6_run_3 ++ dktX6_run_4
def dkwX6_run_2 : List UInt8 := [43, 42, 180, 0, 18, 4, 47, 42, 180, 0, 12, 180, 0, 55, 182, 0, 58, 80, 42, 180, 0, 18, 6, 43]
abbrev dktX6_run_2 : List UInt8 := dkwX6_run_2 ++ dktX6_run_3
def dkwX6_run_1 : List UInt8 := [180, 0, 43, 133, 20, 0, 47, 105, 42, 180, 0, 18, 3, 47, 101, 184, 0, 49, 80, 42, 180, 0, 18, 5]
abbrev dktX6_run_1 : List UInt8 := dkwX6_run_1 ++ dktX6_run_2
def dkwX6_run_0 : List UInt8 := [42, 180, 0, 18, 3, 43, 42, 180, 0, 12, 182, 0, 37, 80, 42, 180, 0, 18, 4, 9, 42, 180, 0, 12]
abbrev dktX6_run_0 : List UInt8 := dkwX6_run_0 ++ dktX6_run_1
theorem dksX6_run_0 : cX6_run.data.toList.drop 0 = dktX6_run_0 := by decide +kernel
theorem dksX6_run_1 : cX6_run.data.toList.drop 24 = dktX6_run_1 := dk_seg dksX6_run_0 24 rfl rfl
theorem dksX6_run_2 : cX6_run.data.toList.drop 48 = dktX6_run_2 := dk_seg dksX6_run_1 24 rfl rfl
theorem dksX6_run_3 : cX6_run.data.toList.drop 72 = dktX6_run_3 := dk_seg dksX6_run_2 24 rfl rfl
theorem dksX6_run_4 : cX6_run.data.toList.drop 96 = dktX6_run_4 := dk_seg dksX6_run_3 24 rfl rfl
theorem dksX6_run_5 : cX6_run.data.toList.drop 120 = dktX6_run_5 := dk_seg dksX6_run_4 24 rfl rfl
theorem dksX6_run_6 : cX6_run.data.toList.drop 144 = dktX6_run_6 := dk_seg dksX6_run_5 24 rfl rfl
theorem dksX6_run_7 : cX6_run.data.toList.drop 167 = dktX6_run_7 := dk_seg dksX6_run_6 23 rfl rfl
theorem dX6_run_0 : decode cX6_run 0 = .ok (.aload_n 0, 1) := dk_42 (dk_at dksX6_run_0 0 rfl rfl)
theorem dX6_run_1 : decode cX6_run 1 = .ok (.getfield 18, 3) := dk_180 0 18 (dk_at dksX6_run_0 1 rfl rfl)
theorem dX6_run_4 : decode cX6_run 4 = .ok (.iconst 0, 1) := dk_3 (dk_at dksX6_run_0 4 rfl rfl)
theorem dX6_run_5 : decode cX6_run 5 = .ok (.aload_n 1, 1) := dk_43 (dk_at dksX6_run_0 5 rfl rfl)
theorem dX6_run_6 : decode cX6_run 6 = .ok (.aload_n 0, 1) := dk_42 (dk_at dksX6_run_0 6 rfl rfl)
theorem dX6_run_7 : decode cX6_run 7 = .ok (.getfield 12, 3) := dk_180 0 12 (dk_at dksX6_run_0 7 rfl rfl)
theorem dX6_run_10 : decode cX6_run 10 = .ok (.invokevirtual 37, 3) := dk_182 0 37 (dk_at dksX6_run_0 10 rfl rfl)
theorem dX6_run_13 : decode cX6_run 13 = .ok (.lastore, 1) := dk_80 (dk_at dksX6_run_0 13 rfl rfl)
theorem dX6_run_14 : decode cX6_run 14 = .ok (.aload_n 0, 1) := dk_42 (dk_at dksX6_run_0 14 rfl rfl)
theorem dX6_run_15 : decode cX6_run 15 = .ok (.getfield 18, 3) := dk_180 0 18 (dk_at dksX6_run_0 15 rfl rfl)
theorem dX6_run_18 : decode cX6_run 18 = .ok (.iconst 1, 1) := dk_4 (dk_at dksX6_run_0 18 rfl rfl)
theorem dX6_run_19 : decode cX6_run 19 = .ok (.lconst 0, 1) := dk_9 (dk_at dksX6_run_0 19 rfl rfl)
theorem dX6_run_20 : decode cX6_run 20 = .ok (.aload_n 0, 1) := dk_42 (dk_at dksX6_run_0 20 rfl rfl)
theorem dX6_run_21 : decode cX6_run 21 = .ok (.getfield 12, 3) := dk_180 0 12 (dk_at dksX6_run_0 21 rfl rfl)
theorem dX6_run_24 : decode cX6_run 24 = .ok (.getfield 43, 3) := dk_180 0 43 (dk_at dksX6_run_1 0 rfl rfl)
theorem dX6_run_27 : decode cX6_run 27 = .ok (.i2l, 1) := dk_133 (dk_at dksX6_run_1 3 rfl rfl)
theorem dX6_run_28 : decode cX6_run 28 = .ok (.ldc2_w 47, 3) := dk_20 0 47 (dk_at dksX6_run_1 4 rfl rfl)
theorem dX6_run_31 : decode cX6_run 31 = .ok (.lmul, 1) := dk_105 (dk_at dksX6_run_1 7 rfl rfl)
theorem dX6_run_32 : decode cX6_run 32 = .ok (.aload_n 0, 1) := dk_42 (dk_at dksX6_run_1 8 rfl rfl)
theorem dX6_run_33 : decode cX6_run 33 = .ok (.getfield 18, 3) := dk_180 0 18 (dk_at dksX6_run_1 9 rfl rfl)
theorem dX6_run_36 : decode cX6_run 36 = .ok (.iconst 0, 1) := dk_3 (dk_at dksX6_run_1 12 rfl rfl)
theorem dX6_run_37 : decode cX6_run 37 = .ok (.laload, 1) := dk_47 (dk_at dksX6_run_1 13 rfl rfl)
theorem dX6_run_38 : decode cX6_run 38 = .ok (.lsub, 1) := dk_101 (dk_at dksX6_run_1 14 rfl rfl)
theorem dX6_run_39 : decode cX6_run 39 = .ok (.invokestatic 49, 3) := dk_184 0 49 (dk_at dksX6_run_1 15 rfl rfl)
theorem dX6_run_42 : decode cX6_run 42 = .ok (.lastore, 1) := dk_80 (dk_at dksX6_run_1 18 rfl rfl)
theorem dX6_run_43 : decode cX6_run 43 = .ok (.aload_n 0, 1) := dk_42 (dk_at dksX6_run_1 19 rfl rfl)
theorem dX6_run_44 : decode cX6_run 44 = .ok (.getfield 18, 3) := dk_180 0 18 (dk_at dksX6_run_1 20 rfl rfl)
theorem dX6_run_47 : decode cX6_run 47 = .ok (.iconst 2, 1) := dk_5 (dk_at dksX6_run_1 23 rfl rfl)
theorem dX6_run_48 : decode cX6_run 48 = .ok (.aload_n 1, 1) := dk_43 (dk_at dksX6_run_2 0 rfl rfl)
theorem dX6_run_49 : decode cX6_run 49 = .ok (.aload_n 0, 1) := dk_42 (dk_at dksX6_run_2 1 rfl rfl)
theorem dX6_run_50 : decode cX6_run 50 = .ok (.getfield 18, 3) := dk_180 0 18 (dk_at dksX6_run_2 2 rfl rfl)
theorem dX6_run_53 : decode cX6_run 53 = .ok (.iconst 1, 1) := dk_4 (dk_at dksX6_run_2 5 rfl rfl)
theorem dX6_run_54 : decode cX6_run 54 = .ok (.laload, 1) := dk_47 (dk_at dksX6_run_2 6 rfl rfl)
theorem dX6_run_55 : decode cX6_run 55 = .ok (.aload_n 0, 1) := dk_42 (dk_at dksX6_run_2 7 rfl rfl)
theorem dX6_run_56 : decode cX6_run 56 = .ok (.getfield 12, 3) := dk_180 0 12 (dk_at dksX6_run_2 8 rfl rfl)
theorem dX6_run_59 : decode cX6_run 59 = .ok (.getfield 55, 3) := dk_180 0 55 (dk_at dksX6_run_2 11 rfl rfl)
theorem dX6_run_62 : decode cX6_run 62 = .ok (.invokevirtual 58, 3) := dk_182 0 58 (dk_at dksX6_run_2 14 rfl rfl)
theorem dX6_run_65 : decode cX6_run 65 = .ok (.lastore, 1) := dk_80 (dk_at dksX6_run_2 17 rfl rfl)
theorem dX6_run_66 : decode cX6_run 66 = .ok (.aload_n 0, 1) := dk_42 (dk_at dksX6_run_2 18 rfl rfl)
theorem dX6_run_67 : decode cX6_run 67 = .ok (.getfield 18, 3) := dk_180 0 18 (dk_at dksX6_run_2 19 rfl rfl)
theorem dX6_run_70 : decode cX6_run 70 = .ok (.iconst 3, 1) := dk_6 (dk_at dksX6_run_2 22 rfl rfl)
theorem dX6_run_71 : decode cX6_run 71 = .ok (.aload_n 1, 1) := dk_43 (dk_at dksX6_run_2 23 rfl rfl)
theorem dX6_run_72 : decode cX6_run 72 = .ok (.aload_n 0, 1) := dk_42 (dk_at dksX6_run_3 0 rfl rfl)
theorem dX6_run_73 : decode cX6_run 73 = .ok (.getfield 12, 3) := dk_180 0 12 (dk_at dksX6_run_3 1 rfl rfl)
theorem dX6_run_76 : decode cX6_run 76 = .ok (.invokevirtual 62, 3) := dk_182 0 62 (dk_at dksX6_run_3 4 rfl rfl)
theorem dX6_run_79 : decode cX6_run 79 = .ok (.lastore, 1) := dk_80 (dk_at dksX6_run_3 7 rfl rfl)
theorem dX6_run_80 : decode cX6_run 80 = .ok (.aload_n 0, 1) := dk_42 (dk_at dksX6_run_3 8 rfl rfl)
theorem dX6_run_81 : decode cX6_run 81 = .ok (.getfield 18, 3) := dk_180 0 18 (dk_at dksX6_run_3 9 rfl rfl)
theorem dX6_run_84 : decode cX6_run 84 = .ok (.iconst 4, 1) := dk_7 (dk_at dksX6_run_3 12 rfl rfl)
theorem dX6_run_85 : decode cX6_run 85 = .ok (.aload_n 0, 1) := dk_42 (dk_at dksX6_run_3 13 rfl rfl)
theorem dX6_run_86 : decode cX6_run 86 = .ok (.getfield 18, 3) := dk_180 0 18 (dk_at dksX6_run_3 14 rfl rfl)
theorem dX6_run_89 : decode cX6_run 89 = .ok (.iconst 2, 1) := dk_5 (dk_at dksX6_run_3 17 rfl rfl)
theorem dX6_run_90 : decode cX6_run 90 = .ok (.laload, 1) := dk_47 (dk_at dksX6_run_3 18 rfl rfl)
theorem dX6_run_91 : decode cX6_run 91 = .ok (.aload_n 0, 1) := dk_42 (dk_at dksX6_run_3 19 rfl rfl)
theorem dX6_run_92 : decode cX6_run 92 = .ok (.getfield 18, 3) := dk_180 0 18 (dk_at dksX6_run_3 20 rfl rfl)
theorem dX6_run_95 : decode cX6_run 95 = .ok (.iconst 3, 1) := dk_6 (dk_at dksX6_run_3 23 rfl rfl)
theorem dX6_run_96 : decode cX6_run 96 = .ok (.laload, 1) := dk_47 (dk_at dksX6_run_4 0 rfl rfl)
theorem dX6_run_97 : decode cX6_run 97 = .ok (.invokestatic 49, 3) := dk_184 0 49 (dk_at dksX6_run_4 1 rfl rfl)
theorem dX6_run_100 : decode cX6_run 100 = .ok (.lastore, 1) := dk_80 (dk_at dksX6_run_4 4 rfl rfl)
theorem dX6_run_101 : decode cX6_run 101 = .ok (.aload_n 0, 1) := dk_42 (dk_at dksX6_run_4 5 rfl rfl)
theorem dX6_run_102 : decode cX6_run 102 = .ok (.getfield 18, 3) := dk_180 0 18 (dk_at dksX6_run_4 6 rfl rfl)
theorem dX6_run_105 : decode cX6_run 105 = .ok (.iconst 5, 1) := dk_8 (dk_at dksX6_run_4 9 rfl rfl)
theorem dX6_run_106 : decode cX6_run 106 = .ok (.aload_n 0, 1) := dk_42 (dk_at dksX6_run_4 10 rfl rfl)
theorem dX6_run_107 : decode cX6_run 107 = .ok (.getfield 18, 3) := dk_180 0 18 (dk_at dksX6_run_4 11 rfl rfl)
theorem dX6_run_110 : decode cX6_run 110 = .ok (.iconst 4, 1) := dk_7 (dk_at dksX6_run_4 14 rfl rfl)
theorem dX6_run_111 : decode cX6_run 111 = .ok (.laload, 1) := dk_47 (dk_at dksX6_run_4 15 rfl rfl)
theorem dX6_run_112 : decode cX6_run 112 = .ok (.aload_n 1, 1) := dk_43 (dk_at dksX6_run_4 16 rfl rfl)
theorem dX6_run_113 : decode cX6_run 113 = .ok (.aload_n 0, 1) := dk_42 (dk_at dksX6_run_4 17 rfl rfl)
theorem dX6_run_114 : decode cX6_run 114 = .ok (.getfield 12, 3) := dk_180 0 12 (dk_at dksX6_run_4 18 rfl rfl)
theorem dX6_run_117 : decode cX6_run 117 = .ok (.invokevirtual 65, 3) := dk_182 0 65 (dk_at dksX6_run_4 21 rfl rfl)
theorem dX6_run_120 : decode cX6_run 120 = .ok (.ladd, 1) := dk_97 (dk_at dksX6_run_5 0 rfl rfl)
theorem dX6_run_121 : decode cX6_run 121 = .ok (.lastore, 1) := dk_80 (dk_at dksX6_run_5 1 rfl rfl)
theorem dX6_run_122 : decode cX6_run 122 = .ok (.aload_n 0, 1) := dk_42 (dk_at dksX6_run_5 2 rfl rfl)
theorem dX6_run_123 : decode cX6_run 123 = .ok (.getfield 18, 3) := dk_180 0 18 (dk_at dksX6_run_5 3 rfl rfl)
theorem dX6_run_126 : decode cX6_run 126 = .ok (.iconst 5, 1) := dk_8 (dk_at dksX6_run_5 6 rfl rfl)
theorem dX6_run_127 : decode cX6_run 127 = .ok (.laload, 1) := dk_47 (dk_at dksX6_run_5 7 rfl rfl)
theorem dX6_run_128 : decode cX6_run 128 = .ok (.lstore_n 2, 1) := dk_65 (dk_at dksX6_run_5 8 rfl rfl)
theorem dX6_run_129 : decode cX6_run 129 = .ok (.iconst 0, 1) := dk_3 (dk_at dksX6_run_5 9 rfl rfl)
theorem dX6_run_130 : decode cX6_run 130 = .ok (.istore 4, 2) := dk_54 4 (dk_at dksX6_run_5 10 rfl rfl)
theorem dX6_run_132 : decode cX6_run 132 = .ok (.iload 4, 2) := dk_21 4 (dk_at dksX6_run_5 12 rfl rfl)
theorem dX6_run_134 : decode cX6_run 134 = .ok (.aload_n 1, 1) := dk_43 (dk_at dksX6_run_5 14 rfl rfl)
theorem dX6_run_135 : decode cX6_run 135 = .ok (.getfield 68, 3) := dk_180 0 68 (dk_at dksX6_run_5 15 rfl rfl)
theorem dX6_run_138 : decode cX6_run 138 = .ok (.invokevirtual 72, 3) := dk_182 0 72 (dk_at dksX6_run_5 18 rfl rfl)
theorem dX6_run_141 : decode cX6_run 141 = .ok (.if_icmp .ge 29, 3) := dk_162 0 29 (dk_at dksX6_run_5 21 rfl rfl)
theorem dX6_run_144 : decode cX6_run 144 = .ok (.aload_n 0, 1) := dk_42 (dk_at dksX6_run_6 0 rfl rfl)
theorem dX6_run_145 : decode cX6_run 145 = .ok (.aload_n 1, 1) := dk_43 (dk_at dksX6_run_6 1 rfl rfl)
theorem dX6_run_146 : decode cX6_run 146 = .ok (.getfield 68, 3) := dk_180 0 68 (dk_at dksX6_run_6 2 rfl rfl)
theorem dX6_run_149 : decode cX6_run 149 = .ok (.iload 4, 2) := dk_21 4 (dk_at dksX6_run_6 5 rfl rfl)
theorem dX6_run_151 : decode cX6_run 151 = .ok (.invokevirtual 78, 3) := dk_182 0 78 (dk_at dksX6_run_6 7 rfl rfl)
theorem dX6_run_154 : decode cX6_run 154 = .ok (.checkcast 82, 3) := dk_192 0 82 (dk_at dksX6_run_6 10 rfl rfl)
theorem dX6_run_157 : decode cX6_run 157 = .ok (.iload 4, 2) := dk_21 4 (dk_at dksX6_run_6 13 rfl rfl)
theorem dX6_run_159 : decode cX6_run 159 = .ok (.lload_n 2, 1) := dk_32 (dk_at dksX6_run_6 15 rfl rfl)
theorem dX6_run_160 : decode cX6_run 160 = .ok (.invokevirtual 84, 3) := dk_182 0 84 (dk_at dksX6_run_6 16 rfl rfl)
theorem dX6_run_163 : decode cX6_run 163 = .ok (.lstore_n 2, 1) := dk_65 (dk_at dksX6_run_6 19 rfl rfl)
theorem dX6_run_164 : decode cX6_run 164 = .ok (.iinc 4 1, 3) := dk_132 4 1 (dk_at dksX6_run_6 20 rfl rfl)
theorem dX6_run_167 : decode cX6_run 167 = .ok (.goto (-35), 3) := dk_167 255 221 (dk_at dksX6_run_7 0 rfl rfl)
theorem dX6_run_170 : decode cX6_run 170 = .ok (.lload_n 2, 1) := dk_32 (dk_at dksX6_run_7 3 rfl rfl)
theorem dX6_run_171 : decode cX6_run 171 = .ok (.lreturn, 1) := dk_173 (dk_at dksX6_run_7 4 rfl rfl)
abbrev cX6_use : ByteArray := prog_5_method_3_code
def yX6_use : MethodName := ⟨RX6, "use", "(LTaxWorkbench$Credit;IJ)J"⟩
def dkwX6_use_5 : List UInt8 := [167, 0, 4, 9, 80, 42, 180, 0, 34, 28, 33, 22, 9, 101, 80, 33, 22, 9, 101, 173]
abbrev dktX6_use_5 : List UInt8 := dkwX6_use_5 ++ []
def dkwX6_use_4 : List UInt8 := [167, 0, 4, 9, 80, 42, 180, 0, 31, 28, 43, 180, 0, 91, 5, 160, 0, 11, 22, 7, 22, 9, 101]
abbrev dktX6_use_4 : List UInt8 := dkwX6_use_4 ++ dktX6_use_5
def dkwX6_use_3 : List UInt8 := [180, 0, 25, 28, 22, 9, 80, 42, 180, 0, 28, 28, 43, 180, 0, 91, 154, 0, 11, 22, 7, 22, 9, 101]
abbrev dktX6_use_3 : List UInt8 := dkwX6_use_3 ++ dktX6_use_4
def dkwX6_use_2 : List UInt8 := [167, 0, 13, 9, 22, 7, 33, 184, 0, 97, 184, 0, 49, 55, 9, 42, 180, 0, 22, 28, 22, 5, 80, 42]
abbrev dktX6_use_2 : List UInt8 := dkwX6_use_2 ++ dktX6_use_3
def dkwX6_use_1 : List UInt8 := [180, 0, 94, 28, 47, 167, 0, 4, 9, 97, 55, 7, 43, 180, 0, 91, 4, 160, 0, 8, 22, 7]
abbrev dktX6_use_1 : List UInt8 := dkwX6_use_1 ++ dktX6_use_2
def dkwX6_use_0 : List UInt8 := [43, 42, 180, 0, 12, 182, 0, 88, 55, 5, 22, 5, 43, 180, 0, 91, 5, 160, 0, 15, 42, 180, 0, 12]
abbrev dktX6_use_0 : List UInt8 := dkwX6_use_0 ++ dktX6_use_1
theorem dksX6_use_0 : cX6_use.data.toList.drop 0 = dktX6_use_0 := by decide +kernel
theorem dksX6_use_1 : cX6_use.data.toList.drop 24 = dktX6_use_1 := dk_seg dksX6_use_0 24 rfl rfl
theorem dksX6_use_2 : cX6_use.data.toList.drop 46 = dktX6_use_2 := dk_seg dksX6_use_1 22 rfl rfl
theorem dksX6_use_3 : cX6_use.data.toList.drop 70 = dktX6_use_3 := dk_seg dksX6_use_2 24 rfl rfl
theorem dksX6_use_4 : cX6_use.data.toList.drop 94 = dktX6_use_4 := dk_seg dksX6_use_3 24 rfl rfl
theorem dksX6_use_5 : cX6_use.data.toList.drop 117 = dktX6_use_5 := dk_seg dksX6_use_4 23 rfl rfl
theorem dX6_use_0 : decode cX6_use 0 = .ok (.aload_n 1, 1) := dk_43 (dk_at dksX6_use_0 0 rfl rfl)
theorem dX6_use_1 : decode cX6_use 1 = .ok (.aload_n 0, 1) := dk_42 (dk_at dksX6_use_0 1 rfl rfl)
theorem dX6_use_2 : decode cX6_use 2 = .ok (.getfield 12, 3) := dk_180 0 12 (dk_at dksX6_use_0 2 rfl rfl)
theorem dX6_use_5 : decode cX6_use 5 = .ok (.invokevirtual 88, 3) := dk_182 0 88 (dk_at dksX6_use_0 5 rfl rfl)
theorem dX6_use_8 : decode cX6_use 8 = .ok (.lstore 5, 2) := dk_55 5 (dk_at dksX6_use_0 8 rfl rfl)
theorem dX6_use_10 : decode cX6_use 10 = .ok (.lload 5, 2) := dk_22 5 (dk_at dksX6_use_0 10 rfl rfl)
theorem dX6_use_12 : decode cX6_use 12 = .ok (.aload_n 1, 1) := dk_43 (dk_at dksX6_use_0 12 rfl rfl)
theorem dX6_use_13 : decode cX6_use 13 = .ok (.getfield 91, 3) := dk_180 0 91 (dk_at dksX6_use_0 13 rfl rfl)
theorem dX6_use_16 : decode cX6_use 16 = .ok (.iconst 2, 1) := dk_5 (dk_at dksX6_use_0 16 rfl rfl)
theorem dX6_use_17 : decode cX6_use 17 = .ok (.if_icmp .ne 15, 3) := dk_160 0 15 (dk_at dksX6_use_0 17 rfl rfl)
theorem dX6_use_20 : decode cX6_use 20 = .ok (.aload_n 0, 1) := dk_42 (dk_at dksX6_use_0 20 rfl rfl)
theorem dX6_use_21 : decode cX6_use 21 = .ok (.getfield 12, 3) := dk_180 0 12 (dk_at dksX6_use_0 21 rfl rfl)
theorem dX6_use_24 : decode cX6_use 24 = .ok (.getfield 94, 3) := dk_180 0 94 (dk_at dksX6_use_1 0 rfl rfl)
theorem dX6_use_27 : decode cX6_use 27 = .ok (.iload_n 2, 1) := dk_28 (dk_at dksX6_use_1 3 rfl rfl)
theorem dX6_use_28 : decode cX6_use 28 = .ok (.laload, 1) := dk_47 (dk_at dksX6_use_1 4 rfl rfl)
theorem dX6_use_29 : decode cX6_use 29 = .ok (.goto 4, 3) := dk_167 0 4 (dk_at dksX6_use_1 5 rfl rfl)
theorem dX6_use_32 : decode cX6_use 32 = .ok (.lconst 0, 1) := dk_9 (dk_at dksX6_use_1 8 rfl rfl)
theorem dX6_use_33 : decode cX6_use 33 = .ok (.ladd, 1) := dk_97 (dk_at dksX6_use_1 9 rfl rfl)
theorem dX6_use_34 : decode cX6_use 34 = .ok (.lstore 7, 2) := dk_55 7 (dk_at dksX6_use_1 10 rfl rfl)
theorem dX6_use_36 : decode cX6_use 36 = .ok (.aload_n 1, 1) := dk_43 (dk_at dksX6_use_1 12 rfl rfl)
theorem dX6_use_37 : decode cX6_use 37 = .ok (.getfield 91, 3) := dk_180 0 91 (dk_at dksX6_use_1 13 rfl rfl)
theorem dX6_use_40 : decode cX6_use 40 = .ok (.iconst 1, 1) := dk_4 (dk_at dksX6_use_1 16 rfl rfl)
theorem dX6_use_41 : decode cX6_use 41 = .ok (.if_icmp .ne 8, 3) := dk_160 0 8 (dk_at dksX6_use_1 17 rfl rfl)
theorem dX6_use_44 : decode cX6_use 44 = .ok (.lload 7, 2) := dk_22 7 (dk_at dksX6_use_1 20 rfl rfl)
theorem dX6_use_46 : decode cX6_use 46 = .ok (.goto 13, 3) := dk_167 0 13 (dk_at dksX6_use_2 0 rfl rfl)
theorem dX6_use_49 : decode cX6_use 49 = .ok (.lconst 0, 1) := dk_9 (dk_at dksX6_use_2 3 rfl rfl)
theorem dX6_use_50 : decode cX6_use 50 = .ok (.lload 7, 2) := dk_22 7 (dk_at dksX6_use_2 4 rfl rfl)
theorem dX6_use_52 : decode cX6_use 52 = .ok (.lload_n 3, 1) := dk_33 (dk_at dksX6_use_2 6 rfl rfl)
theorem dX6_use_53 : decode cX6_use 53 = .ok (.invokestatic 97, 3) := dk_184 0 97 (dk_at dksX6_use_2 7 rfl rfl)
theorem dX6_use_56 : decode cX6_use 56 = .ok (.invokestatic 49, 3) := dk_184 0 49 (dk_at dksX6_use_2 10 rfl rfl)
theorem dX6_use_59 : decode cX6_use 59 = .ok (.lstore 9, 2) := dk_55 9 (dk_at dksX6_use_2 13 rfl rfl)
theorem dX6_use_61 : decode cX6_use 61 = .ok (.aload_n 0, 1) := dk_42 (dk_at dksX6_use_2 15 rfl rfl)
theorem dX6_use_62 : decode cX6_use 62 = .ok (.getfield 22, 3) := dk_180 0 22 (dk_at dksX6_use_2 16 rfl rfl)
theorem dX6_use_65 : decode cX6_use 65 = .ok (.iload_n 2, 1) := dk_28 (dk_at dksX6_use_2 19 rfl rfl)
theorem dX6_use_66 : decode cX6_use 66 = .ok (.lload 5, 2) := dk_22 5 (dk_at dksX6_use_2 20 rfl rfl)
theorem dX6_use_68 : decode cX6_use 68 = .ok (.lastore, 1) := dk_80 (dk_at dksX6_use_2 22 rfl rfl)
theorem dX6_use_69 : decode cX6_use 69 = .ok (.aload_n 0, 1) := dk_42 (dk_at dksX6_use_2 23 rfl rfl)
theorem dX6_use_70 : decode cX6_use 70 = .ok (.getfield 25, 3) := dk_180 0 25 (dk_at dksX6_use_3 0 rfl rfl)
theorem dX6_use_73 : decode cX6_use 73 = .ok (.iload_n 2, 1) := dk_28 (dk_at dksX6_use_3 3 rfl rfl)
theorem dX6_use_74 : decode cX6_use 74 = .ok (.lload 9, 2) := dk_22 9 (dk_at dksX6_use_3 4 rfl rfl)
theorem dX6_use_76 : decode cX6_use 76 = .ok (.lastore, 1) := dk_80 (dk_at dksX6_use_3 6 rfl rfl)
theorem dX6_use_77 : decode cX6_use 77 = .ok (.aload_n 0, 1) := dk_42 (dk_at dksX6_use_3 7 rfl rfl)
theorem dX6_use_78 : decode cX6_use 78 = .ok (.getfield 28, 3) := dk_180 0 28 (dk_at dksX6_use_3 8 rfl rfl)
theorem dX6_use_81 : decode cX6_use 81 = .ok (.iload_n 2, 1) := dk_28 (dk_at dksX6_use_3 11 rfl rfl)
theorem dX6_use_82 : decode cX6_use 82 = .ok (.aload_n 1, 1) := dk_43 (dk_at dksX6_use_3 12 rfl rfl)
theorem dX6_use_83 : decode cX6_use 83 = .ok (.getfield 91, 3) := dk_180 0 91 (dk_at dksX6_use_3 13 rfl rfl)
theorem dX6_use_86 : decode cX6_use 86 = .ok (.ifCond .ne 11, 3) := dk_154 0 11 (dk_at dksX6_use_3 16 rfl rfl)
theorem dX6_use_89 : decode cX6_use 89 = .ok (.lload 7, 2) := dk_22 7 (dk_at dksX6_use_3 19 rfl rfl)
theorem dX6_use_91 : decode cX6_use 91 = .ok (.lload 9, 2) := dk_22 9 (dk_at dksX6_use_3 21 rfl rfl)
theorem dX6_use_93 : decode cX6_use 93 = .ok (.lsub, 1) := dk_101 (dk_at dksX6_use_3 23 rfl rfl)
theorem dX6_use_94 : decode cX6_use 94 = .ok (.goto 4, 3) := dk_167 0 4 (dk_at dksX6_use_4 0 rfl rfl)
theorem dX6_use_97 : decode cX6_use 97 = .ok (.lconst 0, 1) := dk_9 (dk_at dksX6_use_4 3 rfl rfl)
theorem dX6_use_98 : decode cX6_use 98 = .ok (.lastore, 1) := dk_80 (dk_at dksX6_use_4 4 rfl rfl)
theorem dX6_use_99 : decode cX6_use 99 = .ok (.aload_n 0, 1) := dk_42 (dk_at dksX6_use_4 5 rfl rfl)
theorem dX6_use_100 : decode cX6_use 100 = .ok (.getfield 31, 3) := dk_180 0 31 (dk_at dksX6_use_4 6 rfl rfl)
theorem dX6_use_103 : decode cX6_use 103 = .ok (.iload_n 2, 1) := dk_28 (dk_at dksX6_use_4 9 rfl rfl)
theorem dX6_use_104 : decode cX6_use 104 = .ok (.aload_n 1, 1) := dk_43 (dk_at dksX6_use_4 10 rfl rfl)
theorem dX6_use_105 : decode cX6_use 105 = .ok (.getfield 91, 3) := dk_180 0 91 (dk_at dksX6_use_4 11 rfl rfl)
theorem dX6_use_108 : decode cX6_use 108 = .ok (.iconst 2, 1) := dk_5 (dk_at dksX6_use_4 14 rfl rfl)
theorem dX6_use_109 : decode cX6_use 109 = .ok (.if_icmp .ne 11, 3) := dk_160 0 11 (dk_at dksX6_use_4 15 rfl rfl)
theorem dX6_use_112 : decode cX6_use 112 = .ok (.lload 7, 2) := dk_22 7 (dk_at dksX6_use_4 18 rfl rfl)
theorem dX6_use_114 : decode cX6_use 114 = .ok (.lload 9, 2) := dk_22 9 (dk_at dksX6_use_4 20 rfl rfl)
theorem dX6_use_116 : decode cX6_use 116 = .ok (.lsub, 1) := dk_101 (dk_at dksX6_use_4 22 rfl rfl)
theorem dX6_use_117 : decode cX6_use 117 = .ok (.goto 4, 3) := dk_167 0 4 (dk_at dksX6_use_5 0 rfl rfl)
theorem dX6_use_120 : decode cX6_use 120 = .ok (.lconst 0, 1) := dk_9 (dk_at dksX6_use_5 3 rfl rfl)
theorem dX6_use_121 : decode cX6_use 121 = .ok (.lastore, 1) := dk_80 (dk_at dksX6_use_5 4 rfl rfl)
theorem dX6_use_122 : decode cX6_use 122 = .ok (.aload_n 0, 1) := dk_42 (dk_at dksX6_use_5 5 rfl rfl)
theorem dX6_use_123 : decode cX6_use 123 = .ok (.getfield 34, 3) := dk_180 0 34 (dk_at dksX6_use_5 6 rfl rfl)
theorem dX6_use_126 : decode cX6_use 126 = .ok (.iload_n 2, 1) := dk_28 (dk_at dksX6_use_5 9 rfl rfl)
theorem dX6_use_127 : decode cX6_use 127 = .ok (.lload_n 3, 1) := dk_33 (dk_at dksX6_use_5 10 rfl rfl)
theorem dX6_use_128 : decode cX6_use 128 = .ok (.lload 9, 2) := dk_22 9 (dk_at dksX6_use_5 11 rfl rfl)
theorem dX6_use_130 : decode cX6_use 130 = .ok (.lsub, 1) := dk_101 (dk_at dksX6_use_5 13 rfl rfl)
theorem dX6_use_131 : decode cX6_use 131 = .ok (.lastore, 1) := dk_80 (dk_at dksX6_use_5 14 rfl rfl)
theorem dX6_use_132 : decode cX6_use 132 = .ok (.lload_n 3, 1) := dk_33 (dk_at dksX6_use_5 15 rfl rfl)
theorem dX6_use_133 : decode cX6_use 133 = .ok (.lload 9, 2) := dk_22 9 (dk_at dksX6_use_5 16 rfl rfl)
theorem dX6_use_135 : decode cX6_use 135 = .ok (.lsub, 1) := dk_101 (dk_at dksX6_use_5 18 rfl rfl)
theorem dX6_use_136 : decode cX6_use 136 = .ok (.lreturn, 1) := dk_173 (dk_at dksX6_use_5 19 rfl rfl)
abbrev cX6_creditPart : ByteArray := prog_5_method_4_code
def yX6_creditPart : MethodName := ⟨RX6, "creditPart", "(II)J"⟩
def dkwX6_creditPart_3 : List UInt8 := [180, 0, 31, 27, 47, 173, 42, 180, 0, 34, 27, 47, 173]
abbrev dktX6_creditPart_3 : List UInt8 := dkwX6_creditPart_3 ++ []
def dkwX6_creditPart_2 : List UInt8 := [42, 180, 0, 22, 27, 47, 173, 42, 180, 0, 25, 27, 47, 173, 42, 180, 0, 28, 27, 47, 173, 42]
abbrev dktX6_creditPart_2 : List UInt8 := dkwX6_creditPart_2 ++ dktX6_creditPart_3
def dkwX6_creditPart_1 : List UInt8 := [170, 0, 0, 0, 0, 0, 59, 0, 0, 0, 0, 0, 0, 0, 3, 0, 0, 0, 31, 0, 0, 0, 38, 0, 0, 0, 45, 0, 0, 0, 52]
abbrev dktX6_creditPart_1 : List UInt8 := dkwX6_creditPart_1 ++ dktX6_creditPart_2
def dkwX6_creditPart_0 : List UInt8 := [28]
abbrev dktX6_creditPart_0 : List UInt8 := dkwX6_creditPart_0 ++ dktX6_creditPart_1
theorem dksX6_creditPart_0 : cX6_creditPart.data.toList.drop 0 = dktX6_creditPart_0 := by decide +kernel
theorem dksX6_creditPart_1 : cX6_creditPart.data.toList.drop 1 = dktX6_creditPart_1 := dk_seg dksX6_creditPart_0 1 rfl rfl
theorem dksX6_creditPart_2 : cX6_creditPart.data.toList.drop 32 = dktX6_creditPart_2 := dk_seg dksX6_creditPart_1 31 rfl rfl
theorem dksX6_creditPart_3 : cX6_creditPart.data.toList.drop 54 = dktX6_creditPart_3 := dk_seg dksX6_creditPart_2 22 rfl rfl
theorem dX6_creditPart_0 : decode cX6_creditPart 0 = .ok (.iload_n 2, 1) := dk_28 (dk_at dksX6_creditPart_0 0 rfl rfl)
theorem dX6_creditPart_1 : decode cX6_creditPart 1 = .ok (.tableswitch 59 0 3 #[31, 38, 45, 52], 31) := by decide +kernel
theorem dX6_creditPart_32 : decode cX6_creditPart 32 = .ok (.aload_n 0, 1) := dk_42 (dk_at dksX6_creditPart_2 0 rfl rfl)
theorem dX6_creditPart_33 : decode cX6_creditPart 33 = .ok (.getfield 22, 3) := dk_180 0 22 (dk_at dksX6_creditPart_2 1 rfl rfl)
theorem dX6_creditPart_36 : decode cX6_creditPart 36 = .ok (.iload_n 1, 1) := dk_27 (dk_at dksX6_creditPart_2 4 rfl rfl)
theorem dX6_creditPart_37 : decode cX6_creditPart 37 = .ok (.laload, 1) := dk_47 (dk_at dksX6_creditPart_2 5 rfl rfl)
theorem dX6_creditPart_38 : decode cX6_creditPart 38 = .ok (.lreturn, 1) := dk_173 (dk_at dksX6_creditPart_2 6 rfl rfl)
theorem dX6_creditPart_39 : decode cX6_creditPart 39 = .ok (.aload_n 0, 1) := dk_42 (dk_at dksX6_creditPart_2 7 rfl rfl)
theorem dX6_creditPart_40 : decode cX6_creditPart 40 = .ok (.getfield 25, 3) := dk_180 0 25 (dk_at dksX6_creditPart_2 8 rfl rfl)
theorem dX6_creditPart_43 : decode cX6_creditPart 43 = .ok (.iload_n 1, 1) := dk_27 (dk_at dksX6_creditPart_2 11 rfl rfl)
theorem dX6_creditPart_44 : decode cX6_creditPart 44 = .ok (.laload, 1) := dk_47 (dk_at dksX6_creditPart_2 12 rfl rfl)
theorem dX6_creditPart_45 : decode cX6_creditPart 45 = .ok (.lreturn, 1) := dk_173 (dk_at dksX6_creditPart_2 13 rfl rfl)
theorem dX6_creditPart_46 : decode cX6_creditPart 46 = .ok (.aload_n 0, 1) := dk_42 (dk_at dksX6_creditPart_2 14 rfl rfl)
theorem dX6_creditPart_47 : decode cX6_creditPart 47 = .ok (.getfield 28, 3) := dk_180 0 28 (dk_at dksX6_creditPart_2 15 rfl rfl)
theorem dX6_creditPart_50 : decode cX6_creditPart 50 = .ok (.iload_n 1, 1) := dk_27 (dk_at dksX6_creditPart_2 18 rfl rfl)
theorem dX6_creditPart_51 : decode cX6_creditPart 51 = .ok (.laload, 1) := dk_47 (dk_at dksX6_creditPart_2 19 rfl rfl)
theorem dX6_creditPart_52 : decode cX6_creditPart 52 = .ok (.lreturn, 1) := dk_173 (dk_at dksX6_creditPart_2 20 rfl rfl)
theorem dX6_creditPart_53 : decode cX6_creditPart 53 = .ok (.aload_n 0, 1) := dk_42 (dk_at dksX6_creditPart_2 21 rfl rfl)
theorem dX6_creditPart_54 : decode cX6_creditPart 54 = .ok (.getfield 31, 3) := dk_180 0 31 (dk_at dksX6_creditPart_3 0 rfl rfl)
theorem dX6_creditPart_57 : decode cX6_creditPart 57 = .ok (.iload_n 1, 1) := dk_27 (dk_at dksX6_creditPart_3 3 rfl rfl)
theorem dX6_creditPart_58 : decode cX6_creditPart 58 = .ok (.laload, 1) := dk_47 (dk_at dksX6_creditPart_3 4 rfl rfl)
theorem dX6_creditPart_59 : decode cX6_creditPart 59 = .ok (.lreturn, 1) := dk_173 (dk_at dksX6_creditPart_3 5 rfl rfl)
theorem dX6_creditPart_60 : decode cX6_creditPart 60 = .ok (.aload_n 0, 1) := dk_42 (dk_at dksX6_creditPart_3 6 rfl rfl)
theorem dX6_creditPart_61 : decode cX6_creditPart 61 = .ok (.getfield 34, 3) := dk_180 0 34 (dk_at dksX6_creditPart_3 7 rfl rfl)
theorem dX6_creditPart_64 : decode cX6_creditPart 64 = .ok (.iload_n 1, 1) := dk_27 (dk_at dksX6_creditPart_3 10 rfl rfl)
theorem dX6_creditPart_65 : decode cX6_creditPart 65 = .ok (.laload, 1) := dk_47 (dk_at dksX6_creditPart_3 11 rfl rfl)
theorem dX6_creditPart_66 : decode cX6_creditPart 66 = .ok (.lreturn, 1) := dk_173 (dk_at dksX6_creditPart_3 12 rfl rfl)
abbrev cX6_curvePart : ByteArray := prog_5_method_5_code
def yX6_curvePart : MethodName := ⟨RX6, "curvePart", "(I)J"⟩
def dkwX6_curvePart_1 : List UInt8 := [173]
abbrev dktX6_curvePart_1 : List UInt8 := dkwX6_curvePart_1 ++ []
def dkwX6_curvePart_0 : List UInt8 := [27, 7, 162, 0, 14, 42, 180, 0, 18, 27, 5, 96, 47, 167, 0, 11, 42, 180, 0, 34, 27, 7, 100, 47]
abbrev dktX6_curvePart_0 : List UInt8 := dkwX6_curvePart_0 ++ dktX6_curvePart_1
theorem dksX6_curvePart_0 : cX6_curvePart.data.toList.drop 0 = dktX6_curvePart_0 := by decide +kernel
theorem dksX6_curvePart_1 : cX6_curvePart.data.toList.drop 24 = dktX6_curvePart_1 := dk_seg dksX6_curvePart_0 24 rfl rfl
theorem dX6_curvePart_0 : decode cX6_curvePart 0 = .ok (.iload_n 1, 1) := dk_27 (dk_at dksX6_curvePart_0 0 rfl rfl)
theorem dX6_curvePart_1 : decode cX6_curvePart 1 = .ok (.iconst 4, 1) := dk_7 (dk_at dksX6_curvePart_0 1 rfl rfl)
theorem dX6_curvePart_2 : decode cX6_curvePart 2 = .ok (.if_icmp .ge 14, 3) := dk_162 0 14 (dk_at dksX6_curvePart_0 2 rfl rfl)
theorem dX6_curvePart_5 : decode cX6_curvePart 5 = .ok (.aload_n 0, 1) := dk_42 (dk_at dksX6_curvePart_0 5 rfl rfl)
theorem dX6_curvePart_6 : decode cX6_curvePart 6 = .ok (.getfield 18, 3) := dk_180 0 18 (dk_at dksX6_curvePart_0 6 rfl rfl)
theorem dX6_curvePart_9 : decode cX6_curvePart 9 = .ok (.iload_n 1, 1) := dk_27 (dk_at dksX6_curvePart_0 9 rfl rfl)
theorem dX6_curvePart_10 : decode cX6_curvePart 10 = .ok (.iconst 2, 1) := dk_5 (dk_at dksX6_curvePart_0 10 rfl rfl)
theorem dX6_curvePart_11 : decode cX6_curvePart 11 = .ok (.iadd, 1) := dk_96 (dk_at dksX6_curvePart_0 11 rfl rfl)
theorem dX6_curvePart_12 : decode cX6_curvePart 12 = .ok (.laload, 1) := dk_47 (dk_at dksX6_curvePart_0 12 rfl rfl)
theorem dX6_curvePart_13 : decode cX6_curvePart 13 = .ok (.goto 11, 3) := dk_167 0 11 (dk_at dksX6_curvePart_0 13 rfl rfl)
theorem dX6_curvePart_16 : decode cX6_curvePart 16 = .ok (.aload_n 0, 1) := dk_42 (dk_at dksX6_curvePart_0 16 rfl rfl)
theorem dX6_curvePart_17 : decode cX6_curvePart 17 = .ok (.getfield 34, 3) := dk_180 0 34 (dk_at dksX6_curvePart_0 17 rfl rfl)
theorem dX6_curvePart_20 : decode cX6_curvePart 20 = .ok (.iload_n 1, 1) := dk_27 (dk_at dksX6_curvePart_0 20 rfl rfl)
theorem dX6_curvePart_21 : decode cX6_curvePart 21 = .ok (.iconst 4, 1) := dk_7 (dk_at dksX6_curvePart_0 21 rfl rfl)
theorem dX6_curvePart_22 : decode cX6_curvePart 22 = .ok (.isub, 1) := dk_100 (dk_at dksX6_curvePart_0 22 rfl rfl)
theorem dX6_curvePart_23 : decode cX6_curvePart 23 = .ok (.laload, 1) := dk_47 (dk_at dksX6_curvePart_0 23 rfl rfl)
theorem dX6_curvePart_24 : decode cX6_curvePart 24 = .ok (.lreturn, 1) := dk_173 (dk_at dksX6_curvePart_1 0 rfl rfl)
theorem q123 : (Jvm.Cond.initialized "TaxWorkbench$Computation") ∈ lw_all := lw_g (lw_at lw_m1 22 rfl) rfl
theorem q318 : (Jvm.Cond.fieldLinkNest "TaxWorkbench$Computation" (68 : Nat) "TaxWorkbench$Rules" "credits" "Ljava/util/LinkedList;" "TaxWorkbench") ∈ lw_tbl := lw_at lw_m1 217 rfl
theorem q390 : (Jvm.Cond.selects "TaxWorkbench$Computation" ({ cls := "java/lang/Object", name := "getClass", desc := "()Ljava/lang/Class;" } : Jvm.MethodName) ({ cls := "java/lang/Object", name := "getClass", desc := "()Ljava/lang/Class;" } : Jvm.MethodName)) ∈ lw_all := lw_g (lw_at lw_m2 49 rfl) rfl
theorem q489 : (Jvm.Cond.instantiable "TaxWorkbench$Computation" (7 : Nat)) ∈ lw_all := lw_g (lw_at lw_m2 148 rfl) rfl
theorem q491 : (Jvm.Cond.instanceMethod ({ cls := "TaxWorkbench$Computation", name := "<init>", desc := "()V" } : Jvm.MethodName)) ∈ lw_all := lw_g (lw_at lw_m2 150 rfl) rfl
theorem q492 : (Jvm.Cond.code ({ cls := "TaxWorkbench$Computation", name := "<init>", desc := "()V" } : Jvm.MethodName) prog_5_method_1_code (1 : Nat) (Option.none : Option Jvm.ClassFile.FieldType)) ∈ lw_all := lw_g (lw_at lw_m2 151 rfl) rfl
theorem q493 : (Jvm.Cond.methodLink "TaxWorkbench$Computation" (3 : Nat) ({ cls := "java/lang/Object", name := "<init>", desc := "()V" } : Jvm.MethodName)) ∈ lw_all := lw_g (lw_at lw_m2 152 rfl) rfl
theorem q494 : (Jvm.Cond.classLink "TaxWorkbench$Computation" (9 : Nat) "TaxWorkbench$Case") ∈ lw_all := lw_g (lw_at lw_m2 153 rfl) rfl
theorem q496 : (Jvm.Cond.methodLinkNest "TaxWorkbench$Computation" (11 : Nat) ({ cls := "TaxWorkbench$Case", name := "<init>", desc := "()V" } : Jvm.MethodName) "TaxWorkbench") ∈ lw_tbl := lw_at lw_m2 155 rfl
theorem q503 : (Jvm.Cond.fieldLinkNest "TaxWorkbench$Computation" (43 : Nat) "TaxWorkbench$Case" "income" "I" "TaxWorkbench") ∈ lw_tbl := lw_at lw_m2 162 rfl
theorem q508 : (Jvm.Cond.fieldLinkNest "TaxWorkbench$Computation" (55 : Nat) "TaxWorkbench$Case" "factor" "I" "TaxWorkbench") ∈ lw_tbl := lw_at lw_m2 167 rfl
theorem q511 : (Jvm.Cond.fieldLinkNest "TaxWorkbench$Computation" (94 : Nat) "TaxWorkbench$Case" "carried" "[J" "TaxWorkbench") ∈ lw_tbl := lw_at lw_m2 170 rfl
theorem q524 : (Jvm.Cond.fieldLink "TaxWorkbench$Computation" (12 : Nat) "TaxWorkbench$Computation" "it" "LTaxWorkbench$Case;") ∈ lw_all := lw_g (lw_at lw_m2 183 rfl) rfl
theorem q526 : (Jvm.Cond.fieldLink "TaxWorkbench$Computation" (18 : Nat) "TaxWorkbench$Computation" "parts" "[J") ∈ lw_all := lw_g (lw_at lw_m2 185 rfl) rfl
theorem q528 : (Jvm.Cond.fieldLink "TaxWorkbench$Computation" (22 : Nat) "TaxWorkbench$Computation" "values" "[J") ∈ lw_all := lw_g (lw_at lw_m2 187 rfl) rfl
theorem q529 : (Jvm.Cond.fieldLink "TaxWorkbench$Computation" (25 : Nat) "TaxWorkbench$Computation" "used" "[J") ∈ lw_all := lw_g (lw_at lw_m2 188 rfl) rfl
theorem q530 : (Jvm.Cond.fieldLink "TaxWorkbench$Computation" (28 : Nat) "TaxWorkbench$Computation" "lost" "[J") ∈ lw_all := lw_g (lw_at lw_m2 189 rfl) rfl
theorem q531 : (Jvm.Cond.fieldLink "TaxWorkbench$Computation" (31 : Nat) "TaxWorkbench$Computation" "kept" "[J") ∈ lw_all := lw_g (lw_at lw_m2 190 rfl) rfl
theorem q533 : (Jvm.Cond.fieldLink "TaxWorkbench$Computation" (34 : Nat) "TaxWorkbench$Computation" "rests" "[J") ∈ lw_all := lw_g (lw_at lw_m2 192 rfl) rfl
theorem q534 : (Jvm.Cond.laysFinal "TaxWorkbench$Computation" "TaxWorkbench$Computation" "it" "LTaxWorkbench$Case;") ∈ lw_all := lw_g (lw_at lw_m2 193 rfl) rfl
theorem q535 : (Jvm.Cond.soleField "TaxWorkbench$Computation" "it") ∈ lw_all := lw_g (lw_at lw_m2 194 rfl) rfl
theorem q536 : (Jvm.Cond.laysFinal "TaxWorkbench$Computation" "TaxWorkbench$Computation" "parts" "[J") ∈ lw_all := lw_g (lw_at lw_m2 195 rfl) rfl
theorem q537 : (Jvm.Cond.soleField "TaxWorkbench$Computation" "parts") ∈ lw_all := lw_g (lw_at lw_m2 196 rfl) rfl
theorem q538 : (Jvm.Cond.laysFinal "TaxWorkbench$Computation" "TaxWorkbench$Computation" "values" "[J") ∈ lw_all := lw_g (lw_at lw_m2 197 rfl) rfl
theorem q539 : (Jvm.Cond.soleField "TaxWorkbench$Computation" "values") ∈ lw_all := lw_g (lw_at lw_m2 198 rfl) rfl
theorem q540 : (Jvm.Cond.laysFinal "TaxWorkbench$Computation" "TaxWorkbench$Computation" "used" "[J") ∈ lw_all := lw_g (lw_at lw_m2 199 rfl) rfl
theorem q541 : (Jvm.Cond.soleField "TaxWorkbench$Computation" "used") ∈ lw_all := lw_g (lw_at lw_m2 200 rfl) rfl
theorem q542 : (Jvm.Cond.laysFinal "TaxWorkbench$Computation" "TaxWorkbench$Computation" "lost" "[J") ∈ lw_all := lw_g (lw_at lw_m2 201 rfl) rfl
theorem q543 : (Jvm.Cond.soleField "TaxWorkbench$Computation" "lost") ∈ lw_all := lw_g (lw_at lw_m2 202 rfl) rfl
theorem q544 : (Jvm.Cond.laysFinal "TaxWorkbench$Computation" "TaxWorkbench$Computation" "kept" "[J") ∈ lw_all := lw_g (lw_at lw_m2 203 rfl) rfl
theorem q545 : (Jvm.Cond.soleField "TaxWorkbench$Computation" "kept") ∈ lw_all := lw_g (lw_at lw_m2 204 rfl) rfl
theorem q546 : (Jvm.Cond.laysFinal "TaxWorkbench$Computation" "TaxWorkbench$Computation" "rests" "[J") ∈ lw_all := lw_g (lw_at lw_m2 205 rfl) rfl
theorem q547 : (Jvm.Cond.soleField "TaxWorkbench$Computation" "rests") ∈ lw_all := lw_g (lw_at lw_m2 206 rfl) rfl
theorem q548 : (Jvm.Cond.superclass "TaxWorkbench$Computation" "java/lang/Object") ∈ lw_all := lw_g (lw_at lw_m2 207 rfl) rfl
theorem q1895 : (Jvm.Cond.instanceMethod ({ cls := "TaxWorkbench$Computation", name := "run", desc := "(LTaxWorkbench$Rules;)J" } : Jvm.MethodName)) ∈ lw_all := lw_g (lw_at lw_m8 114 rfl) rfl
theorem q1896 : (Jvm.Cond.selects "TaxWorkbench$Computation" ({ cls := "TaxWorkbench$Computation", name := "run", desc := "(LTaxWorkbench$Rules;)J" } : Jvm.MethodName) ({ cls := "TaxWorkbench$Computation", name := "run", desc := "(LTaxWorkbench$Rules;)J" } : Jvm.MethodName)) ∈ lw_all := lw_g (lw_at lw_m8 115 rfl) rfl
theorem q1897 : (Jvm.Cond.code ({ cls := "TaxWorkbench$Computation", name := "run", desc := "(LTaxWorkbench$Rules;)J" } : Jvm.MethodName) prog_5_method_2_code (5 : Nat) (Option.some Jvm.ClassFile.FieldType.long)) ∈ lw_all := lw_g (lw_at lw_m8 116 rfl) rfl
theorem q1898 : (Jvm.Cond.methodLink "TaxWorkbench$Computation" (37 : Nat) ({ cls := "TaxWorkbench$Rules", name := "allowanceLeft", desc := "(LTaxWorkbench$Case;)J" } : Jvm.MethodName)) ∈ lw_all := lw_g (lw_at lw_m8 117 rfl) rfl
theorem q1912 : (Jvm.Cond.constantLong "TaxWorkbench$Computation" (47 : Nat) (1000000 : Int64)) ∈ lw_all := lw_g (lw_at lw_m8 131 rfl) rfl
theorem q1913 : (Jvm.Cond.methodLink "TaxWorkbench$Computation" (49 : Nat) ({ cls := "java/lang/Math", name := "max", desc := "(JJ)J" } : Jvm.MethodName)) ∈ lw_all := lw_g (lw_at lw_m8 132 rfl) rfl
theorem q1914 : (Jvm.Cond.methodLink "TaxWorkbench$Computation" (58 : Nat) ({ cls := "TaxWorkbench$Rules", name := "scheduled", desc := "(JI)J" } : Jvm.MethodName)) ∈ lw_all := lw_g (lw_at lw_m8 133 rfl) rfl
theorem q1926 : (Jvm.Cond.methodLink "TaxWorkbench$Computation" (62 : Nat) ({ cls := "TaxWorkbench$Rules", name := "minimum", desc := "(LTaxWorkbench$Case;)J" } : Jvm.MethodName)) ∈ lw_all := lw_g (lw_at lw_m8 145 rfl) rfl
theorem q1930 : (Jvm.Cond.methodLink "TaxWorkbench$Computation" (65 : Nat) ({ cls := "TaxWorkbench$Rules", name := "charged", desc := "(LTaxWorkbench$Case;)J" } : Jvm.MethodName)) ∈ lw_all := lw_g (lw_at lw_m8 149 rfl) rfl
theorem q1937 : (Jvm.Cond.methodLink "TaxWorkbench$Computation" (72 : Nat) ({ cls := "java/util/LinkedList", name := "size", desc := "()I" } : Jvm.MethodName)) ∈ lw_all := lw_g (lw_at lw_m8 156 rfl) rfl
theorem q1938 : (Jvm.Cond.methodLink "TaxWorkbench$Computation" (78 : Nat) ({ cls := "java/util/LinkedList", name := "get", desc := "(I)Ljava/lang/Object;" } : Jvm.MethodName)) ∈ lw_all := lw_g (lw_at lw_m8 157 rfl) rfl
theorem q1939 : (Jvm.Cond.classLink "TaxWorkbench$Computation" (82 : Nat) "TaxWorkbench$Credit") ∈ lw_all := lw_g (lw_at lw_m8 158 rfl) rfl
theorem q1940 : (Jvm.Cond.methodLink "TaxWorkbench$Computation" (84 : Nat) ({ cls := "TaxWorkbench$Computation", name := "use", desc := "(LTaxWorkbench$Credit;IJ)J" } : Jvm.MethodName)) ∈ lw_all := lw_g (lw_at lw_m8 159 rfl) rfl
theorem q1941 : (Jvm.Cond.privateMethod ({ cls := "TaxWorkbench$Computation", name := "use", desc := "(LTaxWorkbench$Credit;IJ)J" } : Jvm.MethodName)) ∈ lw_tbl := lw_at lw_m8 160 rfl
theorem q1942 : (Jvm.Cond.instanceMethod ({ cls := "TaxWorkbench$Computation", name := "use", desc := "(LTaxWorkbench$Credit;IJ)J" } : Jvm.MethodName)) ∈ lw_all := lw_g (lw_at lw_m8 161 rfl) rfl
theorem q1943 : (Jvm.Cond.code ({ cls := "TaxWorkbench$Computation", name := "use", desc := "(LTaxWorkbench$Credit;IJ)J" } : Jvm.MethodName) prog_5_method_3_code (11 : Nat) (Option.some Jvm.ClassFile.FieldType.long)) ∈ lw_all := lw_g (lw_at lw_m8 162 rfl) rfl
theorem q1944 : (Jvm.Cond.methodLink "TaxWorkbench$Computation" (88 : Nat) ({ cls := "TaxWorkbench$Credit", name := "value", desc := "(LTaxWorkbench$Case;)J" } : Jvm.MethodName)) ∈ lw_all := lw_g (lw_at lw_m8 163 rfl) rfl
theorem q1953 : (Jvm.Cond.methodLink "TaxWorkbench$Computation" (97 : Nat) ({ cls := "java/lang/Math", name := "min", desc := "(JJ)J" } : Jvm.MethodName)) ∈ lw_all := lw_g (lw_at lw_m8 172 rfl) rfl
theorem q2295 : (Jvm.Cond.fieldLinkNest "TaxWorkbench$Computation" (91 : Nat) "TaxWorkbench$Credit" "kind" "I" "TaxWorkbench") ∈ lw_tbl := lw_at lw_m10 34 rfl
theorem q3239 : (Jvm.Cond.instanceMethod ({ cls := "TaxWorkbench$Computation", name := "creditPart", desc := "(II)J" } : Jvm.MethodName)) ∈ lw_all := lw_g (lw_at lw_m14 18 rfl) rfl
theorem q3240 : (Jvm.Cond.selects "TaxWorkbench$Computation" ({ cls := "TaxWorkbench$Computation", name := "creditPart", desc := "(II)J" } : Jvm.MethodName) ({ cls := "TaxWorkbench$Computation", name := "creditPart", desc := "(II)J" } : Jvm.MethodName)) ∈ lw_all := lw_g (lw_at lw_m14 19 rfl) rfl
theorem q3241 : (Jvm.Cond.code ({ cls := "TaxWorkbench$Computation", name := "creditPart", desc := "(II)J" } : Jvm.MethodName) prog_5_method_4_code (3 : Nat) (Option.some Jvm.ClassFile.FieldType.long)) ∈ lw_all := lw_g (lw_at lw_m14 20 rfl) rfl
theorem q3423 : (Jvm.Cond.instanceMethod ({ cls := "TaxWorkbench$Computation", name := "curvePart", desc := "(I)J" } : Jvm.MethodName)) ∈ lw_all := lw_g (lw_at lw_m14 202 rfl) rfl
theorem q3424 : (Jvm.Cond.selects "TaxWorkbench$Computation" ({ cls := "TaxWorkbench$Computation", name := "curvePart", desc := "(I)J" } : Jvm.MethodName) ({ cls := "TaxWorkbench$Computation", name := "curvePart", desc := "(I)J" } : Jvm.MethodName)) ∈ lw_all := lw_g (lw_at lw_m14 203 rfl) rfl
theorem q3425 : (Jvm.Cond.code ({ cls := "TaxWorkbench$Computation", name := "curvePart", desc := "(I)J" } : Jvm.MethodName) prog_5_method_5_code (2 : Nat) (Option.some Jvm.ClassFile.FieldType.long)) ∈ lw_all := lw_g (lw_at lw_m14 204 rfl) rfl
theorem q3957 : (Jvm.Cond.castable "TaxWorkbench$Computation" "java/lang/Object") ∈ lw_tbl := lw_at lw_m17 16 rfl

/-! TaxWorkbench$World -/
set_option maxRecDepth 100000
abbrev cX2_init : ByteArray := prog_11_method_1_code
def yX2_init : MethodName := ⟨RX2, "<init>", "()V"⟩
def dkwX2_init_3 : List UInt8 := [2, 79, 42, 180, 0, 31, 16, 6, 188, 11, 182, 0, 38, 87, 132, 1, 1, 167, 255, 212, 177]
abbrev dktX2_init_3 : List UInt8 := dkwX2_init_3 ++ []
def dkwX2_init_2 : List UInt8 := [162, 0, 44, 42, 180, 0, 20, 27, 187, 0, 18, 89, 3, 3, 3, 183, 0, 35, 83, 42, 180, 0, 24, 27]
abbrev dktX2_init_2 : List UInt8 := dkwX2_init_2 ++ dktX2_init_3
def dkwX2_init_1 : List UInt8 := [42, 16, 6, 188, 10, 181, 0, 24, 42, 187, 0, 28, 89, 183, 0, 30, 181, 0, 31, 3, 60, 27, 16, 6]
abbrev dktX2_init_1 : List UInt8 := dkwX2_init_1 ++ dktX2_init_2
def dkwX2_init_0 : List UInt8 := [42, 183, 0, 3, 42, 187, 0, 9, 89, 183, 0, 11, 181, 0, 12, 42, 16, 6, 189, 0, 18, 181, 0, 20]
abbrev dktX2_init_0 : List UInt8 := dkwX2_init_0 ++ dktX2_init_1
theorem dksX2_init_0 : cX2_init.data.toList.drop 0 = dktX2_init_0 := by decide +kernel
theorem dksX2_init_1 : cX2_init.data.toList.drop 24 = dktX2_init_1 := dk_seg dksX2_init_0 24 rfl rfl
theorem dksX2_init_2 : cX2_init.data.toList.drop 48 = dktX2_init_2 := dk_seg dksX2_init_1 24 rfl rfl
theorem dksX2_init_3 : cX2_init.data.toList.drop 72 = dktX2_init_3 := dk_seg dksX2_init_2 24 rfl rfl
theorem dX2_init_0 : decode cX2_init 0 = .ok (.aload_n 0, 1) := dk_42 (dk_at dksX2_init_0 0 rfl rfl)
theorem dX2_init_1 : decode cX2_init 1 = .ok (.invokespecial 3, 3) := dk_183 0 3 (dk_at dksX2_init_0 1 rfl rfl)
theorem dX2_init_4 : decode cX2_init 4 = .ok (.aload_n 0, 1) := dk_42 (dk_at dksX2_init_0 4 rfl rfl)
theorem dX2_init_5 : decode cX2_init 5 = .ok (.new 9, 3) := dk_187 0 9 (dk_at dksX2_init_0 5 rfl rfl)
theorem dX2_init_8 : decode cX2_init 8 = .ok (.dup, 1) := dk_89 (dk_at dksX2_init_0 8 rfl rfl)
theorem dX2_init_9 : decode cX2_init 9 = .ok (.invokespecial 11, 3) := dk_183 0 11 (dk_at dksX2_init_0 9 rfl rfl)
theorem dX2_init_12 : decode cX2_init 12 = .ok (.putfield 12, 3) := dk_181 0 12 (dk_at dksX2_init_0 12 rfl rfl)
theorem dX2_init_15 : decode cX2_init 15 = .ok (.aload_n 0, 1) := dk_42 (dk_at dksX2_init_0 15 rfl rfl)
theorem dX2_init_16 : decode cX2_init 16 = .ok (.bipush 6, 2) := dk_16 6 (dk_at dksX2_init_0 16 rfl rfl)
theorem dX2_init_18 : decode cX2_init 18 = .ok (.anewarray 18, 3) := dk_189 0 18 (dk_at dksX2_init_0 18 rfl rfl)
theorem dX2_init_21 : decode cX2_init 21 = .ok (.putfield 20, 3) := dk_181 0 20 (dk_at dksX2_init_0 21 rfl rfl)
theorem dX2_init_24 : decode cX2_init 24 = .ok (.aload_n 0, 1) := dk_42 (dk_at dksX2_init_1 0 rfl rfl)
theorem dX2_init_25 : decode cX2_init 25 = .ok (.bipush 6, 2) := dk_16 6 (dk_at dksX2_init_1 1 rfl rfl)
theorem dX2_init_27 : decode cX2_init 27 = .ok (.newarray .int, 2) := dk_188_10 (dk_at dksX2_init_1 3 rfl rfl)
theorem dX2_init_29 : decode cX2_init 29 = .ok (.putfield 24, 3) := dk_181 0 24 (dk_at dksX2_init_1 5 rfl rfl)
theorem dX2_init_32 : decode cX2_init 32 = .ok (.aload_n 0, 1) := dk_42 (dk_at dksX2_init_1 8 rfl rfl)
theorem dX2_init_33 : decode cX2_init 33 = .ok (.new 28, 3) := dk_187 0 28 (dk_at dksX2_init_1 9 rfl rfl)
theorem dX2_init_36 : decode cX2_init 36 = .ok (.dup, 1) := dk_89 (dk_at dksX2_init_1 12 rfl rfl)
theorem dX2_init_37 : decode cX2_init 37 = .ok (.invokespecial 30, 3) := dk_183 0 30 (dk_at dksX2_init_1 13 rfl rfl)
theorem dX2_init_40 : decode cX2_init 40 = .ok (.putfield 31, 3) := dk_181 0 31 (dk_at dksX2_init_1 16 rfl rfl)
theorem dX2_init_43 : decode cX2_init 43 = .ok (.iconst 0, 1) := dk_3 (dk_at dksX2_init_1 19 rfl rfl)
theorem dX2_init_44 : decode cX2_init 44 = .ok (.istore_n 1, 1) := dk_60 (dk_at dksX2_init_1 20 rfl rfl)
theorem dX2_init_45 : decode cX2_init 45 = .ok (.iload_n 1, 1) := dk_27 (dk_at dksX2_init_1 21 rfl rfl)
theorem dX2_init_46 : decode cX2_init 46 = .ok (.bipush 6, 2) := dk_16 6 (dk_at dksX2_init_1 22 rfl rfl)
theorem dX2_init_48 : decode cX2_init 48 = .ok (.if_icmp .ge 44, 3) := dk_162 0 44 (dk_at dksX2_init_2 0 rfl rfl)
theorem dX2_init_51 : decode cX2_init 51 = .ok (.aload_n 0, 1) := dk_42 (dk_at dksX2_init_2 3 rfl rfl)
theorem dX2_init_52 : decode cX2_init 52 = .ok (.getfield 20, 3) := dk_180 0 20 (dk_at dksX2_init_2 4 rfl rfl)
theorem dX2_init_55 : decode cX2_init 55 = .ok (.iload_n 1, 1) := dk_27 (dk_at dksX2_init_2 7 rfl rfl)
theorem dX2_init_56 : decode cX2_init 56 = .ok (.new 18, 3) := dk_187 0 18 (dk_at dksX2_init_2 8 rfl rfl)
theorem dX2_init_59 : decode cX2_init 59 = .ok (.dup, 1) := dk_89 (dk_at dksX2_init_2 11 rfl rfl)
theorem dX2_init_60 : decode cX2_init 60 = .ok (.iconst 0, 1) := dk_3 (dk_at dksX2_init_2 12 rfl rfl)
theorem dX2_init_61 : decode cX2_init 61 = .ok (.iconst 0, 1) := dk_3 (dk_at dksX2_init_2 13 rfl rfl)
theorem dX2_init_62 : decode cX2_init 62 = .ok (.iconst 0, 1) := dk_3 (dk_at dksX2_init_2 14 rfl rfl)
theorem dX2_init_63 : decode cX2_init 63 = .ok (.invokespecial 35, 3) := dk_183 0 35 (dk_at dksX2_init_2 15 rfl rfl)
theorem dX2_init_66 : decode cX2_init 66 = .ok (.aastore, 1) := dk_83 (dk_at dksX2_init_2 18 rfl rfl)
theorem dX2_init_67 : decode cX2_init 67 = .ok (.aload_n 0, 1) := dk_42 (dk_at dksX2_init_2 19 rfl rfl)
theorem dX2_init_68 : decode cX2_init 68 = .ok (.getfield 24, 3) := dk_180 0 24 (dk_at dksX2_init_2 20 rfl rfl)
theorem dX2_init_71 : decode cX2_init 71 = .ok (.iload_n 1, 1) := dk_27 (dk_at dksX2_init_2 23 rfl rfl)
theorem dX2_init_72 : decode cX2_init 72 = .ok (.iconst (-1), 1) := dk_2 (dk_at dksX2_init_3 0 rfl rfl)
theorem dX2_init_73 : decode cX2_init 73 = .ok (.iastore, 1) := dk_79 (dk_at dksX2_init_3 1 rfl rfl)
theorem dX2_init_74 : decode cX2_init 74 = .ok (.aload_n 0, 1) := dk_42 (dk_at dksX2_init_3 2 rfl rfl)
theorem dX2_init_75 : decode cX2_init 75 = .ok (.getfield 31, 3) := dk_180 0 31 (dk_at dksX2_init_3 3 rfl rfl)
theorem dX2_init_78 : decode cX2_init 78 = .ok (.bipush 6, 2) := dk_16 6 (dk_at dksX2_init_3 6 rfl rfl)
theorem dX2_init_80 : decode cX2_init 80 = .ok (.newarray .long, 2) := dk_188_11 (dk_at dksX2_init_3 8 rfl rfl)
theorem dX2_init_82 : decode cX2_init 82 = .ok (.invokevirtual 38, 3) := dk_182 0 38 (dk_at dksX2_init_3 10 rfl rfl)
theorem dX2_init_85 : decode cX2_init 85 = .ok (.pop, 1) := dk_87 (dk_at dksX2_init_3 13 rfl rfl)
theorem dX2_init_86 : decode cX2_init 86 = .ok (.iinc 1 1, 3) := dk_132 1 1 (dk_at dksX2_init_3 14 rfl rfl)
theorem dX2_init_89 : decode cX2_init 89 = .ok (.goto (-44), 3) := dk_167 255 212 (dk_at dksX2_init_3 17 rfl rfl)
theorem dX2_init_92 : decode cX2_init 92 = .ok (.return_, 1) := dk_177 (dk_at dksX2_init_3 20 rfl rfl)
abbrev cX2_copy : ByteArray := prog_11_method_2_code
def yX2_copy : MethodName := ⟨RX2, "copy", "()LTaxWorkbench$World;"⟩
def dkwX2_copy_4 : List UInt8 := [181, 0, 67, 43, 176]
abbrev dktX2_copy_4 : List UInt8 := dkwX2_copy_4 ++ []
def dkwX2_copy_3 : List UInt8 := [192, 0, 57, 182, 0, 59, 192, 0, 57, 182, 0, 63, 87, 132, 2, 1, 167, 255, 221, 43, 42, 180, 0, 67]
abbrev dktX2_copy_3 : List UInt8 := dkwX2_copy_3 ++ dktX2_copy_4
def dkwX2_copy_2 : List UInt8 := [184, 0, 47, 3, 61, 28, 16, 6, 162, 0, 35, 43, 180, 0, 31, 28, 42, 180, 0, 31, 28, 182, 0, 53]
abbrev dktX2_copy_2 : List UInt8 := dkwX2_copy_2 ++ dktX2_copy_3
def dkwX2_copy_1 : List UInt8 := [43, 180, 0, 20, 3, 16, 6, 184, 0, 47, 42, 180, 0, 24, 3, 43, 180, 0, 24, 3, 16, 6]
abbrev dktX2_copy_1 : List UInt8 := dkwX2_copy_1 ++ dktX2_copy_2
def dkwX2_copy_0 : List UInt8 := [187, 0, 13, 89, 183, 0, 42, 76, 43, 42, 180, 0, 12, 182, 0, 43, 181, 0, 12, 42, 180, 0, 20, 3]
abbrev dktX2_copy_0 : List UInt8 := dkwX2_copy_0 ++ dktX2_copy_1
theorem dksX2_copy_0 : cX2_copy.data.toList.drop 0 = dktX2_copy_0 := by decide +kernel
theorem dksX2_copy_1 : cX2_copy.data.toList.drop 24 = dktX2_copy_1 := dk_seg dksX2_copy_0 24 rfl rfl
theorem dksX2_copy_2 : cX2_copy.data.toList.drop 46 = dktX2_copy_2 := dk_seg dksX2_copy_1 22 rfl rfl
theorem dksX2_copy_3 : cX2_copy.data.toList.drop 70 = dktX2_copy_3 := dk_seg dksX2_copy_2 24 rfl rfl
theorem dksX2_copy_4 : cX2_copy.data.toList.drop 94 = dktX2_copy_4 := dk_seg dksX2_copy_3 24 rfl rfl
theorem dX2_copy_0 : decode cX2_copy 0 = .ok (.new 13, 3) := dk_187 0 13 (dk_at dksX2_copy_0 0 rfl rfl)
theorem dX2_copy_3 : decode cX2_copy 3 = .ok (.dup, 1) := dk_89 (dk_at dksX2_copy_0 3 rfl rfl)
theorem dX2_copy_4 : decode cX2_copy 4 = .ok (.invokespecial 42, 3) := dk_183 0 42 (dk_at dksX2_copy_0 4 rfl rfl)
theorem dX2_copy_7 : decode cX2_copy 7 = .ok (.astore_n 1, 1) := dk_76 (dk_at dksX2_copy_0 7 rfl rfl)
theorem dX2_copy_8 : decode cX2_copy 8 = .ok (.aload_n 1, 1) := dk_43 (dk_at dksX2_copy_0 8 rfl rfl)
theorem dX2_copy_9 : decode cX2_copy 9 = .ok (.aload_n 0, 1) := dk_42 (dk_at dksX2_copy_0 9 rfl rfl)
theorem dX2_copy_10 : decode cX2_copy 10 = .ok (.getfield 12, 3) := dk_180 0 12 (dk_at dksX2_copy_0 10 rfl rfl)
theorem dX2_copy_13 : decode cX2_copy 13 = .ok (.invokevirtual 43, 3) := dk_182 0 43 (dk_at dksX2_copy_0 13 rfl rfl)
theorem dX2_copy_16 : decode cX2_copy 16 = .ok (.putfield 12, 3) := dk_181 0 12 (dk_at dksX2_copy_0 16 rfl rfl)
theorem dX2_copy_19 : decode cX2_copy 19 = .ok (.aload_n 0, 1) := dk_42 (dk_at dksX2_copy_0 19 rfl rfl)
theorem dX2_copy_20 : decode cX2_copy 20 = .ok (.getfield 20, 3) := dk_180 0 20 (dk_at dksX2_copy_0 20 rfl rfl)
theorem dX2_copy_23 : decode cX2_copy 23 = .ok (.iconst 0, 1) := dk_3 (dk_at dksX2_copy_0 23 rfl rfl)
theorem dX2_copy_24 : decode cX2_copy 24 = .ok (.aload_n 1, 1) := dk_43 (dk_at dksX2_copy_1 0 rfl rfl)
theorem dX2_copy_25 : decode cX2_copy 25 = .ok (.getfield 20, 3) := dk_180 0 20 (dk_at dksX2_copy_1 1 rfl rfl)
theorem dX2_copy_28 : decode cX2_copy 28 = .ok (.iconst 0, 1) := dk_3 (dk_at dksX2_copy_1 4 rfl rfl)
theorem dX2_copy_29 : decode cX2_copy 29 = .ok (.bipush 6, 2) := dk_16 6 (dk_at dksX2_copy_1 5 rfl rfl)
theorem dX2_copy_31 : decode cX2_copy 31 = .ok (.invokestatic 47, 3) := dk_184 0 47 (dk_at dksX2_copy_1 7 rfl rfl)
theorem dX2_copy_34 : decode cX2_copy 34 = .ok (.aload_n 0, 1) := dk_42 (dk_at dksX2_copy_1 10 rfl rfl)
theorem dX2_copy_35 : decode cX2_copy 35 = .ok (.getfield 24, 3) := dk_180 0 24 (dk_at dksX2_copy_1 11 rfl rfl)
theorem dX2_copy_38 : decode cX2_copy 38 = .ok (.iconst 0, 1) := dk_3 (dk_at dksX2_copy_1 14 rfl rfl)
theorem dX2_copy_39 : decode cX2_copy 39 = .ok (.aload_n 1, 1) := dk_43 (dk_at dksX2_copy_1 15 rfl rfl)
theorem dX2_copy_40 : decode cX2_copy 40 = .ok (.getfield 24, 3) := dk_180 0 24 (dk_at dksX2_copy_1 16 rfl rfl)
theorem dX2_copy_43 : decode cX2_copy 43 = .ok (.iconst 0, 1) := dk_3 (dk_at dksX2_copy_1 19 rfl rfl)
theorem dX2_copy_44 : decode cX2_copy 44 = .ok (.bipush 6, 2) := dk_16 6 (dk_at dksX2_copy_1 20 rfl rfl)
theorem dX2_copy_46 : decode cX2_copy 46 = .ok (.invokestatic 47, 3) := dk_184 0 47 (dk_at dksX2_copy_2 0 rfl rfl)
theorem dX2_copy_49 : decode cX2_copy 49 = .ok (.iconst 0, 1) := dk_3 (dk_at dksX2_copy_2 3 rfl rfl)
theorem dX2_copy_50 : decode cX2_copy 50 = .ok (.istore_n 2, 1) := dk_61 (dk_at dksX2_copy_2 4 rfl rfl)
theorem dX2_copy_51 : decode cX2_copy 51 = .ok (.iload_n 2, 1) := dk_28 (dk_at dksX2_copy_2 5 rfl rfl)
theorem dX2_copy_52 : decode cX2_copy 52 = .ok (.bipush 6, 2) := dk_16 6 (dk_at dksX2_copy_2 6 rfl rfl)
theorem dX2_copy_54 : decode cX2_copy 54 = .ok (.if_icmp .ge 35, 3) := dk_162 0 35 (dk_at dksX2_copy_2 8 rfl rfl)
theorem dX2_copy_57 : decode cX2_copy 57 = .ok (.aload_n 1, 1) := dk_43 (dk_at dksX2_copy_2 11 rfl rfl)
theorem dX2_copy_58 : decode cX2_copy 58 = .ok (.getfield 31, 3) := dk_180 0 31 (dk_at dksX2_copy_2 12 rfl rfl)
theorem dX2_copy_61 : decode cX2_copy 61 = .ok (.iload_n 2, 1) := dk_28 (dk_at dksX2_copy_2 15 rfl rfl)
theorem dX2_copy_62 : decode cX2_copy 62 = .ok (.aload_n 0, 1) := dk_42 (dk_at dksX2_copy_2 16 rfl rfl)
theorem dX2_copy_63 : decode cX2_copy 63 = .ok (.getfield 31, 3) := dk_180 0 31 (dk_at dksX2_copy_2 17 rfl rfl)
theorem dX2_copy_66 : decode cX2_copy 66 = .ok (.iload_n 2, 1) := dk_28 (dk_at dksX2_copy_2 20 rfl rfl)
theorem dX2_copy_67 : decode cX2_copy 67 = .ok (.invokevirtual 53, 3) := dk_182 0 53 (dk_at dksX2_copy_2 21 rfl rfl)
theorem dX2_copy_70 : decode cX2_copy 70 = .ok (.checkcast 57, 3) := dk_192 0 57 (dk_at dksX2_copy_3 0 rfl rfl)
theorem dX2_copy_73 : decode cX2_copy 73 = .ok (.invokevirtual 59, 3) := dk_182 0 59 (dk_at dksX2_copy_3 3 rfl rfl)
theorem dX2_copy_76 : decode cX2_copy 76 = .ok (.checkcast 57, 3) := dk_192 0 57 (dk_at dksX2_copy_3 6 rfl rfl)
theorem dX2_copy_79 : decode cX2_copy 79 = .ok (.invokevirtual 63, 3) := dk_182 0 63 (dk_at dksX2_copy_3 9 rfl rfl)
theorem dX2_copy_82 : decode cX2_copy 82 = .ok (.pop, 1) := dk_87 (dk_at dksX2_copy_3 12 rfl rfl)
theorem dX2_copy_83 : decode cX2_copy 83 = .ok (.iinc 2 1, 3) := dk_132 2 1 (dk_at dksX2_copy_3 13 rfl rfl)
theorem dX2_copy_86 : decode cX2_copy 86 = .ok (.goto (-35), 3) := dk_167 255 221 (dk_at dksX2_copy_3 16 rfl rfl)
theorem dX2_copy_89 : decode cX2_copy 89 = .ok (.aload_n 1, 1) := dk_43 (dk_at dksX2_copy_3 19 rfl rfl)
theorem dX2_copy_90 : decode cX2_copy 90 = .ok (.aload_n 0, 1) := dk_42 (dk_at dksX2_copy_3 20 rfl rfl)
theorem dX2_copy_91 : decode cX2_copy 91 = .ok (.getfield 67, 3) := dk_180 0 67 (dk_at dksX2_copy_3 21 rfl rfl)
theorem dX2_copy_94 : decode cX2_copy 94 = .ok (.putfield 67, 3) := dk_181 0 67 (dk_at dksX2_copy_4 0 rfl rfl)
theorem dX2_copy_97 : decode cX2_copy 97 = .ok (.aload_n 1, 1) := dk_43 (dk_at dksX2_copy_4 3 rfl rfl)
theorem dX2_copy_98 : decode cX2_copy 98 = .ok (.areturn, 1) := dk_176 (dk_at dksX2_copy_4 4 rfl rfl)
abbrev cX2_isFirst : ByteArray := prog_11_method_5_code
def yX2_isFirst : MethodName := ⟨RX2, "isFirst", "(I)Z"⟩
def dkwX2_isFirst_1 : List UInt8 := [3, 172]
abbrev dktX2_isFirst_1 : List UInt8 := dkwX2_isFirst_1 ++ []
def dkwX2_isFirst_0 : List UInt8 := [42, 180, 0, 24, 27, 46, 2, 159, 0, 13, 27, 42, 180, 0, 24, 27, 46, 162, 0, 7, 4, 167, 0, 4]
abbrev dktX2_isFirst_0 : List UInt8 := dkwX2_isFirst_0 ++ dktX2_isFirst_1
theorem dksX2_isFirst_0 : cX2_isFirst.data.toList.drop 0 = dktX2_isFirst_0 := by decide +kernel
theorem dksX2_isFirst_1 : cX2_isFirst.data.toList.drop 24 = dktX2_isFirst_1 := dk_seg dksX2_isFirst_0 24 rfl rfl
theorem dX2_isFirst_0 : decode cX2_isFirst 0 = .ok (.aload_n 0, 1) := dk_42 (dk_at dksX2_isFirst_0 0 rfl rfl)
theorem dX2_isFirst_1 : decode cX2_isFirst 1 = .ok (.getfield 24, 3) := dk_180 0 24 (dk_at dksX2_isFirst_0 1 rfl rfl)
theorem dX2_isFirst_4 : decode cX2_isFirst 4 = .ok (.iload_n 1, 1) := dk_27 (dk_at dksX2_isFirst_0 4 rfl rfl)
theorem dX2_isFirst_5 : decode cX2_isFirst 5 = .ok (.iaload, 1) := dk_46 (dk_at dksX2_isFirst_0 5 rfl rfl)
theorem dX2_isFirst_6 : decode cX2_isFirst 6 = .ok (.iconst (-1), 1) := dk_2 (dk_at dksX2_isFirst_0 6 rfl rfl)
theorem dX2_isFirst_7 : decode cX2_isFirst 7 = .ok (.if_icmp .eq 13, 3) := dk_159 0 13 (dk_at dksX2_isFirst_0 7 rfl rfl)
theorem dX2_isFirst_10 : decode cX2_isFirst 10 = .ok (.iload_n 1, 1) := dk_27 (dk_at dksX2_isFirst_0 10 rfl rfl)
theorem dX2_isFirst_11 : decode cX2_isFirst 11 = .ok (.aload_n 0, 1) := dk_42 (dk_at dksX2_isFirst_0 11 rfl rfl)
theorem dX2_isFirst_12 : decode cX2_isFirst 12 = .ok (.getfield 24, 3) := dk_180 0 24 (dk_at dksX2_isFirst_0 12 rfl rfl)
theorem dX2_isFirst_15 : decode cX2_isFirst 15 = .ok (.iload_n 1, 1) := dk_27 (dk_at dksX2_isFirst_0 15 rfl rfl)
theorem dX2_isFirst_16 : decode cX2_isFirst 16 = .ok (.iaload, 1) := dk_46 (dk_at dksX2_isFirst_0 16 rfl rfl)
theorem dX2_isFirst_17 : decode cX2_isFirst 17 = .ok (.if_icmp .ge 7, 3) := dk_162 0 7 (dk_at dksX2_isFirst_0 17 rfl rfl)
theorem dX2_isFirst_20 : decode cX2_isFirst 20 = .ok (.iconst 1, 1) := dk_4 (dk_at dksX2_isFirst_0 20 rfl rfl)
theorem dX2_isFirst_21 : decode cX2_isFirst 21 = .ok (.goto 4, 3) := dk_167 0 4 (dk_at dksX2_isFirst_0 21 rfl rfl)
theorem dX2_isFirst_24 : decode cX2_isFirst 24 = .ok (.iconst 0, 1) := dk_3 (dk_at dksX2_isFirst_1 0 rfl rfl)
theorem dX2_isFirst_25 : decode cX2_isFirst 25 = .ok (.ireturn, 1) := dk_172 (dk_at dksX2_isFirst_1 1 rfl rfl)
abbrev cX2_dropCarried : ByteArray := prog_11_method_3_code
def yX2_dropCarried : MethodName := ⟨RX2, "dropCarried", "(I)V"⟩
def dkwX2_dropCarried_1 : List UInt8 := [45, 27, 8, 27, 100, 184, 0, 47, 45, 8, 9, 80, 132, 2, 1, 167, 255, 219, 177]
abbrev dktX2_dropCarried_1 : List UInt8 := dkwX2_dropCarried_1 ++ []
def dkwX2_dropCarried_0 : List UInt8 := [3, 61, 28, 16, 6, 162, 0, 37, 42, 180, 0, 31, 28, 182, 0, 53, 192, 0, 57, 78, 45, 27, 4, 96]
abbrev dktX2_dropCarried_0 : List UInt8 := dkwX2_dropCarried_0 ++ dktX2_dropCarried_1
theorem dksX2_dropCarried_0 : cX2_dropCarried.data.toList.drop 0 = dktX2_dropCarried_0 := by decide +kernel
theorem dksX2_dropCarried_1 : cX2_dropCarried.data.toList.drop 24 = dktX2_dropCarried_1 := dk_seg dksX2_dropCarried_0 24 rfl rfl
theorem dX2_dropCarried_0 : decode cX2_dropCarried 0 = .ok (.iconst 0, 1) := dk_3 (dk_at dksX2_dropCarried_0 0 rfl rfl)
theorem dX2_dropCarried_1 : decode cX2_dropCarried 1 = .ok (.istore_n 2, 1) := dk_61 (dk_at dksX2_dropCarried_0 1 rfl rfl)
theorem dX2_dropCarried_2 : decode cX2_dropCarried 2 = .ok (.iload_n 2, 1) := dk_28 (dk_at dksX2_dropCarried_0 2 rfl rfl)
theorem dX2_dropCarried_3 : decode cX2_dropCarried 3 = .ok (.bipush 6, 2) := dk_16 6 (dk_at dksX2_dropCarried_0 3 rfl rfl)
theorem dX2_dropCarried_5 : decode cX2_dropCarried 5 = .ok (.if_icmp .ge 37, 3) := dk_162 0 37 (dk_at dksX2_dropCarried_0 5 rfl rfl)
theorem dX2_dropCarried_8 : decode cX2_dropCarried 8 = .ok (.aload_n 0, 1) := dk_42 (dk_at dksX2_dropCarried_0 8 rfl rfl)
theorem dX2_dropCarried_9 : decode cX2_dropCarried 9 = .ok (.getfield 31, 3) := dk_180 0 31 (dk_at dksX2_dropCarried_0 9 rfl rfl)
theorem dX2_dropCarried_12 : decode cX2_dropCarried 12 = .ok (.iload_n 2, 1) := dk_28 (dk_at dksX2_dropCarried_0 12 rfl rfl)
theorem dX2_dropCarried_13 : decode cX2_dropCarried 13 = .ok (.invokevirtual 53, 3) := dk_182 0 53 (dk_at dksX2_dropCarried_0 13 rfl rfl)
theorem dX2_dropCarried_16 : decode cX2_dropCarried 16 = .ok (.checkcast 57, 3) := dk_192 0 57 (dk_at dksX2_dropCarried_0 16 rfl rfl)
theorem dX2_dropCarried_19 : decode cX2_dropCarried 19 = .ok (.astore_n 3, 1) := dk_78 (dk_at dksX2_dropCarried_0 19 rfl rfl)
theorem dX2_dropCarried_20 : decode cX2_dropCarried 20 = .ok (.aload_n 3, 1) := dk_45 (dk_at dksX2_dropCarried_0 20 rfl rfl)
theorem dX2_dropCarried_21 : decode cX2_dropCarried 21 = .ok (.iload_n 1, 1) := dk_27 (dk_at dksX2_dropCarried_0 21 rfl rfl)
theorem dX2_dropCarried_22 : decode cX2_dropCarried 22 = .ok (.iconst 1, 1) := dk_4 (dk_at dksX2_dropCarried_0 22 rfl rfl)
theorem dX2_dropCarried_23 : decode cX2_dropCarried 23 = .ok (.iadd, 1) := dk_96 (dk_at dksX2_dropCarried_0 23 rfl rfl)
theorem dX2_dropCarried_24 : decode cX2_dropCarried 24 = .ok (.aload_n 3, 1) := dk_45 (dk_at dksX2_dropCarried_1 0 rfl rfl)
theorem dX2_dropCarried_25 : decode cX2_dropCarried 25 = .ok (.iload_n 1, 1) := dk_27 (dk_at dksX2_dropCarried_1 1 rfl rfl)
theorem dX2_dropCarried_26 : decode cX2_dropCarried 26 = .ok (.iconst 5, 1) := dk_8 (dk_at dksX2_dropCarried_1 2 rfl rfl)
theorem dX2_dropCarried_27 : decode cX2_dropCarried 27 = .ok (.iload_n 1, 1) := dk_27 (dk_at dksX2_dropCarried_1 3 rfl rfl)
theorem dX2_dropCarried_28 : decode cX2_dropCarried 28 = .ok (.isub, 1) := dk_100 (dk_at dksX2_dropCarried_1 4 rfl rfl)
theorem dX2_dropCarried_29 : decode cX2_dropCarried 29 = .ok (.invokestatic 47, 3) := dk_184 0 47 (dk_at dksX2_dropCarried_1 5 rfl rfl)
theorem dX2_dropCarried_32 : decode cX2_dropCarried 32 = .ok (.aload_n 3, 1) := dk_45 (dk_at dksX2_dropCarried_1 8 rfl rfl)
theorem dX2_dropCarried_33 : decode cX2_dropCarried 33 = .ok (.iconst 5, 1) := dk_8 (dk_at dksX2_dropCarried_1 9 rfl rfl)
theorem dX2_dropCarried_34 : decode cX2_dropCarried 34 = .ok (.lconst 0, 1) := dk_9 (dk_at dksX2_dropCarried_1 10 rfl rfl)
theorem dX2_dropCarried_35 : decode cX2_dropCarried 35 = .ok (.lastore, 1) := dk_80 (dk_at dksX2_dropCarried_1 11 rfl rfl)
theorem dX2_dropCarried_36 : decode cX2_dropCarried 36 = .ok (.iinc 2 1, 3) := dk_132 2 1 (dk_at dksX2_dropCarried_1 12 rfl rfl)
theorem dX2_dropCarried_39 : decode cX2_dropCarried 39 = .ok (.goto (-37), 3) := dk_167 255 219 (dk_at dksX2_dropCarried_1 15 rfl rfl)
theorem dX2_dropCarried_42 : decode cX2_dropCarried 42 = .ok (.return_, 1) := dk_177 (dk_at dksX2_dropCarried_1 18 rfl rfl)
abbrev cX2_moveCarried : ByteArray := prog_11_method_4_code
def yX2_moveCarried : MethodName := ⟨RX2, "moveCarried", "(II)V"⟩
def dkwX2_moveCarried_5 : List UInt8 := [192, 0, 72, 182, 0, 96, 80, 132, 5, 1, 167, 255, 219, 132, 3, 1, 167, 255, 126, 177]
abbrev dktX2_moveCarried_5 : List UInt8 := dkwX2_moveCarried_5 ++ []
def dkwX2_moveCarried_4 : List UInt8 := [162, 0, 36, 42, 180, 0, 31, 29, 182, 0, 53, 192, 0, 57, 21, 5, 25, 4, 21, 5, 182, 0, 53]
abbrev dktX2_moveCarried_4 : List UInt8 := dkwX2_moveCarried_4 ++ dktX2_moveCarried_5
def dkwX2_moveCarried_3 : List UInt8 := [182, 0, 86, 27, 28, 162, 0, 7, 2, 167, 0, 4, 4, 184, 0, 90, 3, 54, 5, 21, 5, 16, 6]
abbrev dktX2_moveCarried_3 : List UInt8 := dkwX2_moveCarried_3 ++ dktX2_moveCarried_4
def dkwX2_moveCarried_2 : List UInt8 := [182, 0, 38, 87, 132, 5, 1, 167, 255, 223, 25, 4, 27, 28, 184, 0, 77, 27, 28, 184, 0, 83, 4, 96]
abbrev dktX2_moveCarried_2 : List UInt8 := dkwX2_moveCarried_2 ++ dktX2_moveCarried_3
def dkwX2_moveCarried_1 : List UInt8 := [162, 0, 32, 25, 4, 42, 180, 0, 31, 29, 182, 0, 53, 192, 0, 57, 21, 5, 47, 184, 0, 71]
abbrev dktX2_moveCarried_1 : List UInt8 := dkwX2_moveCarried_1 ++ dktX2_moveCarried_2
def dkwX2_moveCarried_0 : List UInt8 := [3, 62, 29, 16, 6, 162, 0, 130, 187, 0, 28, 89, 183, 0, 30, 58, 4, 3, 54, 5, 21, 5, 16, 6]
abbrev dktX2_moveCarried_0 : List UInt8 := dkwX2_moveCarried_0 ++ dktX2_moveCarried_1
theorem dksX2_moveCarried_0 : cX2_moveCarried.data.toList.drop 0 = dktX2_moveCarried_0 := by decide +kernel
theorem dksX2_moveCarried_1 : cX2_moveCarried.data.toList.drop 24 = dktX2_moveCarried_1 := dk_seg dksX2_moveCarried_0 24 rfl rfl
theorem dksX2_moveCarried_2 : cX2_moveCarried.data.toList.drop 46 = dktX2_moveCarried_2 := dk_seg dksX2_moveCarried_1 22 rfl rfl
theorem dksX2_moveCarried_3 : cX2_moveCarried.data.toList.drop 70 = dktX2_moveCarried_3 := dk_seg dksX2_moveCarried_2 24 rfl rfl
theorem dksX2_moveCarried_4 : cX2_moveCarried.data.toList.drop 93 = dktX2_moveCarried_4 := dk_seg dksX2_moveCarried_3 23 rfl rfl
theorem dksX2_moveCarried_5 : cX2_moveCarried.data.toList.drop 116 = dktX2_moveCarried_5 := dk_seg dksX2_moveCarried_4 23 rfl rfl
theorem dX2_moveCarried_0 : decode cX2_moveCarried 0 = .ok (.iconst 0, 1) := dk_3 (dk_at dksX2_moveCarried_0 0 rfl rfl)
theorem dX2_moveCarried_1 : decode cX2_moveCarried 1 = .ok (.istore_n 3, 1) := dk_62 (dk_at dksX2_moveCarried_0 1 rfl rfl)
theorem dX2_moveCarried_2 : decode cX2_moveCarried 2 = .ok (.iload_n 3, 1) := dk_29 (dk_at dksX2_moveCarried_0 2 rfl rfl)
theorem dX2_moveCarried_3 : decode cX2_moveCarried 3 = .ok (.bipush 6, 2) := dk_16 6 (dk_at dksX2_moveCarried_0 3 rfl rfl)
theorem dX2_moveCarried_5 : decode cX2_moveCarried 5 = .ok (.if_icmp .ge 130, 3) := dk_162 0 130 (dk_at dksX2_moveCarried_0 5 rfl rfl)
theorem dX2_moveCarried_8 : decode cX2_moveCarried 8 = .ok (.new 28, 3) := dk_187 0 28 (dk_at dksX2_moveCarried_0 8 rfl rfl)
theorem dX2_moveCarried_11 : decode cX2_moveCarried 11 = .ok (.dup, 1) := dk_89 (dk_at dksX2_moveCarried_0 11 rfl rfl)
theorem dX2_moveCarried_12 : decode cX2_moveCarried 12 = .ok (.invokespecial 30, 3) := dk_183 0 30 (dk_at dksX2_moveCarried_0 12 rfl rfl)
theorem dX2_moveCarried_15 : decode cX2_moveCarried 15 = .ok (.astore 4, 2) := dk_58 4 (dk_at dksX2_moveCarried_0 15 rfl rfl)
theorem dX2_moveCarried_17 : decode cX2_moveCarried 17 = .ok (.iconst 0, 1) := dk_3 (dk_at dksX2_moveCarried_0 17 rfl rfl)
theorem dX2_moveCarried_18 : decode cX2_moveCarried 18 = .ok (.istore 5, 2) := dk_54 5 (dk_at dksX2_moveCarried_0 18 rfl rfl)
theorem dX2_moveCarried_20 : decode cX2_moveCarried 20 = .ok (.iload 5, 2) := dk_21 5 (dk_at dksX2_moveCarried_0 20 rfl rfl)
theorem dX2_moveCarried_22 : decode cX2_moveCarried 22 = .ok (.bipush 6, 2) := dk_16 6 (dk_at dksX2_moveCarried_0 22 rfl rfl)
theorem dX2_moveCarried_24 : decode cX2_moveCarried 24 = .ok (.if_icmp .ge 32, 3) := dk_162 0 32 (dk_at dksX2_moveCarried_1 0 rfl rfl)
theorem dX2_moveCarried_27 : decode cX2_moveCarried 27 = .ok (.aload 4, 2) := dk_25 4 (dk_at dksX2_moveCarried_1 3 rfl rfl)
theorem dX2_moveCarried_29 : decode cX2_moveCarried 29 = .ok (.aload_n 0, 1) := dk_42 (dk_at dksX2_moveCarried_1 5 rfl rfl)
theorem dX2_moveCarried_30 : decode cX2_moveCarried 30 = .ok (.getfield 31, 3) := dk_180 0 31 (dk_at dksX2_moveCarried_1 6 rfl rfl)
theorem dX2_moveCarried_33 : decode cX2_moveCarried 33 = .ok (.iload_n 3, 1) := dk_29 (dk_at dksX2_moveCarried_1 9 rfl rfl)
theorem dX2_moveCarried_34 : decode cX2_moveCarried 34 = .ok (.invokevirtual 53, 3) := dk_182 0 53 (dk_at dksX2_moveCarried_1 10 rfl rfl)
theorem dX2_moveCarried_37 : decode cX2_moveCarried 37 = .ok (.checkcast 57, 3) := dk_192 0 57 (dk_at dksX2_moveCarried_1 13 rfl rfl)
theorem dX2_moveCarried_40 : decode cX2_moveCarried 40 = .ok (.iload 5, 2) := dk_21 5 (dk_at dksX2_moveCarried_1 16 rfl rfl)
theorem dX2_moveCarried_42 : decode cX2_moveCarried 42 = .ok (.laload, 1) := dk_47 (dk_at dksX2_moveCarried_1 18 rfl rfl)
theorem dX2_moveCarried_43 : decode cX2_moveCarried 43 = .ok (.invokestatic 71, 3) := dk_184 0 71 (dk_at dksX2_moveCarried_1 19 rfl rfl)
theorem dX2_moveCarried_46 : decode cX2_moveCarried 46 = .ok (.invokevirtual 38, 3) := dk_182 0 38 (dk_at dksX2_moveCarried_2 0 rfl rfl)
theorem dX2_moveCarried_49 : decode cX2_moveCarried 49 = .ok (.pop, 1) := dk_87 (dk_at dksX2_moveCarried_2 3 rfl rfl)
theorem dX2_moveCarried_50 : decode cX2_moveCarried 50 = .ok (.iinc 5 1, 3) := dk_132 5 1 (dk_at dksX2_moveCarried_2 4 rfl rfl)
theorem dX2_moveCarried_53 : decode cX2_moveCarried 53 = .ok (.goto (-33), 3) := dk_167 255 223 (dk_at dksX2_moveCarried_2 7 rfl rfl)
theorem dX2_moveCarried_56 : decode cX2_moveCarried 56 = .ok (.aload 4, 2) := dk_25 4 (dk_at dksX2_moveCarried_2 10 rfl rfl)
theorem dX2_moveCarried_58 : decode cX2_moveCarried 58 = .ok (.iload_n 1, 1) := dk_27 (dk_at dksX2_moveCarried_2 12 rfl rfl)
theorem dX2_moveCarried_59 : decode cX2_moveCarried 59 = .ok (.iload_n 2, 1) := dk_28 (dk_at dksX2_moveCarried_2 13 rfl rfl)
theorem dX2_moveCarried_60 : decode cX2_moveCarried 60 = .ok (.invokestatic 77, 3) := dk_184 0 77 (dk_at dksX2_moveCarried_2 14 rfl rfl)
theorem dX2_moveCarried_63 : decode cX2_moveCarried 63 = .ok (.iload_n 1, 1) := dk_27 (dk_at dksX2_moveCarried_2 17 rfl rfl)
theorem dX2_moveCarried_64 : decode cX2_moveCarried 64 = .ok (.iload_n 2, 1) := dk_28 (dk_at dksX2_moveCarried_2 18 rfl rfl)
theorem dX2_moveCarried_65 : decode cX2_moveCarried 65 = .ok (.invokestatic 83, 3) := dk_184 0 83 (dk_at dksX2_moveCarried_2 19 rfl rfl)
theorem dX2_moveCarried_68 : decode cX2_moveCarried 68 = .ok (.iconst 1, 1) := dk_4 (dk_at dksX2_moveCarried_2 22 rfl rfl)
theorem dX2_moveCarried_69 : decode cX2_moveCarried 69 = .ok (.iadd, 1) := dk_96 (dk_at dksX2_moveCarried_2 23 rfl rfl)
theorem dX2_moveCarried_70 : decode cX2_moveCarried 70 = .ok (.invokevirtual 86, 3) := dk_182 0 86 (dk_at dksX2_moveCarried_3 0 rfl rfl)
theorem dX2_moveCarried_73 : decode cX2_moveCarried 73 = .ok (.iload_n 1, 1) := dk_27 (dk_at dksX2_moveCarried_3 3 rfl rfl)
theorem dX2_moveCarried_74 : decode cX2_moveCarried 74 = .ok (.iload_n 2, 1) := dk_28 (dk_at dksX2_moveCarried_3 4 rfl rfl)
theorem dX2_moveCarried_75 : decode cX2_moveCarried 75 = .ok (.if_icmp .ge 7, 3) := dk_162 0 7 (dk_at dksX2_moveCarried_3 5 rfl rfl)
theorem dX2_moveCarried_78 : decode cX2_moveCarried 78 = .ok (.iconst (-1), 1) := dk_2 (dk_at dksX2_moveCarried_3 8 rfl rfl)
theorem dX2_moveCarried_79 : decode cX2_moveCarried 79 = .ok (.goto 4, 3) := dk_167 0 4 (dk_at dksX2_moveCarried_3 9 rfl rfl)
theorem dX2_moveCarried_82 : decode cX2_moveCarried 82 = .ok (.iconst 1, 1) := dk_4 (dk_at dksX2_moveCarried_3 12 rfl rfl)
theorem dX2_moveCarried_83 : decode cX2_moveCarried 83 = .ok (.invokestatic 90, 3) := dk_184 0 90 (dk_at dksX2_moveCarried_3 13 rfl rfl)
theorem dX2_moveCarried_86 : decode cX2_moveCarried 86 = .ok (.iconst 0, 1) := dk_3 (dk_at dksX2_moveCarried_3 16 rfl rfl)
theorem dX2_moveCarried_87 : decode cX2_moveCarried 87 = .ok (.istore 5, 2) := dk_54 5 (dk_at dksX2_moveCarried_3 17 rfl rfl)
theorem dX2_moveCarried_89 : decode cX2_moveCarried 89 = .ok (.iload 5, 2) := dk_21 5 (dk_at dksX2_moveCarried_3 19 rfl rfl)
theorem dX2_moveCarried_91 : decode cX2_moveCarried 91 = .ok (.bipush 6, 2) := dk_16 6 (dk_at dksX2_moveCarried_3 21 rfl rfl)
theorem dX2_moveCarried_93 : decode cX2_moveCarried 93 = .ok (.if_icmp .ge 36, 3) := dk_162 0 36 (dk_at dksX2_moveCarried_4 0 rfl rfl)
theorem dX2_moveCarried_96 : decode cX2_moveCarried 96 = .ok (.aload_n 0, 1) := dk_42 (dk_at dksX2_moveCarried_4 3 rfl rfl)
theorem dX2_moveCarried_97 : decode cX2_moveCarried 97 = .ok (.getfield 31, 3) := dk_180 0 31 (dk_at dksX2_moveCarried_4 4 rfl rfl)
theorem dX2_moveCarried_100 : decode cX2_moveCarried 100 = .ok (.iload_n 3, 1) := dk_29 (dk_at dksX2_moveCarried_4 7 rfl rfl)
theorem dX2_moveCarried_101 : decode cX2_moveCarried 101 = .ok (.invokevirtual 53, 3) := dk_182 0 53 (dk_at dksX2_moveCarried_4 8 rfl rfl)
theorem dX2_moveCarried_104 : decode cX2_moveCarried 104 = .ok (.checkcast 57, 3) := dk_192 0 57 (dk_at dksX2_moveCarried_4 11 rfl rfl)
theorem dX2_moveCarried_107 : decode cX2_moveCarried 107 = .ok (.iload 5, 2) := dk_21 5 (dk_at dksX2_moveCarried_4 14 rfl rfl)
theorem dX2_moveCarried_109 : decode cX2_moveCarried 109 = .ok (.aload 4, 2) := dk_25 4 (dk_at dksX2_moveCarried_4 16 rfl rfl)
theorem dX2_moveCarried_111 : decode cX2_moveCarried 111 = .ok (.iload 5, 2) := dk_21 5 (dk_at dksX2_moveCarried_4 18 rfl rfl)
theorem dX2_moveCarried_113 : decode cX2_moveCarried 113 = .ok (.invokevirtual 53, 3) := dk_182 0 53 (dk_at dksX2_moveCarried_4 20 rfl rfl)
theorem dX2_moveCarried_116 : decode cX2_moveCarried 116 = .ok (.checkcast 72, 3) := dk_192 0 72 (dk_at dksX2_moveCarried_5 0 rfl rfl)
theorem dX2_moveCarried_119 : decode cX2_moveCarried 119 = .ok (.invokevirtual 96, 3) := dk_182 0 96 (dk_at dksX2_moveCarried_5 3 rfl rfl)
theorem dX2_moveCarried_122 : decode cX2_moveCarried 122 = .ok (.lastore, 1) := dk_80 (dk_at dksX2_moveCarried_5 6 rfl rfl)
theorem dX2_moveCarried_123 : decode cX2_moveCarried 123 = .ok (.iinc 5 1, 3) := dk_132 5 1 (dk_at dksX2_moveCarried_5 7 rfl rfl)
theorem dX2_moveCarried_126 : decode cX2_moveCarried 126 = .ok (.goto (-37), 3) := dk_167 255 219 (dk_at dksX2_moveCarried_5 10 rfl rfl)
theorem dX2_moveCarried_129 : decode cX2_moveCarried 129 = .ok (.iinc 3 1, 3) := dk_132 3 1 (dk_at dksX2_moveCarried_5 13 rfl rfl)
theorem dX2_moveCarried_132 : decode cX2_moveCarried 132 = .ok (.goto (-130), 3) := dk_167 255 126 (dk_at dksX2_moveCarried_5 16 rfl rfl)
theorem dX2_moveCarried_135 : decode cX2_moveCarried 135 = .ok (.return_, 1) := dk_177 (dk_at dksX2_moveCarried_5 19 rfl rfl)
theorem q103 : (Jvm.Cond.initialized "TaxWorkbench$World") ∈ lw_all := lw_g (lw_at lw_m1 2 rfl) rfl
theorem q182 : (Jvm.Cond.instantiable "TaxWorkbench$World" (5 : Nat)) ∈ lw_all := lw_g (lw_at lw_m1 81 rfl) rfl
theorem q184 : (Jvm.Cond.instanceMethod ({ cls := "TaxWorkbench$World", name := "<init>", desc := "()V" } : Jvm.MethodName)) ∈ lw_all := lw_g (lw_at lw_m1 83 rfl) rfl
theorem q185 : (Jvm.Cond.code ({ cls := "TaxWorkbench$World", name := "<init>", desc := "()V" } : Jvm.MethodName) prog_11_method_1_code (2 : Nat) (Option.none : Option Jvm.ClassFile.FieldType)) ∈ lw_all := lw_g (lw_at lw_m1 84 rfl) rfl
theorem q186 : (Jvm.Cond.methodLink "TaxWorkbench$World" (3 : Nat) ({ cls := "java/lang/Object", name := "<init>", desc := "()V" } : Jvm.MethodName)) ∈ lw_all := lw_g (lw_at lw_m1 85 rfl) rfl
theorem q187 : (Jvm.Cond.classLink "TaxWorkbench$World" (9 : Nat) "TaxWorkbench$Rules") ∈ lw_all := lw_g (lw_at lw_m1 86 rfl) rfl
theorem q189 : (Jvm.Cond.methodLinkNest "TaxWorkbench$World" (11 : Nat) ({ cls := "TaxWorkbench$Rules", name := "<init>", desc := "()V" } : Jvm.MethodName) "TaxWorkbench") ∈ lw_tbl := lw_at lw_m1 88 rfl
theorem q332 : (Jvm.Cond.classLink "TaxWorkbench$World" (18 : Nat) "TaxWorkbench$Person") ∈ lw_all := lw_g (lw_at lw_m1 231 rfl) rfl
theorem q334 : (Jvm.Cond.classLink "TaxWorkbench$World" (28 : Nat) "java/util/ArrayList") ∈ lw_all := lw_g (lw_at lw_m1 233 rfl) rfl
theorem q335 : (Jvm.Cond.methodLink "TaxWorkbench$World" (30 : Nat) ({ cls := "java/util/ArrayList", name := "<init>", desc := "()V" } : Jvm.MethodName)) ∈ lw_all := lw_g (lw_at lw_m1 234 rfl) rfl
theorem q337 : (Jvm.Cond.methodLink "TaxWorkbench$World" (35 : Nat) ({ cls := "TaxWorkbench$Person", name := "<init>", desc := "(III)V" } : Jvm.MethodName)) ∈ lw_all := lw_g (lw_at lw_m1 236 rfl) rfl
theorem q354 : (Jvm.Cond.methodLink "TaxWorkbench$World" (38 : Nat) ({ cls := "java/util/ArrayList", name := "add", desc := "(Ljava/lang/Object;)Z" } : Jvm.MethodName)) ∈ lw_all := lw_g (lw_at lw_m2 13 rfl) rfl
theorem q396 : (Jvm.Cond.selects "TaxWorkbench$World" ({ cls := "java/lang/Object", name := "getClass", desc := "()Ljava/lang/Class;" } : Jvm.MethodName) ({ cls := "java/lang/Object", name := "getClass", desc := "()Ljava/lang/Class;" } : Jvm.MethodName)) ∈ lw_all := lw_g (lw_at lw_m2 55 rfl) rfl
theorem q446 : (Jvm.Cond.fieldLink "TaxWorkbench$World" (12 : Nat) "TaxWorkbench$World" "rules" "LTaxWorkbench$Rules;") ∈ lw_all := lw_g (lw_at lw_m2 105 rfl) rfl
theorem q449 : (Jvm.Cond.fieldLink "TaxWorkbench$World" (20 : Nat) "TaxWorkbench$World" "people" "[LTaxWorkbench$Person;") ∈ lw_all := lw_g (lw_at lw_m2 108 rfl) rfl
theorem q451 : (Jvm.Cond.fieldLink "TaxWorkbench$World" (24 : Nat) "TaxWorkbench$World" "partners" "[I") ∈ lw_all := lw_g (lw_at lw_m2 110 rfl) rfl
theorem q453 : (Jvm.Cond.fieldLink "TaxWorkbench$World" (31 : Nat) "TaxWorkbench$World" "carried" "Ljava/util/ArrayList;") ∈ lw_all := lw_g (lw_at lw_m2 112 rfl) rfl
theorem q455 : (Jvm.Cond.fieldLink "TaxWorkbench$World" (67 : Nat) "TaxWorkbench$World" "years" "I") ∈ lw_all := lw_g (lw_at lw_m2 114 rfl) rfl
theorem q457 : (Jvm.Cond.lays "TaxWorkbench$World" "TaxWorkbench$World" "rules" "LTaxWorkbench$Rules;") ∈ lw_all := lw_g (lw_at lw_m2 116 rfl) rfl
theorem q458 : (Jvm.Cond.soleField "TaxWorkbench$World" "rules") ∈ lw_all := lw_g (lw_at lw_m2 117 rfl) rfl
theorem q459 : (Jvm.Cond.laysFinal "TaxWorkbench$World" "TaxWorkbench$World" "people" "[LTaxWorkbench$Person;") ∈ lw_all := lw_g (lw_at lw_m2 118 rfl) rfl
theorem q460 : (Jvm.Cond.soleField "TaxWorkbench$World" "people") ∈ lw_all := lw_g (lw_at lw_m2 119 rfl) rfl
theorem q461 : (Jvm.Cond.laysFinal "TaxWorkbench$World" "TaxWorkbench$World" "partners" "[I") ∈ lw_all := lw_g (lw_at lw_m2 120 rfl) rfl
theorem q462 : (Jvm.Cond.soleField "TaxWorkbench$World" "partners") ∈ lw_all := lw_g (lw_at lw_m2 121 rfl) rfl
theorem q463 : (Jvm.Cond.laysFinal "TaxWorkbench$World" "TaxWorkbench$World" "carried" "Ljava/util/ArrayList;") ∈ lw_all := lw_g (lw_at lw_m2 122 rfl) rfl
theorem q464 : (Jvm.Cond.soleField "TaxWorkbench$World" "carried") ∈ lw_all := lw_g (lw_at lw_m2 123 rfl) rfl
theorem q465 : (Jvm.Cond.lays "TaxWorkbench$World" "TaxWorkbench$World" "years" "I") ∈ lw_all := lw_g (lw_at lw_m2 124 rfl) rfl
theorem q466 : (Jvm.Cond.soleField "TaxWorkbench$World" "years") ∈ lw_all := lw_g (lw_at lw_m2 125 rfl) rfl
theorem q467 : (Jvm.Cond.superclass "TaxWorkbench$World" "java/lang/Object") ∈ lw_all := lw_g (lw_at lw_m2 126 rfl) rfl
theorem q596 : (Jvm.Cond.instanceMethod ({ cls := "TaxWorkbench$World", name := "copy", desc := "()LTaxWorkbench$World;" } : Jvm.MethodName)) ∈ lw_all := lw_g (lw_at lw_m3 15 rfl) rfl
theorem q597 : (Jvm.Cond.selects "TaxWorkbench$World" ({ cls := "TaxWorkbench$World", name := "copy", desc := "()LTaxWorkbench$World;" } : Jvm.MethodName) ({ cls := "TaxWorkbench$World", name := "copy", desc := "()LTaxWorkbench$World;" } : Jvm.MethodName)) ∈ lw_all := lw_g (lw_at lw_m3 16 rfl) rfl
theorem q598 : (Jvm.Cond.code ({ cls := "TaxWorkbench$World", name := "copy", desc := "()LTaxWorkbench$World;" } : Jvm.MethodName) prog_11_method_2_code (3 : Nat) (Option.some (Jvm.ClassFile.FieldType.object "TaxWorkbench$World"))) ∈ lw_all := lw_g (lw_at lw_m3 17 rfl) rfl
theorem q599 : (Jvm.Cond.classLink "TaxWorkbench$World" (13 : Nat) "TaxWorkbench$World") ∈ lw_all := lw_g (lw_at lw_m3 18 rfl) rfl
theorem q600 : (Jvm.Cond.methodLink "TaxWorkbench$World" (42 : Nat) ({ cls := "TaxWorkbench$World", name := "<init>", desc := "()V" } : Jvm.MethodName)) ∈ lw_all := lw_g (lw_at lw_m3 19 rfl) rfl
theorem q601 : (Jvm.Cond.methodLink "TaxWorkbench$World" (43 : Nat) ({ cls := "TaxWorkbench$Rules", name := "copy", desc := "()LTaxWorkbench$Rules;" } : Jvm.MethodName)) ∈ lw_all := lw_g (lw_at lw_m3 20 rfl) rfl
theorem q1745 : (Jvm.Cond.methodLink "TaxWorkbench$World" (47 : Nat) ({ cls := "java/lang/System", name := "arraycopy", desc := "(Ljava/lang/Object;ILjava/lang/Object;II)V" } : Jvm.MethodName)) ∈ lw_all := lw_g (lw_at lw_m7 204 rfl) rfl
theorem q1746 : (Jvm.Cond.methodLink "TaxWorkbench$World" (53 : Nat) ({ cls := "java/util/ArrayList", name := "get", desc := "(I)Ljava/lang/Object;" } : Jvm.MethodName)) ∈ lw_all := lw_g (lw_at lw_m7 205 rfl) rfl
theorem q1747 : (Jvm.Cond.classLink "TaxWorkbench$World" (57 : Nat) "[J") ∈ lw_all := lw_g (lw_at lw_m7 206 rfl) rfl
theorem q1748 : (Jvm.Cond.methodLink "TaxWorkbench$World" (59 : Nat) ({ cls := "[J", name := "clone", desc := "()Ljava/lang/Object;" } : Jvm.MethodName)) ∈ lw_all := lw_g (lw_at lw_m7 207 rfl) rfl
theorem q1752 : (Jvm.Cond.methodLink "TaxWorkbench$World" (63 : Nat) ({ cls := "java/util/ArrayList", name := "set", desc := "(ILjava/lang/Object;)Ljava/lang/Object;" } : Jvm.MethodName)) ∈ lw_all := lw_g (lw_at lw_m7 211 rfl) rfl
theorem q1873 : (Jvm.Cond.instanceMethod ({ cls := "TaxWorkbench$World", name := "isFirst", desc := "(I)Z" } : Jvm.MethodName)) ∈ lw_all := lw_g (lw_at lw_m8 92 rfl) rfl
theorem q1874 : (Jvm.Cond.selects "TaxWorkbench$World" ({ cls := "TaxWorkbench$World", name := "isFirst", desc := "(I)Z" } : Jvm.MethodName) ({ cls := "TaxWorkbench$World", name := "isFirst", desc := "(I)Z" } : Jvm.MethodName)) ∈ lw_all := lw_g (lw_at lw_m8 93 rfl) rfl
theorem q1875 : (Jvm.Cond.code ({ cls := "TaxWorkbench$World", name := "isFirst", desc := "(I)Z" } : Jvm.MethodName) prog_11_method_5_code (2 : Nat) (Option.some Jvm.ClassFile.FieldType.boolean)) ∈ lw_all := lw_g (lw_at lw_m8 94 rfl) rfl
theorem q2577 : (Jvm.Cond.instanceMethod ({ cls := "TaxWorkbench$World", name := "dropCarried", desc := "(I)V" } : Jvm.MethodName)) ∈ lw_all := lw_g (lw_at lw_m11 76 rfl) rfl
theorem q2578 : (Jvm.Cond.selects "TaxWorkbench$World" ({ cls := "TaxWorkbench$World", name := "dropCarried", desc := "(I)V" } : Jvm.MethodName) ({ cls := "TaxWorkbench$World", name := "dropCarried", desc := "(I)V" } : Jvm.MethodName)) ∈ lw_all := lw_g (lw_at lw_m11 77 rfl) rfl
theorem q2579 : (Jvm.Cond.code ({ cls := "TaxWorkbench$World", name := "dropCarried", desc := "(I)V" } : Jvm.MethodName) prog_11_method_3_code (4 : Nat) (Option.none : Option Jvm.ClassFile.FieldType)) ∈ lw_all := lw_g (lw_at lw_m11 78 rfl) rfl
theorem q2597 : (Jvm.Cond.instanceMethod ({ cls := "TaxWorkbench$World", name := "moveCarried", desc := "(II)V" } : Jvm.MethodName)) ∈ lw_all := lw_g (lw_at lw_m11 96 rfl) rfl
theorem q2598 : (Jvm.Cond.selects "TaxWorkbench$World" ({ cls := "TaxWorkbench$World", name := "moveCarried", desc := "(II)V" } : Jvm.MethodName) ({ cls := "TaxWorkbench$World", name := "moveCarried", desc := "(II)V" } : Jvm.MethodName)) ∈ lw_all := lw_g (lw_at lw_m11 97 rfl) rfl
theorem q2599 : (Jvm.Cond.code ({ cls := "TaxWorkbench$World", name := "moveCarried", desc := "(II)V" } : Jvm.MethodName) prog_11_method_4_code (6 : Nat) (Option.none : Option Jvm.ClassFile.FieldType)) ∈ lw_all := lw_g (lw_at lw_m11 98 rfl) rfl
theorem q2600 : (Jvm.Cond.methodLink "TaxWorkbench$World" (71 : Nat) ({ cls := "java/lang/Long", name := "valueOf", desc := "(J)Ljava/lang/Long;" } : Jvm.MethodName)) ∈ lw_all := lw_g (lw_at lw_m11 99 rfl) rfl
theorem q2617 : (Jvm.Cond.methodLink "TaxWorkbench$World" (77 : Nat) ({ cls := "java/lang/Math", name := "min", desc := "(II)I" } : Jvm.MethodName)) ∈ lw_all := lw_g (lw_at lw_m11 116 rfl) rfl
theorem q2618 : (Jvm.Cond.methodLink "TaxWorkbench$World" (83 : Nat) ({ cls := "java/lang/Math", name := "max", desc := "(II)I" } : Jvm.MethodName)) ∈ lw_all := lw_g (lw_at lw_m11 117 rfl) rfl
theorem q2619 : (Jvm.Cond.methodLink "TaxWorkbench$World" (86 : Nat) ({ cls := "java/util/ArrayList", name := "subList", desc := "(II)Ljava/util/List;" } : Jvm.MethodName)) ∈ lw_all := lw_g (lw_at lw_m11 118 rfl) rfl
theorem q2663 : (Jvm.Cond.methodLink "TaxWorkbench$World" (90 : Nat) ({ cls := "java/util/Collections", name := "rotate", desc := "(Ljava/util/List;I)V" } : Jvm.MethodName)) ∈ lw_all := lw_g (lw_at lw_m11 162 rfl) rfl
theorem q3161 : (Jvm.Cond.classLink "TaxWorkbench$World" (72 : Nat) "java/lang/Long") ∈ lw_all := lw_g (lw_at lw_m13 180 rfl) rfl
theorem q3162 : (Jvm.Cond.methodLink "TaxWorkbench$World" (96 : Nat) ({ cls := "java/lang/Long", name := "longValue", desc := "()J" } : Jvm.MethodName)) ∈ lw_all := lw_g (lw_at lw_m13 181 rfl) rfl
theorem q3950 : (Jvm.Cond.castable "TaxWorkbench$World" "java/lang/Object") ∈ lw_tbl := lw_at lw_m17 9 rfl

theorem q441 : (Jvm.Cond.methodLink "java/util/Arrays" (150 : Nat) ({ cls := "java/lang/System", name := "arraycopy", desc := "(Ljava/lang/Object;ILjava/lang/Object;II)V" } : Jvm.MethodName)) ∈ lw_all := lw_g (lw_at lw_m2 100 rfl) rfl
theorem q121 : (Jvm.Cond.initialized "java/lang/System") ∈ lw_all := lw_g (lw_at lw_m1 20 rfl) rfl
theorem q442 : (Jvm.Cond.static ({ cls := "java/lang/System", name := "arraycopy", desc := "(Ljava/lang/Object;ILjava/lang/Object;II)V" } : Jvm.MethodName)) ∈ lw_all := lw_g (lw_at lw_m2 101 rfl) rfl
theorem q443 : (Jvm.Cond.native ({ cls := "java/lang/System", name := "arraycopy", desc := "(Ljava/lang/Object;ILjava/lang/Object;II)V" } : Jvm.MethodName)) ∈ lw_all := lw_g (lw_at lw_m2 102 rfl) rfl
