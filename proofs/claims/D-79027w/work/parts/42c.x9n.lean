/-! java/lang/String -/
set_option maxRecDepth 100000
abbrev cJ23_length : ByteArray := prog_35_method_54_code
def yJ23_length : MethodName := ⟨RJ23, "length", "()I"⟩
def dkwJ23_length_0 : List UInt8 := [42, 180, 0, 9, 190, 42, 182, 1, 79, 122, 172]
abbrev dktJ23_length_0 : List UInt8 := dkwJ23_length_0 ++ []
theorem dksJ23_length_0 : cJ23_length.data.toList.drop 0 = dktJ23_length_0 := by decide +kernel
theorem dJ23_length_0 : decode cJ23_length 0 = .ok (.aload_n 0, 1) := dk_42 (dk_at dksJ23_length_0 0 rfl rfl)
theorem dJ23_length_1 : decode cJ23_length 1 = .ok (.getfield 9, 3) := dk_180 0 9 (dk_at dksJ23_length_0 1 rfl rfl)
theorem dJ23_length_4 : decode cJ23_length 4 = .ok (.arraylength, 1) := dk_190 (dk_at dksJ23_length_0 4 rfl rfl)
theorem dJ23_length_5 : decode cJ23_length 5 = .ok (.aload_n 0, 1) := dk_42 (dk_at dksJ23_length_0 5 rfl rfl)
theorem dJ23_length_6 : decode cJ23_length 6 = .ok (.invokevirtual 335, 3) := dk_182 1 79 (dk_at dksJ23_length_0 6 rfl rfl)
theorem dJ23_length_9 : decode cJ23_length 9 = .ok (.ishr, 1) := dk_122 (dk_at dksJ23_length_0 9 rfl rfl)
theorem dJ23_length_10 : decode cJ23_length 10 = .ok (.ireturn, 1) := dk_172 (dk_at dksJ23_length_0 10 rfl rfl)
abbrev cJ23_coder : ByteArray := prog_35_method_152_code
def yJ23_coder : MethodName := ⟨RJ23, "coder", "()B"⟩
def dkwJ23_coder_0 : List UInt8 := [178, 0, 38, 153, 0, 10, 42, 180, 0, 15, 167, 0, 4, 4, 172]
abbrev dktJ23_coder_0 : List UInt8 := dkwJ23_coder_0 ++ []
theorem dksJ23_coder_0 : cJ23_coder.data.toList.drop 0 = dktJ23_coder_0 := by decide +kernel
theorem dJ23_coder_0 : decode cJ23_coder 0 = .ok (.getstatic 38, 3) := dk_178 0 38 (dk_at dksJ23_coder_0 0 rfl rfl)
theorem dJ23_coder_3 : decode cJ23_coder 3 = .ok (.ifCond .eq 10, 3) := dk_153 0 10 (dk_at dksJ23_coder_0 3 rfl rfl)
theorem dJ23_coder_6 : decode cJ23_coder 6 = .ok (.aload_n 0, 1) := dk_42 (dk_at dksJ23_coder_0 6 rfl rfl)
theorem dJ23_coder_7 : decode cJ23_coder 7 = .ok (.getfield 15, 3) := dk_180 0 15 (dk_at dksJ23_coder_0 7 rfl rfl)
theorem dJ23_coder_10 : decode cJ23_coder 10 = .ok (.goto 4, 3) := dk_167 0 4 (dk_at dksJ23_coder_0 10 rfl rfl)
theorem dJ23_coder_13 : decode cJ23_coder 13 = .ok (.iconst 1, 1) := dk_4 (dk_at dksJ23_coder_0 13 rfl rfl)
theorem dJ23_coder_14 : decode cJ23_coder 14 = .ok (.ireturn, 1) := dk_172 (dk_at dksJ23_coder_0 14 rfl rfl)
abbrev cJ23_indexOf : ByteArray := prog_35_method_79_code
def yJ23_indexOf : MethodName := ⟨RJ23, "indexOf", "(I)I"⟩
def dkwJ23_indexOf_0 : List UInt8 := [42, 27, 3, 182, 2, 121, 172]
abbrev dktJ23_indexOf_0 : List UInt8 := dkwJ23_indexOf_0 ++ []
theorem dksJ23_indexOf_0 : cJ23_indexOf.data.toList.drop 0 = dktJ23_indexOf_0 := by decide +kernel
theorem dJ23_indexOf_0 : decode cJ23_indexOf 0 = .ok (.aload_n 0, 1) := dk_42 (dk_at dksJ23_indexOf_0 0 rfl rfl)
theorem dJ23_indexOf_1 : decode cJ23_indexOf 1 = .ok (.iload_n 1, 1) := dk_27 (dk_at dksJ23_indexOf_0 1 rfl rfl)
theorem dJ23_indexOf_2 : decode cJ23_indexOf 2 = .ok (.iconst 0, 1) := dk_3 (dk_at dksJ23_indexOf_0 2 rfl rfl)
theorem dJ23_indexOf_3 : decode cJ23_indexOf 3 = .ok (.invokevirtual 633, 3) := dk_182 2 121 (dk_at dksJ23_indexOf_0 3 rfl rfl)
theorem dJ23_indexOf_6 : decode cJ23_indexOf 6 = .ok (.ireturn, 1) := dk_172 (dk_at dksJ23_indexOf_0 6 rfl rfl)
abbrev cJ23_indexOf_2 : ByteArray := prog_35_method_80_code
def yJ23_indexOf_2 : MethodName := ⟨RJ23, "indexOf", "(II)I"⟩
def dkwJ23_indexOf_2_1 : List UInt8 := [180, 0, 9, 27, 28, 42, 182, 1, 249, 184, 2, 128, 172]
abbrev dktJ23_indexOf_2_1 : List UInt8 := dkwJ23_indexOf_2_1 ++ []
def dkwJ23_indexOf_2_0 : List UInt8 := [42, 182, 1, 236, 153, 0, 19, 42, 180, 0, 9, 27, 28, 42, 182, 1, 249, 184, 2, 125, 167, 0, 16, 42]
abbrev dktJ23_indexOf_2_0 : List UInt8 := dkwJ23_indexOf_2_0 ++ dktJ23_indexOf_2_1
theorem dksJ23_indexOf_2_0 : cJ23_indexOf_2.data.toList.drop 0 = dktJ23_indexOf_2_0 := by decide +kernel
theorem dksJ23_indexOf_2_1 : cJ23_indexOf_2.data.toList.drop 24 = dktJ23_indexOf_2_1 := dk_seg dksJ23_indexOf_2_0 24 rfl rfl
theorem dJ23_indexOf_2_0 : decode cJ23_indexOf_2 0 = .ok (.aload_n 0, 1) := dk_42 (dk_at dksJ23_indexOf_2_0 0 rfl rfl)
theorem dJ23_indexOf_2_1 : decode cJ23_indexOf_2 1 = .ok (.invokevirtual 492, 3) := dk_182 1 236 (dk_at dksJ23_indexOf_2_0 1 rfl rfl)
theorem dJ23_indexOf_2_4 : decode cJ23_indexOf_2 4 = .ok (.ifCond .eq 19, 3) := dk_153 0 19 (dk_at dksJ23_indexOf_2_0 4 rfl rfl)
theorem dJ23_indexOf_2_7 : decode cJ23_indexOf_2 7 = .ok (.aload_n 0, 1) := dk_42 (dk_at dksJ23_indexOf_2_0 7 rfl rfl)
theorem dJ23_indexOf_2_8 : decode cJ23_indexOf_2 8 = .ok (.getfield 9, 3) := dk_180 0 9 (dk_at dksJ23_indexOf_2_0 8 rfl rfl)
theorem dJ23_indexOf_2_11 : decode cJ23_indexOf_2 11 = .ok (.iload_n 1, 1) := dk_27 (dk_at dksJ23_indexOf_2_0 11 rfl rfl)
theorem dJ23_indexOf_2_12 : decode cJ23_indexOf_2 12 = .ok (.iload_n 2, 1) := dk_28 (dk_at dksJ23_indexOf_2_0 12 rfl rfl)
theorem dJ23_indexOf_2_13 : decode cJ23_indexOf_2 13 = .ok (.aload_n 0, 1) := dk_42 (dk_at dksJ23_indexOf_2_0 13 rfl rfl)
theorem dJ23_indexOf_2_14 : decode cJ23_indexOf_2 14 = .ok (.invokevirtual 505, 3) := dk_182 1 249 (dk_at dksJ23_indexOf_2_0 14 rfl rfl)
theorem dJ23_indexOf_2_17 : decode cJ23_indexOf_2 17 = .ok (.invokestatic 637, 3) := dk_184 2 125 (dk_at dksJ23_indexOf_2_0 17 rfl rfl)
theorem dJ23_indexOf_2_20 : decode cJ23_indexOf_2 20 = .ok (.goto 16, 3) := dk_167 0 16 (dk_at dksJ23_indexOf_2_0 20 rfl rfl)
theorem dJ23_indexOf_2_23 : decode cJ23_indexOf_2 23 = .ok (.aload_n 0, 1) := dk_42 (dk_at dksJ23_indexOf_2_0 23 rfl rfl)
theorem dJ23_indexOf_2_24 : decode cJ23_indexOf_2 24 = .ok (.getfield 9, 3) := dk_180 0 9 (dk_at dksJ23_indexOf_2_1 0 rfl rfl)
theorem dJ23_indexOf_2_27 : decode cJ23_indexOf_2 27 = .ok (.iload_n 1, 1) := dk_27 (dk_at dksJ23_indexOf_2_1 3 rfl rfl)
theorem dJ23_indexOf_2_28 : decode cJ23_indexOf_2 28 = .ok (.iload_n 2, 1) := dk_28 (dk_at dksJ23_indexOf_2_1 4 rfl rfl)
theorem dJ23_indexOf_2_29 : decode cJ23_indexOf_2 29 = .ok (.aload_n 0, 1) := dk_42 (dk_at dksJ23_indexOf_2_1 5 rfl rfl)
theorem dJ23_indexOf_2_30 : decode cJ23_indexOf_2 30 = .ok (.invokevirtual 505, 3) := dk_182 1 249 (dk_at dksJ23_indexOf_2_1 6 rfl rfl)
theorem dJ23_indexOf_2_33 : decode cJ23_indexOf_2 33 = .ok (.invokestatic 640, 3) := dk_184 2 128 (dk_at dksJ23_indexOf_2_1 9 rfl rfl)
theorem dJ23_indexOf_2_36 : decode cJ23_indexOf_2 36 = .ok (.ireturn, 1) := dk_172 (dk_at dksJ23_indexOf_2_1 12 rfl rfl)
abbrev cJ23_isLatin1 : ByteArray := prog_35_method_154_code
def yJ23_isLatin1 : MethodName := ⟨RJ23, "isLatin1", "()Z"⟩
def dkwJ23_isLatin1_0 : List UInt8 := [178, 0, 38, 153, 0, 14, 42, 180, 0, 15, 154, 0, 7, 4, 167, 0, 4, 3, 172]
abbrev dktJ23_isLatin1_0 : List UInt8 := dkwJ23_isLatin1_0 ++ []
theorem dksJ23_isLatin1_0 : cJ23_isLatin1.data.toList.drop 0 = dktJ23_isLatin1_0 := by decide +kernel
theorem dJ23_isLatin1_0 : decode cJ23_isLatin1 0 = .ok (.getstatic 38, 3) := dk_178 0 38 (dk_at dksJ23_isLatin1_0 0 rfl rfl)
theorem dJ23_isLatin1_3 : decode cJ23_isLatin1 3 = .ok (.ifCond .eq 14, 3) := dk_153 0 14 (dk_at dksJ23_isLatin1_0 3 rfl rfl)
theorem dJ23_isLatin1_6 : decode cJ23_isLatin1 6 = .ok (.aload_n 0, 1) := dk_42 (dk_at dksJ23_isLatin1_0 6 rfl rfl)
theorem dJ23_isLatin1_7 : decode cJ23_isLatin1 7 = .ok (.getfield 15, 3) := dk_180 0 15 (dk_at dksJ23_isLatin1_0 7 rfl rfl)
theorem dJ23_isLatin1_10 : decode cJ23_isLatin1 10 = .ok (.ifCond .ne 7, 3) := dk_154 0 7 (dk_at dksJ23_isLatin1_0 10 rfl rfl)
theorem dJ23_isLatin1_13 : decode cJ23_isLatin1 13 = .ok (.iconst 1, 1) := dk_4 (dk_at dksJ23_isLatin1_0 13 rfl rfl)
theorem dJ23_isLatin1_14 : decode cJ23_isLatin1 14 = .ok (.goto 4, 3) := dk_167 0 4 (dk_at dksJ23_isLatin1_0 14 rfl rfl)
theorem dJ23_isLatin1_17 : decode cJ23_isLatin1 17 = .ok (.iconst 0, 1) := dk_3 (dk_at dksJ23_isLatin1_0 17 rfl rfl)
theorem dJ23_isLatin1_18 : decode cJ23_isLatin1 18 = .ok (.ireturn, 1) := dk_172 (dk_at dksJ23_isLatin1_0 18 rfl rfl)
theorem q135 : (Jvm.Cond.initialized "java/lang/String") ∈ lw_all := lw_g (lw_at lw_m1 34 rfl) rfl
theorem q405 : (Jvm.Cond.selects "java/lang/String" ({ cls := "java/lang/Object", name := "getClass", desc := "()Ljava/lang/Class;" } : Jvm.MethodName) ({ cls := "java/lang/Object", name := "getClass", desc := "()Ljava/lang/Class;" } : Jvm.MethodName)) ∈ lw_all := lw_g (lw_at lw_m2 64 rfl) rfl
theorem q741 : (Jvm.Cond.laysStatic "java/lang/String" "COMPACT_STRINGS" "Z") ∈ lw_tbl := lw_at lw_m3 160 rfl
theorem q751 : (Jvm.Cond.fieldLink "java/lang/String" (1048 : Nat) "java/lang/AbstractStringBuilder" "maybeLatin1" "Z") ∈ lw_all := lw_g (lw_at lw_m3 170 rfl) rfl
theorem q810 : (Jvm.Cond.static ({ cls := "java/lang/String", name := "checkBoundsBeginEnd", desc := "(III)V" } : Jvm.MethodName)) ∈ lw_all := lw_g (lw_at lw_m3 229 rfl) rfl
theorem q811 : (Jvm.Cond.code ({ cls := "java/lang/String", name := "checkBoundsBeginEnd", desc := "(III)V" } : Jvm.MethodName) prog_35_method_158_code (3 : Nat) (Option.none : Option Jvm.ClassFile.FieldType)) ∈ lw_all := lw_g (lw_at lw_m3 230 rfl) rfl
theorem q812 : (Jvm.Cond.fieldLink "java/lang/String" (1053 : Nat) "jdk/internal/util/Preconditions" "SIOOBE_FORMATTER" "Ljava/util/function/BiFunction;") ∈ lw_all := lw_g (lw_at lw_m3 231 rfl) rfl
theorem q814 : (Jvm.Cond.methodLink "java/lang/String" (1062 : Nat) ({ cls := "jdk/internal/util/Preconditions", name := "checkFromToIndex", desc := "(IIILjava/util/function/BiFunction;)I" } : Jvm.MethodName)) ∈ lw_all := lw_g (lw_at lw_m3 233 rfl) rfl
theorem q827 : (Jvm.Cond.instanceMethod ({ cls := "java/lang/String", name := "length", desc := "()I" } : Jvm.MethodName)) ∈ lw_all := lw_g (lw_at lw_m4 6 rfl) rfl
theorem q828 : (Jvm.Cond.selects "java/lang/String" ({ cls := "java/lang/String", name := "length", desc := "()I" } : Jvm.MethodName) ({ cls := "java/lang/String", name := "length", desc := "()I" } : Jvm.MethodName)) ∈ lw_all := lw_g (lw_at lw_m4 7 rfl) rfl
theorem q829 : (Jvm.Cond.code ({ cls := "java/lang/String", name := "length", desc := "()I" } : Jvm.MethodName) prog_35_method_54_code (1 : Nat) (Option.some Jvm.ClassFile.FieldType.int)) ∈ lw_all := lw_g (lw_at lw_m4 8 rfl) rfl
theorem q830 : (Jvm.Cond.methodLink "java/lang/String" (335 : Nat) ({ cls := "java/lang/String", name := "coder", desc := "()B" } : Jvm.MethodName)) ∈ lw_all := lw_g (lw_at lw_m4 9 rfl) rfl
theorem q831 : (Jvm.Cond.instanceMethod ({ cls := "java/lang/String", name := "coder", desc := "()B" } : Jvm.MethodName)) ∈ lw_all := lw_g (lw_at lw_m4 10 rfl) rfl
theorem q832 : (Jvm.Cond.selects "java/lang/String" ({ cls := "java/lang/String", name := "coder", desc := "()B" } : Jvm.MethodName) ({ cls := "java/lang/String", name := "coder", desc := "()B" } : Jvm.MethodName)) ∈ lw_all := lw_g (lw_at lw_m4 11 rfl) rfl
theorem q833 : (Jvm.Cond.code ({ cls := "java/lang/String", name := "coder", desc := "()B" } : Jvm.MethodName) prog_35_method_152_code (1 : Nat) (Option.some Jvm.ClassFile.FieldType.byte)) ∈ lw_all := lw_g (lw_at lw_m4 12 rfl) rfl
theorem q834 : (Jvm.Cond.fieldLink "java/lang/String" (38 : Nat) "java/lang/String" "COMPACT_STRINGS" "Z") ∈ lw_all := lw_g (lw_at lw_m4 13 rfl) rfl
theorem q858 : (Jvm.Cond.static ({ cls := "java/lang/String", name := "checkBoundsOffCount", desc := "(III)I" } : Jvm.MethodName)) ∈ lw_all := lw_g (lw_at lw_m4 37 rfl) rfl
theorem q859 : (Jvm.Cond.code ({ cls := "java/lang/String", name := "checkBoundsOffCount", desc := "(III)I" } : Jvm.MethodName) prog_35_method_157_code (3 : Nat) (Option.some Jvm.ClassFile.FieldType.int)) ∈ lw_all := lw_g (lw_at lw_m4 38 rfl) rfl
theorem q860 : (Jvm.Cond.methodLink "java/lang/String" (1065 : Nat) ({ cls := "jdk/internal/util/Preconditions", name := "checkFromIndexSize", desc := "(IIILjava/util/function/BiFunction;)I" } : Jvm.MethodName)) ∈ lw_all := lw_g (lw_at lw_m4 39 rfl) rfl
theorem q864 : (Jvm.Cond.instanceMethod ({ cls := "java/lang/String", name := "getBytes", desc := "([BIB)V" } : Jvm.MethodName)) ∈ lw_all := lw_g (lw_at lw_m4 43 rfl) rfl
theorem q865 : (Jvm.Cond.selects "java/lang/String" ({ cls := "java/lang/String", name := "getBytes", desc := "([BIB)V" } : Jvm.MethodName) ({ cls := "java/lang/String", name := "getBytes", desc := "([BIB)V" } : Jvm.MethodName)) ∈ lw_all := lw_g (lw_at lw_m4 44 rfl) rfl
theorem q866 : (Jvm.Cond.code ({ cls := "java/lang/String", name := "getBytes", desc := "([BIB)V" } : Jvm.MethodName) prog_35_method_147_code (4 : Nat) (Option.none : Option Jvm.ClassFile.FieldType)) ∈ lw_all := lw_g (lw_at lw_m4 45 rfl) rfl
theorem q867 : (Jvm.Cond.methodLink "java/lang/String" (212 : Nat) ({ cls := "java/lang/System", name := "arraycopy", desc := "(Ljava/lang/Object;ILjava/lang/Object;II)V" } : Jvm.MethodName)) ∈ lw_all := lw_g (lw_at lw_m4 46 rfl) rfl
theorem q868 : (Jvm.Cond.methodLink "java/lang/String" (106 : Nat) ({ cls := "java/lang/StringLatin1", name := "inflate", desc := "([BI[BII)V" } : Jvm.MethodName)) ∈ lw_all := lw_g (lw_at lw_m4 47 rfl) rfl
theorem q900 : (Jvm.Cond.instantiable "java/lang/String" (4 : Nat)) ∈ lw_all := lw_g (lw_at lw_m4 79 rfl) rfl
theorem q902 : (Jvm.Cond.instanceMethod ({ cls := "java/lang/String", name := "<init>", desc := "(Ljava/lang/StringBuilder;)V" } : Jvm.MethodName)) ∈ lw_all := lw_g (lw_at lw_m4 81 rfl) rfl
theorem q903 : (Jvm.Cond.code ({ cls := "java/lang/String", name := "<init>", desc := "(Ljava/lang/StringBuilder;)V" } : Jvm.MethodName) prog_35_method_53_code (2 : Nat) (Option.none : Option Jvm.ClassFile.FieldType)) ∈ lw_all := lw_g (lw_at lw_m4 82 rfl) rfl
theorem q904 : (Jvm.Cond.methodLink "java/lang/String" (489 : Nat) ({ cls := "java/lang/String", name := "<init>", desc := "(Ljava/lang/AbstractStringBuilder;Ljava/lang/Void;)V" } : Jvm.MethodName)) ∈ lw_all := lw_g (lw_at lw_m4 83 rfl) rfl
theorem q905 : (Jvm.Cond.instanceMethod ({ cls := "java/lang/String", name := "<init>", desc := "(Ljava/lang/AbstractStringBuilder;Ljava/lang/Void;)V" } : Jvm.MethodName)) ∈ lw_all := lw_g (lw_at lw_m4 84 rfl) rfl
theorem q906 : (Jvm.Cond.code ({ cls := "java/lang/String", name := "<init>", desc := "(Ljava/lang/AbstractStringBuilder;Ljava/lang/Void;)V" } : Jvm.MethodName) prog_35_method_150_code (5 : Nat) (Option.none : Option Jvm.ClassFile.FieldType)) ∈ lw_all := lw_g (lw_at lw_m4 85 rfl) rfl
theorem q907 : (Jvm.Cond.methodLink "java/lang/String" (1 : Nat) ({ cls := "java/lang/Object", name := "<init>", desc := "()V" } : Jvm.MethodName)) ∈ lw_all := lw_g (lw_at lw_m4 86 rfl) rfl
theorem q908 : (Jvm.Cond.methodLink "java/lang/String" (552 : Nat) ({ cls := "java/lang/AbstractStringBuilder", name := "getValue", desc := "()[B" } : Jvm.MethodName)) ∈ lw_all := lw_g (lw_at lw_m4 87 rfl) rfl
theorem q913 : (Jvm.Cond.methodLink "java/lang/String" (549 : Nat) ({ cls := "java/lang/AbstractStringBuilder", name := "length", desc := "()I" } : Jvm.MethodName)) ∈ lw_all := lw_g (lw_at lw_m4 92 rfl) rfl
theorem q921 : (Jvm.Cond.methodLink "java/lang/String" (1047 : Nat) ({ cls := "java/lang/AbstractStringBuilder", name := "isLatin1", desc := "()Z" } : Jvm.MethodName)) ∈ lw_all := lw_g (lw_at lw_m4 100 rfl) rfl
theorem q922 : (Jvm.Cond.methodLink "java/lang/String" (54 : Nat) ({ cls := "java/util/Arrays", name := "copyOfRange", desc := "([BII)[B" } : Jvm.MethodName)) ∈ lw_all := lw_g (lw_at lw_m4 101 rfl) rfl
theorem q971 : (Jvm.Cond.methodLink "java/lang/String" (1051 : Nat) ({ cls := "java/lang/StringUTF16", name := "compress", desc := "([BII)[B" } : Jvm.MethodName)) ∈ lw_all := lw_g (lw_at lw_m4 150 rfl) rfl
theorem q981 : (Jvm.Cond.methodLink "java/lang/String" (47 : Nat) ({ cls := "java/lang/StringUTF16", name := "coderFromArrayLen", desc := "([BI)B" } : Jvm.MethodName)) ∈ lw_all := lw_g (lw_at lw_m4 160 rfl) rfl
theorem q984 : (Jvm.Cond.fieldLink "java/lang/String" (9 : Nat) "java/lang/String" "value" "[B") ∈ lw_all := lw_g (lw_at lw_m4 163 rfl) rfl
theorem q985 : (Jvm.Cond.fieldLink "java/lang/String" (15 : Nat) "java/lang/String" "coder" "B") ∈ lw_all := lw_g (lw_at lw_m4 164 rfl) rfl
theorem q986 : (Jvm.Cond.laysFinal "java/lang/String" "java/lang/String" "value" "[B") ∈ lw_all := lw_g (lw_at lw_m4 165 rfl) rfl
theorem q987 : (Jvm.Cond.soleField "java/lang/String" "value") ∈ lw_all := lw_g (lw_at lw_m4 166 rfl) rfl
theorem q988 : (Jvm.Cond.laysFinal "java/lang/String" "java/lang/String" "coder" "B") ∈ lw_all := lw_g (lw_at lw_m4 167 rfl) rfl
theorem q989 : (Jvm.Cond.soleField "java/lang/String" "coder") ∈ lw_all := lw_g (lw_at lw_m4 168 rfl) rfl
theorem q990 : (Jvm.Cond.lays "java/lang/String" "java/lang/String" "hash" "I") ∈ lw_all := lw_g (lw_at lw_m4 169 rfl) rfl
theorem q991 : (Jvm.Cond.soleField "java/lang/String" "hash") ∈ lw_all := lw_g (lw_at lw_m4 170 rfl) rfl
theorem q992 : (Jvm.Cond.lays "java/lang/String" "java/lang/String" "hashIsZero" "Z") ∈ lw_all := lw_g (lw_at lw_m4 171 rfl) rfl
theorem q993 : (Jvm.Cond.soleField "java/lang/String" "hashIsZero") ∈ lw_all := lw_g (lw_at lw_m4 172 rfl) rfl
theorem q994 : (Jvm.Cond.superclass "java/lang/String" "java/lang/Object") ∈ lw_all := lw_g (lw_at lw_m4 173 rfl) rfl
theorem q2081 : (Jvm.Cond.instanceMethod ({ cls := "java/lang/String", name := "indexOf", desc := "(I)I" } : Jvm.MethodName)) ∈ lw_all := lw_g (lw_at lw_m9 60 rfl) rfl
theorem q2082 : (Jvm.Cond.selects "java/lang/String" ({ cls := "java/lang/String", name := "indexOf", desc := "(I)I" } : Jvm.MethodName) ({ cls := "java/lang/String", name := "indexOf", desc := "(I)I" } : Jvm.MethodName)) ∈ lw_all := lw_g (lw_at lw_m9 61 rfl) rfl
theorem q2083 : (Jvm.Cond.code ({ cls := "java/lang/String", name := "indexOf", desc := "(I)I" } : Jvm.MethodName) prog_35_method_79_code (2 : Nat) (Option.some Jvm.ClassFile.FieldType.int)) ∈ lw_all := lw_g (lw_at lw_m9 62 rfl) rfl
theorem q2084 : (Jvm.Cond.methodLink "java/lang/String" (633 : Nat) ({ cls := "java/lang/String", name := "indexOf", desc := "(II)I" } : Jvm.MethodName)) ∈ lw_all := lw_g (lw_at lw_m9 63 rfl) rfl
theorem q2085 : (Jvm.Cond.instanceMethod ({ cls := "java/lang/String", name := "indexOf", desc := "(II)I" } : Jvm.MethodName)) ∈ lw_all := lw_g (lw_at lw_m9 64 rfl) rfl
theorem q2086 : (Jvm.Cond.selects "java/lang/String" ({ cls := "java/lang/String", name := "indexOf", desc := "(II)I" } : Jvm.MethodName) ({ cls := "java/lang/String", name := "indexOf", desc := "(II)I" } : Jvm.MethodName)) ∈ lw_all := lw_g (lw_at lw_m9 65 rfl) rfl
theorem q2087 : (Jvm.Cond.code ({ cls := "java/lang/String", name := "indexOf", desc := "(II)I" } : Jvm.MethodName) prog_35_method_80_code (3 : Nat) (Option.some Jvm.ClassFile.FieldType.int)) ∈ lw_all := lw_g (lw_at lw_m9 66 rfl) rfl
theorem q2088 : (Jvm.Cond.methodLink "java/lang/String" (492 : Nat) ({ cls := "java/lang/String", name := "isLatin1", desc := "()Z" } : Jvm.MethodName)) ∈ lw_all := lw_g (lw_at lw_m9 67 rfl) rfl
theorem q2089 : (Jvm.Cond.instanceMethod ({ cls := "java/lang/String", name := "isLatin1", desc := "()Z" } : Jvm.MethodName)) ∈ lw_all := lw_g (lw_at lw_m9 68 rfl) rfl
theorem q2090 : (Jvm.Cond.selects "java/lang/String" ({ cls := "java/lang/String", name := "isLatin1", desc := "()Z" } : Jvm.MethodName) ({ cls := "java/lang/String", name := "isLatin1", desc := "()Z" } : Jvm.MethodName)) ∈ lw_all := lw_g (lw_at lw_m9 69 rfl) rfl
theorem q2091 : (Jvm.Cond.code ({ cls := "java/lang/String", name := "isLatin1", desc := "()Z" } : Jvm.MethodName) prog_35_method_154_code (1 : Nat) (Option.some Jvm.ClassFile.FieldType.boolean)) ∈ lw_all := lw_g (lw_at lw_m9 70 rfl) rfl
theorem q2092 : (Jvm.Cond.methodLink "java/lang/String" (505 : Nat) ({ cls := "java/lang/String", name := "length", desc := "()I" } : Jvm.MethodName)) ∈ lw_all := lw_g (lw_at lw_m9 71 rfl) rfl
theorem q2093 : (Jvm.Cond.methodLink "java/lang/String" (637 : Nat) ({ cls := "java/lang/StringLatin1", name := "indexOf", desc := "([BIII)I" } : Jvm.MethodName)) ∈ lw_all := lw_g (lw_at lw_m9 72 rfl) rfl
theorem q2104 : (Jvm.Cond.methodLink "java/lang/String" (640 : Nat) ({ cls := "java/lang/StringUTF16", name := "indexOf", desc := "([BIII)I" } : Jvm.MethodName)) ∈ lw_all := lw_g (lw_at lw_m9 83 rfl) rfl
theorem q3964 : (Jvm.Cond.castable "java/lang/String" "java/lang/Object") ∈ lw_tbl := lw_at lw_m17 23 rfl


/-! java/lang/StringLatin1 -/
set_option maxRecDepth 100000
def RJ26 : String := "java/lang/StringLatin1"
abbrev cJ26_indexOf : ByteArray := prog_37_method_22_code
def yJ26_indexOf : MethodName := ⟨RJ26, "indexOf", "([BIII)I"⟩
def dkwJ26_indexOf_1 : List UInt8 := [161, 0, 5, 2, 172, 42, 27, 28, 29, 184, 0, 95, 172]
abbrev dktJ26_indexOf_1 : List UInt8 := dkwJ26_indexOf_1 ++ []
def dkwJ26_indexOf_0 : List UInt8 := [27, 184, 0, 88, 154, 0, 5, 2, 172, 28, 3, 184, 0, 92, 61, 29, 42, 190, 184, 0, 38, 62, 28, 29]
abbrev dktJ26_indexOf_0 : List UInt8 := dkwJ26_indexOf_0 ++ dktJ26_indexOf_1
theorem dksJ26_indexOf_0 : cJ26_indexOf.data.toList.drop 0 = dktJ26_indexOf_0 := by decide +kernel
theorem dksJ26_indexOf_1 : cJ26_indexOf.data.toList.drop 24 = dktJ26_indexOf_1 := dk_seg dksJ26_indexOf_0 24 rfl rfl
theorem dJ26_indexOf_0 : decode cJ26_indexOf 0 = .ok (.iload_n 1, 1) := dk_27 (dk_at dksJ26_indexOf_0 0 rfl rfl)
theorem dJ26_indexOf_1 : decode cJ26_indexOf 1 = .ok (.invokestatic 88, 3) := dk_184 0 88 (dk_at dksJ26_indexOf_0 1 rfl rfl)
theorem dJ26_indexOf_4 : decode cJ26_indexOf 4 = .ok (.ifCond .ne 5, 3) := dk_154 0 5 (dk_at dksJ26_indexOf_0 4 rfl rfl)
theorem dJ26_indexOf_7 : decode cJ26_indexOf 7 = .ok (.iconst (-1), 1) := dk_2 (dk_at dksJ26_indexOf_0 7 rfl rfl)
theorem dJ26_indexOf_8 : decode cJ26_indexOf 8 = .ok (.ireturn, 1) := dk_172 (dk_at dksJ26_indexOf_0 8 rfl rfl)
theorem dJ26_indexOf_9 : decode cJ26_indexOf 9 = .ok (.iload_n 2, 1) := dk_28 (dk_at dksJ26_indexOf_0 9 rfl rfl)
theorem dJ26_indexOf_10 : decode cJ26_indexOf 10 = .ok (.iconst 0, 1) := dk_3 (dk_at dksJ26_indexOf_0 10 rfl rfl)
theorem dJ26_indexOf_11 : decode cJ26_indexOf 11 = .ok (.invokestatic 92, 3) := dk_184 0 92 (dk_at dksJ26_indexOf_0 11 rfl rfl)
theorem dJ26_indexOf_14 : decode cJ26_indexOf 14 = .ok (.istore_n 2, 1) := dk_61 (dk_at dksJ26_indexOf_0 14 rfl rfl)
theorem dJ26_indexOf_15 : decode cJ26_indexOf 15 = .ok (.iload_n 3, 1) := dk_29 (dk_at dksJ26_indexOf_0 15 rfl rfl)
theorem dJ26_indexOf_16 : decode cJ26_indexOf 16 = .ok (.aload_n 0, 1) := dk_42 (dk_at dksJ26_indexOf_0 16 rfl rfl)
theorem dJ26_indexOf_17 : decode cJ26_indexOf 17 = .ok (.arraylength, 1) := dk_190 (dk_at dksJ26_indexOf_0 17 rfl rfl)
theorem dJ26_indexOf_18 : decode cJ26_indexOf 18 = .ok (.invokestatic 38, 3) := dk_184 0 38 (dk_at dksJ26_indexOf_0 18 rfl rfl)
theorem dJ26_indexOf_21 : decode cJ26_indexOf 21 = .ok (.istore_n 3, 1) := dk_62 (dk_at dksJ26_indexOf_0 21 rfl rfl)
theorem dJ26_indexOf_22 : decode cJ26_indexOf 22 = .ok (.iload_n 2, 1) := dk_28 (dk_at dksJ26_indexOf_0 22 rfl rfl)
theorem dJ26_indexOf_23 : decode cJ26_indexOf 23 = .ok (.iload_n 3, 1) := dk_29 (dk_at dksJ26_indexOf_0 23 rfl rfl)
theorem dJ26_indexOf_24 : decode cJ26_indexOf 24 = .ok (.if_icmp .lt 5, 3) := dk_161 0 5 (dk_at dksJ26_indexOf_1 0 rfl rfl)
theorem dJ26_indexOf_27 : decode cJ26_indexOf 27 = .ok (.iconst (-1), 1) := dk_2 (dk_at dksJ26_indexOf_1 3 rfl rfl)
theorem dJ26_indexOf_28 : decode cJ26_indexOf 28 = .ok (.ireturn, 1) := dk_172 (dk_at dksJ26_indexOf_1 4 rfl rfl)
theorem dJ26_indexOf_29 : decode cJ26_indexOf 29 = .ok (.aload_n 0, 1) := dk_42 (dk_at dksJ26_indexOf_1 5 rfl rfl)
theorem dJ26_indexOf_30 : decode cJ26_indexOf 30 = .ok (.iload_n 1, 1) := dk_27 (dk_at dksJ26_indexOf_1 6 rfl rfl)
theorem dJ26_indexOf_31 : decode cJ26_indexOf 31 = .ok (.iload_n 2, 1) := dk_28 (dk_at dksJ26_indexOf_1 7 rfl rfl)
theorem dJ26_indexOf_32 : decode cJ26_indexOf 32 = .ok (.iload_n 3, 1) := dk_29 (dk_at dksJ26_indexOf_1 8 rfl rfl)
theorem dJ26_indexOf_33 : decode cJ26_indexOf 33 = .ok (.invokestatic 95, 3) := dk_184 0 95 (dk_at dksJ26_indexOf_1 9 rfl rfl)
theorem dJ26_indexOf_36 : decode cJ26_indexOf 36 = .ok (.ireturn, 1) := dk_172 (dk_at dksJ26_indexOf_1 12 rfl rfl)
abbrev cJ26_canEncode : ByteArray := prog_37_method_4_code
def yJ26_canEncode : MethodName := ⟨RJ26, "canEncode", "(I)Z"⟩
def dkwJ26_canEncode_0 : List UInt8 := [26, 155, 0, 14, 26, 17, 0, 255, 163, 0, 7, 4, 167, 0, 4, 3, 172]
abbrev dktJ26_canEncode_0 : List UInt8 := dkwJ26_canEncode_0 ++ []
theorem dksJ26_canEncode_0 : cJ26_canEncode.data.toList.drop 0 = dktJ26_canEncode_0 := by decide +kernel
theorem dJ26_canEncode_0 : decode cJ26_canEncode 0 = .ok (.iload_n 0, 1) := dk_26 (dk_at dksJ26_canEncode_0 0 rfl rfl)
theorem dJ26_canEncode_1 : decode cJ26_canEncode 1 = .ok (.ifCond .lt 14, 3) := dk_155 0 14 (dk_at dksJ26_canEncode_0 1 rfl rfl)
theorem dJ26_canEncode_4 : decode cJ26_canEncode 4 = .ok (.iload_n 0, 1) := dk_26 (dk_at dksJ26_canEncode_0 4 rfl rfl)
theorem dJ26_canEncode_5 : decode cJ26_canEncode 5 = .ok (.sipush 255, 3) := dk_17 0 255 (dk_at dksJ26_canEncode_0 5 rfl rfl)
theorem dJ26_canEncode_8 : decode cJ26_canEncode 8 = .ok (.if_icmp .gt 7, 3) := dk_163 0 7 (dk_at dksJ26_canEncode_0 8 rfl rfl)
theorem dJ26_canEncode_11 : decode cJ26_canEncode 11 = .ok (.iconst 1, 1) := dk_4 (dk_at dksJ26_canEncode_0 11 rfl rfl)
theorem dJ26_canEncode_12 : decode cJ26_canEncode 12 = .ok (.goto 4, 3) := dk_167 0 4 (dk_at dksJ26_canEncode_0 12 rfl rfl)
theorem dJ26_canEncode_15 : decode cJ26_canEncode 15 = .ok (.iconst 0, 1) := dk_3 (dk_at dksJ26_canEncode_0 15 rfl rfl)
theorem dJ26_canEncode_16 : decode cJ26_canEncode 16 = .ok (.ireturn, 1) := dk_172 (dk_at dksJ26_canEncode_0 16 rfl rfl)
abbrev cJ26_indexOfChar : ByteArray := prog_37_method_23_code
def yJ26_indexOfChar : MethodName := ⟨RJ26, "indexOfChar", "([BIII)I"⟩
def dkwJ26_indexOfChar_1 : List UInt8 := [172, 132, 5, 1, 167, 255, 235, 2, 172]
abbrev dktJ26_indexOfChar_1 : List UInt8 := dkwJ26_indexOfChar_1 ++ []
def dkwJ26_indexOfChar_0 : List UInt8 := [27, 145, 54, 4, 28, 54, 5, 21, 5, 29, 162, 0, 21, 42, 21, 5, 51, 21, 4, 160, 0, 6, 21, 5]
abbrev dktJ26_indexOfChar_0 : List UInt8 := dkwJ26_indexOfChar_0 ++ dktJ26_indexOfChar_1
theorem dksJ26_indexOfChar_0 : cJ26_indexOfChar.data.toList.drop 0 = dktJ26_indexOfChar_0 := by decide +kernel
theorem dksJ26_indexOfChar_1 : cJ26_indexOfChar.data.toList.drop 24 = dktJ26_indexOfChar_1 := dk_seg dksJ26_indexOfChar_0 24 rfl rfl
theorem dJ26_indexOfChar_0 : decode cJ26_indexOfChar 0 = .ok (.iload_n 1, 1) := dk_27 (dk_at dksJ26_indexOfChar_0 0 rfl rfl)
theorem dJ26_indexOfChar_1 : decode cJ26_indexOfChar 1 = .ok (.i2b, 1) := dk_145 (dk_at dksJ26_indexOfChar_0 1 rfl rfl)
theorem dJ26_indexOfChar_2 : decode cJ26_indexOfChar 2 = .ok (.istore 4, 2) := dk_54 4 (dk_at dksJ26_indexOfChar_0 2 rfl rfl)
theorem dJ26_indexOfChar_4 : decode cJ26_indexOfChar 4 = .ok (.iload_n 2, 1) := dk_28 (dk_at dksJ26_indexOfChar_0 4 rfl rfl)
theorem dJ26_indexOfChar_5 : decode cJ26_indexOfChar 5 = .ok (.istore 5, 2) := dk_54 5 (dk_at dksJ26_indexOfChar_0 5 rfl rfl)
theorem dJ26_indexOfChar_7 : decode cJ26_indexOfChar 7 = .ok (.iload 5, 2) := dk_21 5 (dk_at dksJ26_indexOfChar_0 7 rfl rfl)
theorem dJ26_indexOfChar_9 : decode cJ26_indexOfChar 9 = .ok (.iload_n 3, 1) := dk_29 (dk_at dksJ26_indexOfChar_0 9 rfl rfl)
theorem dJ26_indexOfChar_10 : decode cJ26_indexOfChar 10 = .ok (.if_icmp .ge 21, 3) := dk_162 0 21 (dk_at dksJ26_indexOfChar_0 10 rfl rfl)
theorem dJ26_indexOfChar_13 : decode cJ26_indexOfChar 13 = .ok (.aload_n 0, 1) := dk_42 (dk_at dksJ26_indexOfChar_0 13 rfl rfl)
theorem dJ26_indexOfChar_14 : decode cJ26_indexOfChar 14 = .ok (.iload 5, 2) := dk_21 5 (dk_at dksJ26_indexOfChar_0 14 rfl rfl)
theorem dJ26_indexOfChar_16 : decode cJ26_indexOfChar 16 = .ok (.baload, 1) := dk_51 (dk_at dksJ26_indexOfChar_0 16 rfl rfl)
theorem dJ26_indexOfChar_17 : decode cJ26_indexOfChar 17 = .ok (.iload 4, 2) := dk_21 4 (dk_at dksJ26_indexOfChar_0 17 rfl rfl)
theorem dJ26_indexOfChar_19 : decode cJ26_indexOfChar 19 = .ok (.if_icmp .ne 6, 3) := dk_160 0 6 (dk_at dksJ26_indexOfChar_0 19 rfl rfl)
theorem dJ26_indexOfChar_22 : decode cJ26_indexOfChar 22 = .ok (.iload 5, 2) := dk_21 5 (dk_at dksJ26_indexOfChar_0 22 rfl rfl)
theorem dJ26_indexOfChar_24 : decode cJ26_indexOfChar 24 = .ok (.ireturn, 1) := dk_172 (dk_at dksJ26_indexOfChar_1 0 rfl rfl)
theorem dJ26_indexOfChar_25 : decode cJ26_indexOfChar 25 = .ok (.iinc 5 1, 3) := dk_132 5 1 (dk_at dksJ26_indexOfChar_1 1 rfl rfl)
theorem dJ26_indexOfChar_28 : decode cJ26_indexOfChar 28 = .ok (.goto (-21), 3) := dk_167 255 235 (dk_at dksJ26_indexOfChar_1 4 rfl rfl)
theorem dJ26_indexOfChar_31 : decode cJ26_indexOfChar 31 = .ok (.iconst (-1), 1) := dk_2 (dk_at dksJ26_indexOfChar_1 7 rfl rfl)
theorem dJ26_indexOfChar_32 : decode cJ26_indexOfChar 32 = .ok (.ireturn, 1) := dk_172 (dk_at dksJ26_indexOfChar_1 8 rfl rfl)
theorem q138 : (Jvm.Cond.initialized "java/lang/StringLatin1") ∈ lw_all := lw_g (lw_at lw_m1 37 rfl) rfl
theorem q849 : (Jvm.Cond.static ({ cls := "java/lang/StringLatin1", name := "inflate", desc := "([BI[BII)V" } : Jvm.MethodName)) ∈ lw_all := lw_g (lw_at lw_m4 28 rfl) rfl
theorem q850 : (Jvm.Cond.code ({ cls := "java/lang/StringLatin1", name := "inflate", desc := "([BI[BII)V" } : Jvm.MethodName) prog_37_method_50_code (5 : Nat) (Option.none : Option Jvm.ClassFile.FieldType)) ∈ lw_all := lw_g (lw_at lw_m4 29 rfl) rfl
theorem q851 : (Jvm.Cond.methodLink "java/lang/StringLatin1" (240 : Nat) ({ cls := "java/lang/StringUTF16", name := "inflate", desc := "([BI[BII)V" } : Jvm.MethodName)) ∈ lw_all := lw_g (lw_at lw_m4 30 rfl) rfl
theorem q2094 : (Jvm.Cond.static ({ cls := "java/lang/StringLatin1", name := "indexOf", desc := "([BIII)I" } : Jvm.MethodName)) ∈ lw_all := lw_g (lw_at lw_m9 73 rfl) rfl
theorem q2095 : (Jvm.Cond.code ({ cls := "java/lang/StringLatin1", name := "indexOf", desc := "([BIII)I" } : Jvm.MethodName) prog_37_method_22_code (4 : Nat) (Option.some Jvm.ClassFile.FieldType.int)) ∈ lw_all := lw_g (lw_at lw_m9 74 rfl) rfl
theorem q2096 : (Jvm.Cond.methodLink "java/lang/StringLatin1" (88 : Nat) ({ cls := "java/lang/StringLatin1", name := "canEncode", desc := "(I)Z" } : Jvm.MethodName)) ∈ lw_all := lw_g (lw_at lw_m9 75 rfl) rfl
theorem q2097 : (Jvm.Cond.static ({ cls := "java/lang/StringLatin1", name := "canEncode", desc := "(I)Z" } : Jvm.MethodName)) ∈ lw_all := lw_g (lw_at lw_m9 76 rfl) rfl
theorem q2098 : (Jvm.Cond.code ({ cls := "java/lang/StringLatin1", name := "canEncode", desc := "(I)Z" } : Jvm.MethodName) prog_37_method_4_code (1 : Nat) (Option.some Jvm.ClassFile.FieldType.boolean)) ∈ lw_all := lw_g (lw_at lw_m9 77 rfl) rfl
theorem q2099 : (Jvm.Cond.methodLink "java/lang/StringLatin1" (92 : Nat) ({ cls := "java/lang/Math", name := "max", desc := "(II)I" } : Jvm.MethodName)) ∈ lw_all := lw_g (lw_at lw_m9 78 rfl) rfl
theorem q2100 : (Jvm.Cond.methodLink "java/lang/StringLatin1" (38 : Nat) ({ cls := "java/lang/Math", name := "min", desc := "(II)I" } : Jvm.MethodName)) ∈ lw_all := lw_g (lw_at lw_m9 79 rfl) rfl
theorem q2101 : (Jvm.Cond.methodLink "java/lang/StringLatin1" (95 : Nat) ({ cls := "java/lang/StringLatin1", name := "indexOfChar", desc := "([BIII)I" } : Jvm.MethodName)) ∈ lw_all := lw_g (lw_at lw_m9 80 rfl) rfl
theorem q2102 : (Jvm.Cond.static ({ cls := "java/lang/StringLatin1", name := "indexOfChar", desc := "([BIII)I" } : Jvm.MethodName)) ∈ lw_all := lw_g (lw_at lw_m9 81 rfl) rfl
theorem q2103 : (Jvm.Cond.code ({ cls := "java/lang/StringLatin1", name := "indexOfChar", desc := "([BIII)I" } : Jvm.MethodName) prog_37_method_23_code (6 : Nat) (Option.some Jvm.ClassFile.FieldType.int)) ∈ lw_all := lw_g (lw_at lw_m9 82 rfl) rfl


/-! java/lang/Throwable -/
set_option maxRecDepth 100000
def RJ15 : String := "java/lang/Throwable"
def TJ15 : u_T := fun k => match k with
  | 0 => ("java/lang/Throwable", "cause", "Ljava/lang/Throwable;", false)
  | 1 => ("java/lang/Throwable", "stackTrace", "[Ljava/lang/StackTraceElement;", false)
  | 2 => ("java/lang/Throwable", "suppressedExceptions", "Ljava/util/List;", false)
  | 3 => ("java/lang/Throwable", "detailMessage", "Ljava/lang/String;", false)
  | _ => ("java/lang/Throwable", "backtrace", "Ljava/lang/Object;", false)
def tyJ15 : Nat → FieldType := fun k => match k with
  | 0 => .object "java/lang/Throwable"
  | 1 => .array (.object "java/lang/StackTraceElement")
  | 2 => .object "java/util/List"
  | 3 => .object "java/lang/String"
  | _ => .object "java/lang/Object"
abbrev wsJ150 : List Cond := u_ws RJ15 TJ15 5
theorem nmJ15 : ∀ a, a < 5 → ∀ b, b < 5 → a ≠ b → (TJ15 a).2.1 ≠ (TJ15 b).2.1 := by decide +kernel
theorem tyJ15_ok : ∀ k, k < 5 → parseFieldDescriptor (TJ15 k).2.2.1 = some (tyJ15 k) := by decide +kernel
abbrev cJ15_init_4 : ByteArray := prog_40_method_5_code
def yJ15_init_4 : MethodName := ⟨RJ15, "<init>", "(Ljava/lang/String;Ljava/lang/Throwable;ZZ)V"⟩
def dkwJ15_init_4_2 : List UInt8 := [44, 181, 0, 7, 29, 154, 0, 8, 42, 1, 181, 0, 24, 177]
abbrev dktJ15_init_4_2 : List UInt8 := dkwJ15_init_4_2 ++ []
def dkwJ15_init_4_1 : List UInt8 := [21, 4, 153, 0, 11, 42, 182, 0, 27, 87, 167, 0, 8, 42, 1, 181, 0, 17, 42, 43, 181, 0, 31, 42]
abbrev dktJ15_init_4_1 : List UInt8 := dkwJ15_init_4_1 ++ dktJ15_init_4_2
def dkwJ15_init_4_0 : List UInt8 := [42, 183, 0, 1, 42, 42, 181, 0, 7, 42, 178, 0, 13, 181, 0, 17, 42, 178, 0, 20, 181, 0, 24]
abbrev dktJ15_init_4_0 : List UInt8 := dkwJ15_init_4_0 ++ dktJ15_init_4_1
theorem dksJ15_init_4_0 : cJ15_init_4.data.toList.drop 0 = dktJ15_init_4_0 := by decide +kernel
theorem dksJ15_init_4_1 : cJ15_init_4.data.toList.drop 23 = dktJ15_init_4_1 := dk_seg dksJ15_init_4_0 23 rfl rfl
theorem dksJ15_init_4_2 : cJ15_init_4.data.toList.drop 47 = dktJ15_init_4_2 := dk_seg dksJ15_init_4_1 24 rfl rfl
theorem dJ15_init_4_0 : decode cJ15_init_4 0 = .ok (.aload_n 0, 1) := dk_42 (dk_at dksJ15_init_4_0 0 rfl rfl)
theorem dJ15_init_4_1 : decode cJ15_init_4 1 = .ok (.invokespecial 1, 3) := dk_183 0 1 (dk_at dksJ15_init_4_0 1 rfl rfl)
theorem dJ15_init_4_4 : decode cJ15_init_4 4 = .ok (.aload_n 0, 1) := dk_42 (dk_at dksJ15_init_4_0 4 rfl rfl)
theorem dJ15_init_4_5 : decode cJ15_init_4 5 = .ok (.aload_n 0, 1) := dk_42 (dk_at dksJ15_init_4_0 5 rfl rfl)
theorem dJ15_init_4_6 : decode cJ15_init_4 6 = .ok (.putfield 7, 3) := dk_181 0 7 (dk_at dksJ15_init_4_0 6 rfl rfl)
theorem dJ15_init_4_9 : decode cJ15_init_4 9 = .ok (.aload_n 0, 1) := dk_42 (dk_at dksJ15_init_4_0 9 rfl rfl)
theorem dJ15_init_4_10 : decode cJ15_init_4 10 = .ok (.getstatic 13, 3) := dk_178 0 13 (dk_at dksJ15_init_4_0 10 rfl rfl)
theorem dJ15_init_4_13 : decode cJ15_init_4 13 = .ok (.putfield 17, 3) := dk_181 0 17 (dk_at dksJ15_init_4_0 13 rfl rfl)
theorem dJ15_init_4_16 : decode cJ15_init_4 16 = .ok (.aload_n 0, 1) := dk_42 (dk_at dksJ15_init_4_0 16 rfl rfl)
theorem dJ15_init_4_17 : decode cJ15_init_4 17 = .ok (.getstatic 20, 3) := dk_178 0 20 (dk_at dksJ15_init_4_0 17 rfl rfl)
theorem dJ15_init_4_20 : decode cJ15_init_4 20 = .ok (.putfield 24, 3) := dk_181 0 24 (dk_at dksJ15_init_4_0 20 rfl rfl)
theorem dJ15_init_4_23 : decode cJ15_init_4 23 = .ok (.iload 4, 2) := dk_21 4 (dk_at dksJ15_init_4_1 0 rfl rfl)
theorem dJ15_init_4_25 : decode cJ15_init_4 25 = .ok (.ifCond .eq 11, 3) := dk_153 0 11 (dk_at dksJ15_init_4_1 2 rfl rfl)
theorem dJ15_init_4_28 : decode cJ15_init_4 28 = .ok (.aload_n 0, 1) := dk_42 (dk_at dksJ15_init_4_1 5 rfl rfl)
theorem dJ15_init_4_29 : decode cJ15_init_4 29 = .ok (.invokevirtual 27, 3) := dk_182 0 27 (dk_at dksJ15_init_4_1 6 rfl rfl)
theorem dJ15_init_4_32 : decode cJ15_init_4 32 = .ok (.pop, 1) := dk_87 (dk_at dksJ15_init_4_1 9 rfl rfl)
theorem dJ15_init_4_33 : decode cJ15_init_4 33 = .ok (.goto 8, 3) := dk_167 0 8 (dk_at dksJ15_init_4_1 10 rfl rfl)
theorem dJ15_init_4_36 : decode cJ15_init_4 36 = .ok (.aload_n 0, 1) := dk_42 (dk_at dksJ15_init_4_1 13 rfl rfl)
theorem dJ15_init_4_37 : decode cJ15_init_4 37 = .ok (.aconst_null, 1) := dk_1 (dk_at dksJ15_init_4_1 14 rfl rfl)
theorem dJ15_init_4_38 : decode cJ15_init_4 38 = .ok (.putfield 17, 3) := dk_181 0 17 (dk_at dksJ15_init_4_1 15 rfl rfl)
theorem dJ15_init_4_41 : decode cJ15_init_4 41 = .ok (.aload_n 0, 1) := dk_42 (dk_at dksJ15_init_4_1 18 rfl rfl)
theorem dJ15_init_4_42 : decode cJ15_init_4 42 = .ok (.aload_n 1, 1) := dk_43 (dk_at dksJ15_init_4_1 19 rfl rfl)
theorem dJ15_init_4_43 : decode cJ15_init_4 43 = .ok (.putfield 31, 3) := dk_181 0 31 (dk_at dksJ15_init_4_1 20 rfl rfl)
theorem dJ15_init_4_46 : decode cJ15_init_4 46 = .ok (.aload_n 0, 1) := dk_42 (dk_at dksJ15_init_4_1 23 rfl rfl)
theorem dJ15_init_4_47 : decode cJ15_init_4 47 = .ok (.aload_n 2, 1) := dk_44 (dk_at dksJ15_init_4_2 0 rfl rfl)
theorem dJ15_init_4_48 : decode cJ15_init_4 48 = .ok (.putfield 7, 3) := dk_181 0 7 (dk_at dksJ15_init_4_2 1 rfl rfl)
theorem dJ15_init_4_51 : decode cJ15_init_4 51 = .ok (.iload_n 3, 1) := dk_29 (dk_at dksJ15_init_4_2 4 rfl rfl)
theorem dJ15_init_4_52 : decode cJ15_init_4 52 = .ok (.ifCond .ne 8, 3) := dk_154 0 8 (dk_at dksJ15_init_4_2 5 rfl rfl)
theorem dJ15_init_4_55 : decode cJ15_init_4 55 = .ok (.aload_n 0, 1) := dk_42 (dk_at dksJ15_init_4_2 8 rfl rfl)
theorem dJ15_init_4_56 : decode cJ15_init_4 56 = .ok (.aconst_null, 1) := dk_1 (dk_at dksJ15_init_4_2 9 rfl rfl)
theorem dJ15_init_4_57 : decode cJ15_init_4 57 = .ok (.putfield 24, 3) := dk_181 0 24 (dk_at dksJ15_init_4_2 10 rfl rfl)
theorem dJ15_init_4_60 : decode cJ15_init_4 60 = .ok (.return_, 1) := dk_177 (dk_at dksJ15_init_4_2 13 rfl rfl)
theorem q687 : (Jvm.Cond.declares ({ cls := "java/lang/Throwable", name := "<init>", desc := "()V" } : Jvm.MethodName)) ∈ lw_tbl := lw_at lw_m3 106 rfl
theorem q688 : (Jvm.Cond.declares ({ cls := "java/lang/Throwable", name := "<init>", desc := "(Ljava/lang/String;)V" } : Jvm.MethodName)) ∈ lw_tbl := lw_at lw_m3 107 rfl
theorem q707 : (Jvm.Cond.laysStatic "java/lang/Throwable" "UNASSIGNED_STACK" "[Ljava/lang/StackTraceElement;") ∈ lw_tbl := lw_at lw_m3 126 rfl
theorem q709 : (Jvm.Cond.laysStatic "java/lang/Throwable" "SUPPRESSED_SENTINEL" "Ljava/util/List;") ∈ lw_tbl := lw_at lw_m3 128 rfl
theorem q712 : (Jvm.Cond.sameMethod "java/lang/Throwable" "java/lang/Throwable" "fillInStackTrace" "()Ljava/lang/Throwable;") ∈ lw_all := lw_g (lw_at lw_m3 131 rfl) rfl
theorem q723 : (Jvm.Cond.privateMethod ({ cls := "java/lang/Throwable", name := "fillInStackTrace", desc := "(I)Ljava/lang/Throwable;" } : Jvm.MethodName)) ∈ lw_tbl := lw_at lw_m3 142 rfl
theorem q725 : (Jvm.Cond.instantiable "java/lang/Throwable" (6 : Nat)) ∈ lw_all := lw_g (lw_at lw_m3 144 rfl) rfl
theorem q956 : (Jvm.Cond.instanceMethod ({ cls := "java/lang/Throwable", name := "<init>", desc := "(Ljava/lang/String;)V" } : Jvm.MethodName)) ∈ lw_all := lw_g (lw_at lw_m4 135 rfl) rfl
theorem q957 : (Jvm.Cond.code ({ cls := "java/lang/Throwable", name := "<init>", desc := "(Ljava/lang/String;)V" } : Jvm.MethodName) prog_40_method_2_code (2 : Nat) (Option.none : Option Jvm.ClassFile.FieldType)) ∈ lw_all := lw_g (lw_at lw_m4 136 rfl) rfl
theorem q958 : (Jvm.Cond.fieldLink "java/lang/Throwable" (198 : Nat) "java/lang/Throwable" "backtrace" "Ljava/lang/Object;") ∈ lw_all := lw_g (lw_at lw_m4 137 rfl) rfl
theorem q959 : (Jvm.Cond.fieldLink "java/lang/Throwable" (31 : Nat) "java/lang/Throwable" "detailMessage" "Ljava/lang/String;") ∈ lw_all := lw_g (lw_at lw_m4 138 rfl) rfl
theorem q963 : (Jvm.Cond.soleField "java/lang/Throwable" "backtrace") ∈ lw_all := lw_g (lw_at lw_m4 142 rfl) rfl
theorem q964 : (Jvm.Cond.soleField "java/lang/Throwable" "detailMessage") ∈ lw_all := lw_g (lw_at lw_m4 143 rfl) rfl
theorem q965 : (Jvm.Cond.soleField "java/lang/Throwable" "cause") ∈ lw_all := lw_g (lw_at lw_m4 144 rfl) rfl
theorem q966 : (Jvm.Cond.soleField "java/lang/Throwable" "stackTrace") ∈ lw_all := lw_g (lw_at lw_m4 145 rfl) rfl
theorem q968 : (Jvm.Cond.soleField "java/lang/Throwable" "depth") ∈ lw_all := lw_g (lw_at lw_m4 147 rfl) rfl
theorem q969 : (Jvm.Cond.soleField "java/lang/Throwable" "suppressedExceptions") ∈ lw_all := lw_g (lw_at lw_m4 148 rfl) rfl
theorem q1436 : (Jvm.Cond.instanceMethod ({ cls := "java/lang/Throwable", name := "<init>", desc := "(Ljava/lang/Throwable;)V" } : Jvm.MethodName)) ∈ lw_all := lw_g (lw_at lw_m6 135 rfl) rfl
theorem q1437 : (Jvm.Cond.code ({ cls := "java/lang/Throwable", name := "<init>", desc := "(Ljava/lang/Throwable;)V" } : Jvm.MethodName) prog_40_method_4_code (2 : Nat) (Option.none : Option Jvm.ClassFile.FieldType)) ∈ lw_all := lw_g (lw_at lw_m6 136 rfl) rfl
theorem q1438 : (Jvm.Cond.methodLink "java/lang/Throwable" (35 : Nat) ({ cls := "java/lang/Throwable", name := "toString", desc := "()Ljava/lang/String;" } : Jvm.MethodName)) ∈ lw_all := lw_g (lw_at lw_m6 137 rfl) rfl
theorem q1439 : (Jvm.Cond.instanceMethod ({ cls := "java/lang/Throwable", name := "toString", desc := "()Ljava/lang/String;" } : Jvm.MethodName)) ∈ lw_all := lw_g (lw_at lw_m6 138 rfl) rfl
theorem q1440 : (Jvm.Cond.sameMethod "java/lang/Throwable" "java/lang/Throwable" "toString" "()Ljava/lang/String;") ∈ lw_all := lw_g (lw_at lw_m6 139 rfl) rfl
theorem q1450 : (Jvm.Cond.code ({ cls := "java/lang/Throwable", name := "toString", desc := "()Ljava/lang/String;" } : Jvm.MethodName) prog_40_method_11_code (3 : Nat) (Option.some (Jvm.ClassFile.FieldType.object "java/lang/String"))) ∈ lw_all := lw_g (lw_at lw_m6 149 rfl) rfl
theorem q1451 : (Jvm.Cond.methodLink "java/lang/Throwable" (69 : Nat) ({ cls := "java/lang/Object", name := "getClass", desc := "()Ljava/lang/Class;" } : Jvm.MethodName)) ∈ lw_all := lw_g (lw_at lw_m6 150 rfl) rfl
theorem q1452 : (Jvm.Cond.methodLink "java/lang/Throwable" (78 : Nat) ({ cls := "java/lang/Throwable", name := "getLocalizedMessage", desc := "()Ljava/lang/String;" } : Jvm.MethodName)) ∈ lw_all := lw_g (lw_at lw_m6 151 rfl) rfl
theorem q1453 : (Jvm.Cond.instanceMethod ({ cls := "java/lang/Throwable", name := "getLocalizedMessage", desc := "()Ljava/lang/String;" } : Jvm.MethodName)) ∈ lw_all := lw_g (lw_at lw_m6 152 rfl) rfl
theorem q1454 : (Jvm.Cond.sameMethod "java/lang/Throwable" "java/lang/Throwable" "getLocalizedMessage" "()Ljava/lang/String;") ∈ lw_all := lw_g (lw_at lw_m6 153 rfl) rfl
theorem q1464 : (Jvm.Cond.code ({ cls := "java/lang/Throwable", name := "getLocalizedMessage", desc := "()Ljava/lang/String;" } : Jvm.MethodName) prog_40_method_7_code (1 : Nat) (Option.some (Jvm.ClassFile.FieldType.object "java/lang/String"))) ∈ lw_all := lw_g (lw_at lw_m6 163 rfl) rfl
theorem q1465 : (Jvm.Cond.methodLink "java/lang/Throwable" (39 : Nat) ({ cls := "java/lang/Throwable", name := "getMessage", desc := "()Ljava/lang/String;" } : Jvm.MethodName)) ∈ lw_all := lw_g (lw_at lw_m6 164 rfl) rfl
theorem q1466 : (Jvm.Cond.instanceMethod ({ cls := "java/lang/Throwable", name := "getMessage", desc := "()Ljava/lang/String;" } : Jvm.MethodName)) ∈ lw_all := lw_g (lw_at lw_m6 165 rfl) rfl
theorem q1467 : (Jvm.Cond.sameMethod "java/lang/Throwable" "java/lang/Throwable" "getMessage" "()Ljava/lang/String;") ∈ lw_all := lw_g (lw_at lw_m6 166 rfl) rfl
theorem q1477 : (Jvm.Cond.code ({ cls := "java/lang/Throwable", name := "getMessage", desc := "()Ljava/lang/String;" } : Jvm.MethodName) prog_40_method_6_code (1 : Nat) (Option.some (Jvm.ClassFile.FieldType.object "java/lang/String"))) ∈ lw_all := lw_g (lw_at lw_m6 176 rfl) rfl
theorem q1478 : (Jvm.Cond.classLink "java/lang/Throwable" (44 : Nat) "java/lang/StringBuilder") ∈ lw_all := lw_g (lw_at lw_m6 177 rfl) rfl
theorem q1479 : (Jvm.Cond.methodLink "java/lang/Throwable" (46 : Nat) ({ cls := "java/lang/StringBuilder", name := "<init>", desc := "()V" } : Jvm.MethodName)) ∈ lw_all := lw_g (lw_at lw_m6 178 rfl) rfl
theorem q1480 : (Jvm.Cond.methodLink "java/lang/Throwable" (49 : Nat) ({ cls := "java/lang/StringBuilder", name := "append", desc := "(Ljava/lang/String;)Ljava/lang/StringBuilder;" } : Jvm.MethodName)) ∈ lw_all := lw_g (lw_at lw_m6 179 rfl) rfl
theorem q1481 : (Jvm.Cond.stringRef "java/lang/Throwable" (81 : Nat) ": ") ∈ lw_tbl := lw_at lw_m6 180 rfl
theorem q1482 : (Jvm.Cond.methodLink "java/lang/Throwable" (60 : Nat) ({ cls := "java/lang/StringBuilder", name := "toString", desc := "()Ljava/lang/String;" } : Jvm.MethodName)) ∈ lw_all := lw_g (lw_at lw_m6 181 rfl) rfl
theorem q2150 : (Jvm.Cond.instanceMethod ({ cls := "java/lang/Throwable", name := "<init>", desc := "(Ljava/lang/String;Ljava/lang/Throwable;ZZ)V" } : Jvm.MethodName)) ∈ lw_all := lw_g (lw_at lw_m9 129 rfl) rfl
theorem q2151 : (Jvm.Cond.code ({ cls := "java/lang/Throwable", name := "<init>", desc := "(Ljava/lang/String;Ljava/lang/Throwable;ZZ)V" } : Jvm.MethodName) prog_40_method_5_code (5 : Nat) (Option.none : Option Jvm.ClassFile.FieldType)) ∈ lw_all := lw_g (lw_at lw_m9 130 rfl) rfl
theorem q3914 : (Jvm.Cond.sameMethod "java/lang/Throwable" "java/lang/Throwable" "fillInStackTrace" "(I)Ljava/lang/Throwable;") ∈ lw_all := lw_g (lw_at lw_m16 213 rfl) rfl
theorem q3993 : (Jvm.Cond.castable "java/lang/Throwable" "java/lang/Object") ∈ lw_tbl := lw_at lw_m17 52 rfl
theorem in_J15 : ∀ w ∈ wsJ150, w ∈ lw_all := lw_in wsJ150 [692, 694, 696, 698, 700] (by decide +kernel) (by decide +kernel)


/-! java/lang/Exception -/
set_option maxRecDepth 100000
def RJ16 : String := "java/lang/Exception"
abbrev cJ16_init_4 : ByteArray := prog_23_method_5_code
def yJ16_init_4 : MethodName := ⟨RJ16, "<init>", "(Ljava/lang/String;Ljava/lang/Throwable;ZZ)V"⟩
def dkwJ16_init_4_0 : List UInt8 := [42, 43, 44, 29, 21, 4, 183, 0, 16, 177]
abbrev dktJ16_init_4_0 : List UInt8 := dkwJ16_init_4_0 ++ []
theorem dksJ16_init_4_0 : cJ16_init_4.data.toList.drop 0 = dktJ16_init_4_0 := by decide +kernel
theorem dJ16_init_4_0 : decode cJ16_init_4 0 = .ok (.aload_n 0, 1) := dk_42 (dk_at dksJ16_init_4_0 0 rfl rfl)
theorem dJ16_init_4_1 : decode cJ16_init_4 1 = .ok (.aload_n 1, 1) := dk_43 (dk_at dksJ16_init_4_0 1 rfl rfl)
theorem dJ16_init_4_2 : decode cJ16_init_4 2 = .ok (.aload_n 2, 1) := dk_44 (dk_at dksJ16_init_4_0 2 rfl rfl)
theorem dJ16_init_4_3 : decode cJ16_init_4 3 = .ok (.iload_n 3, 1) := dk_29 (dk_at dksJ16_init_4_0 3 rfl rfl)
theorem dJ16_init_4_4 : decode cJ16_init_4 4 = .ok (.iload 4, 2) := dk_21 4 (dk_at dksJ16_init_4_0 4 rfl rfl)
theorem dJ16_init_4_6 : decode cJ16_init_4 6 = .ok (.invokespecial 16, 3) := dk_183 0 16 (dk_at dksJ16_init_4_0 6 rfl rfl)
theorem dJ16_init_4_9 : decode cJ16_init_4 9 = .ok (.return_, 1) := dk_177 (dk_at dksJ16_init_4_0 9 rfl rfl)
theorem q127 : (Jvm.Cond.initialized "java/lang/Exception") ∈ lw_all := lw_g (lw_at lw_m1 26 rfl) rfl
theorem q685 : (Jvm.Cond.declares ({ cls := "java/lang/Exception", name := "<init>", desc := "()V" } : Jvm.MethodName)) ∈ lw_tbl := lw_at lw_m3 104 rfl
theorem q686 : (Jvm.Cond.declares ({ cls := "java/lang/Exception", name := "<init>", desc := "(Ljava/lang/String;)V" } : Jvm.MethodName)) ∈ lw_tbl := lw_at lw_m3 105 rfl
theorem q953 : (Jvm.Cond.instanceMethod ({ cls := "java/lang/Exception", name := "<init>", desc := "(Ljava/lang/String;)V" } : Jvm.MethodName)) ∈ lw_all := lw_g (lw_at lw_m4 132 rfl) rfl
theorem q954 : (Jvm.Cond.code ({ cls := "java/lang/Exception", name := "<init>", desc := "(Ljava/lang/String;)V" } : Jvm.MethodName) prog_23_method_2_code (2 : Nat) (Option.none : Option Jvm.ClassFile.FieldType)) ∈ lw_all := lw_g (lw_at lw_m4 133 rfl) rfl
theorem q955 : (Jvm.Cond.methodLink "java/lang/Exception" (7 : Nat) ({ cls := "java/lang/Throwable", name := "<init>", desc := "(Ljava/lang/String;)V" } : Jvm.MethodName)) ∈ lw_all := lw_g (lw_at lw_m4 134 rfl) rfl
theorem q1433 : (Jvm.Cond.instanceMethod ({ cls := "java/lang/Exception", name := "<init>", desc := "(Ljava/lang/Throwable;)V" } : Jvm.MethodName)) ∈ lw_all := lw_g (lw_at lw_m6 132 rfl) rfl
theorem q1434 : (Jvm.Cond.code ({ cls := "java/lang/Exception", name := "<init>", desc := "(Ljava/lang/Throwable;)V" } : Jvm.MethodName) prog_23_method_4_code (2 : Nat) (Option.none : Option Jvm.ClassFile.FieldType)) ∈ lw_all := lw_g (lw_at lw_m6 133 rfl) rfl
theorem q1435 : (Jvm.Cond.methodLink "java/lang/Exception" (13 : Nat) ({ cls := "java/lang/Throwable", name := "<init>", desc := "(Ljava/lang/Throwable;)V" } : Jvm.MethodName)) ∈ lw_all := lw_g (lw_at lw_m6 134 rfl) rfl
theorem q2147 : (Jvm.Cond.instanceMethod ({ cls := "java/lang/Exception", name := "<init>", desc := "(Ljava/lang/String;Ljava/lang/Throwable;ZZ)V" } : Jvm.MethodName)) ∈ lw_all := lw_g (lw_at lw_m9 126 rfl) rfl
theorem q2148 : (Jvm.Cond.code ({ cls := "java/lang/Exception", name := "<init>", desc := "(Ljava/lang/String;Ljava/lang/Throwable;ZZ)V" } : Jvm.MethodName) prog_23_method_5_code (5 : Nat) (Option.none : Option Jvm.ClassFile.FieldType)) ∈ lw_all := lw_g (lw_at lw_m9 127 rfl) rfl
theorem q2149 : (Jvm.Cond.methodLink "java/lang/Exception" (16 : Nat) ({ cls := "java/lang/Throwable", name := "<init>", desc := "(Ljava/lang/String;Ljava/lang/Throwable;ZZ)V" } : Jvm.MethodName)) ∈ lw_all := lw_g (lw_at lw_m9 128 rfl) rfl

/-! TaxWorkbench$Reader -/
set_option maxRecDepth 100000
abbrev cX9_init : ByteArray := prog_9_method_1_code
def yX9_init : MethodName := ⟨RX9, "<init>", "(LTaxWorkbench;)V"⟩
def dkwX9_init_1 : List UInt8 := [181, 0, 31, 42, 4, 181, 0, 32, 177]
abbrev dktX9_init_1 : List UInt8 := dkwX9_init_1 ++ []
def dkwX9_init_0 : List UInt8 := [42, 43, 181, 0, 3, 42, 183, 0, 9, 42, 42, 180, 0, 3, 180, 0, 15, 180, 0, 19, 182, 0, 25]
abbrev dktX9_init_0 : List UInt8 := dkwX9_init_0 ++ dktX9_init_1
theorem dksX9_init_0 : cX9_init.data.toList.drop 0 = dktX9_init_0 := by decide +kernel
theorem dksX9_init_1 : cX9_init.data.toList.drop 23 = dktX9_init_1 := dk_seg dksX9_init_0 23 rfl rfl
theorem dX9_init_0 : decode cX9_init 0 = .ok (.aload_n 0, 1) := dk_42 (dk_at dksX9_init_0 0 rfl rfl)
theorem dX9_init_1 : decode cX9_init 1 = .ok (.aload_n 1, 1) := dk_43 (dk_at dksX9_init_0 1 rfl rfl)
theorem dX9_init_2 : decode cX9_init 2 = .ok (.putfield 3, 3) := dk_181 0 3 (dk_at dksX9_init_0 2 rfl rfl)
theorem dX9_init_5 : decode cX9_init 5 = .ok (.aload_n 0, 1) := dk_42 (dk_at dksX9_init_0 5 rfl rfl)
theorem dX9_init_6 : decode cX9_init 6 = .ok (.invokespecial 9, 3) := dk_183 0 9 (dk_at dksX9_init_0 6 rfl rfl)
theorem dX9_init_9 : decode cX9_init 9 = .ok (.aload_n 0, 1) := dk_42 (dk_at dksX9_init_0 9 rfl rfl)
theorem dX9_init_10 : decode cX9_init 10 = .ok (.aload_n 0, 1) := dk_42 (dk_at dksX9_init_0 10 rfl rfl)
theorem dX9_init_11 : decode cX9_init 11 = .ok (.getfield 3, 3) := dk_180 0 3 (dk_at dksX9_init_0 11 rfl rfl)
theorem dX9_init_14 : decode cX9_init 14 = .ok (.getfield 15, 3) := dk_180 0 15 (dk_at dksX9_init_0 14 rfl rfl)
theorem dX9_init_17 : decode cX9_init 17 = .ok (.getfield 19, 3) := dk_180 0 19 (dk_at dksX9_init_0 17 rfl rfl)
theorem dX9_init_20 : decode cX9_init 20 = .ok (.invokevirtual 25, 3) := dk_182 0 25 (dk_at dksX9_init_0 20 rfl rfl)
theorem dX9_init_23 : decode cX9_init 23 = .ok (.putfield 31, 3) := dk_181 0 31 (dk_at dksX9_init_1 0 rfl rfl)
theorem dX9_init_26 : decode cX9_init 26 = .ok (.aload_n 0, 1) := dk_42 (dk_at dksX9_init_1 3 rfl rfl)
theorem dX9_init_27 : decode cX9_init 27 = .ok (.iconst 1, 1) := dk_4 (dk_at dksX9_init_1 4 rfl rfl)
theorem dX9_init_28 : decode cX9_init 28 = .ok (.putfield 32, 3) := dk_181 0 32 (dk_at dksX9_init_1 5 rfl rfl)
theorem dX9_init_31 : decode cX9_init 31 = .ok (.return_, 1) := dk_177 (dk_at dksX9_init_1 8 rfl rfl)
abbrev cX9_all : ByteArray := prog_9_method_13_code
def yX9_all : MethodName := ⟨RX9, "all", "()V"⟩
def dkwX9_all_1 : List UInt8 := [16, 59, 160, 0, 7, 4, 167, 0, 4, 3, 182, 0, 64, 42, 182, 0, 182, 167, 255, 220, 177]
abbrev dktX9_all_1 : List UInt8 := dkwX9_all_1 ++ []
def dkwX9_all_0 : List UInt8 := [42, 182, 0, 182, 42, 180, 0, 36, 42, 180, 0, 3, 180, 0, 40, 162, 0, 28, 42, 42, 182, 0, 52]
abbrev dktX9_all_0 : List UInt8 := dkwX9_all_0 ++ dktX9_all_1
theorem dksX9_all_0 : cX9_all.data.toList.drop 0 = dktX9_all_0 := by decide +kernel
theorem dksX9_all_1 : cX9_all.data.toList.drop 23 = dktX9_all_1 := dk_seg dksX9_all_0 23 rfl rfl
theorem dX9_all_0 : decode cX9_all 0 = .ok (.aload_n 0, 1) := dk_42 (dk_at dksX9_all_0 0 rfl rfl)
theorem dX9_all_1 : decode cX9_all 1 = .ok (.invokevirtual 182, 3) := dk_182 0 182 (dk_at dksX9_all_0 1 rfl rfl)
theorem dX9_all_4 : decode cX9_all 4 = .ok (.aload_n 0, 1) := dk_42 (dk_at dksX9_all_0 4 rfl rfl)
theorem dX9_all_5 : decode cX9_all 5 = .ok (.getfield 36, 3) := dk_180 0 36 (dk_at dksX9_all_0 5 rfl rfl)
theorem dX9_all_8 : decode cX9_all 8 = .ok (.aload_n 0, 1) := dk_42 (dk_at dksX9_all_0 8 rfl rfl)
theorem dX9_all_9 : decode cX9_all 9 = .ok (.getfield 3, 3) := dk_180 0 3 (dk_at dksX9_all_0 9 rfl rfl)
theorem dX9_all_12 : decode cX9_all 12 = .ok (.getfield 40, 3) := dk_180 0 40 (dk_at dksX9_all_0 12 rfl rfl)
theorem dX9_all_15 : decode cX9_all 15 = .ok (.if_icmp .ge 28, 3) := dk_162 0 28 (dk_at dksX9_all_0 15 rfl rfl)
theorem dX9_all_18 : decode cX9_all 18 = .ok (.aload_n 0, 1) := dk_42 (dk_at dksX9_all_0 18 rfl rfl)
theorem dX9_all_19 : decode cX9_all 19 = .ok (.aload_n 0, 1) := dk_42 (dk_at dksX9_all_0 19 rfl rfl)
theorem dX9_all_20 : decode cX9_all 20 = .ok (.invokevirtual 52, 3) := dk_182 0 52 (dk_at dksX9_all_0 20 rfl rfl)
theorem dX9_all_23 : decode cX9_all 23 = .ok (.bipush 59, 2) := dk_16 59 (dk_at dksX9_all_1 0 rfl rfl)
theorem dX9_all_25 : decode cX9_all 25 = .ok (.if_icmp .ne 7, 3) := dk_160 0 7 (dk_at dksX9_all_1 2 rfl rfl)
theorem dX9_all_28 : decode cX9_all 28 = .ok (.iconst 1, 1) := dk_4 (dk_at dksX9_all_1 5 rfl rfl)
theorem dX9_all_29 : decode cX9_all 29 = .ok (.goto 4, 3) := dk_167 0 4 (dk_at dksX9_all_1 6 rfl rfl)
theorem dX9_all_32 : decode cX9_all 32 = .ok (.iconst 0, 1) := dk_3 (dk_at dksX9_all_1 9 rfl rfl)
theorem dX9_all_33 : decode cX9_all 33 = .ok (.invokevirtual 64, 3) := dk_182 0 64 (dk_at dksX9_all_1 10 rfl rfl)
theorem dX9_all_36 : decode cX9_all 36 = .ok (.aload_n 0, 1) := dk_42 (dk_at dksX9_all_1 13 rfl rfl)
theorem dX9_all_37 : decode cX9_all 37 = .ok (.invokevirtual 182, 3) := dk_182 0 182 (dk_at dksX9_all_1 14 rfl rfl)
theorem dX9_all_40 : decode cX9_all 40 = .ok (.goto (-36), 3) := dk_167 255 220 (dk_at dksX9_all_1 17 rfl rfl)
theorem dX9_all_43 : decode cX9_all 43 = .ok (.return_, 1) := dk_177 (dk_at dksX9_all_1 20 rfl rfl)
abbrev cX9_item : ByteArray := prog_9_method_11_code
def yX9_item : MethodName := ⟨RX9, "item", "()V"⟩
def dkwX9_item_6 : List UInt8 := [182, 0, 165, 126, 181, 0, 32, 177]
abbrev dktX9_item_6 : List UInt8 := dkwX9_item_6 ++ []
def dkwX9_item_5 : List UInt8 := [182, 0, 137, 182, 0, 159, 42, 89, 180, 0, 162, 4, 96, 181, 0, 162, 42, 89, 180, 0, 32, 42]
abbrev dktX9_item_5 : List UInt8 := dkwX9_item_5 ++ dktX9_item_6
def dkwX9_item_4 : List UInt8 := [180, 0, 31, 180, 0, 153, 182, 0, 149, 167, 0, 20, 42, 182, 0, 156, 167, 0, 13, 42, 18, 135, 27]
abbrev dktX9_item_4 : List UInt8 := dkwX9_item_4 ++ dktX9_item_5
def dkwX9_item_3 : List UInt8 := [42, 182, 0, 143, 167, 0, 48, 42, 42, 180, 0, 31, 180, 0, 145, 182, 0, 149, 167, 0, 34, 42, 42]
abbrev dktX9_item_3 : List UInt8 := dkwX9_item_3 ++ dktX9_item_4
def dkwX9_item_2 : List UInt8 := [171, 0, 0, 0, 0, 0, 0, 86, 0, 0, 0, 4, 0, 0, 0, 97, 0, 0, 0, 51, 0, 0, 0, 98, 0, 0, 0, 44, 0, 0, 0, 99, 0, 0, 0, 79, 0, 0, 0, 109, 0, 0, 0, 65]
abbrev dktX9_item_2 : List UInt8 := dkwX9_item_2 ++ dktX9_item_3
def dkwX9_item_1 : List UInt8 := [27, 16, 99, 159, 0, 12, 18, 135, 27, 182, 0, 137, 155, 0, 7, 4, 167, 0, 4, 3, 182, 0, 64, 27]
abbrev dktX9_item_1 : List UInt8 := dkwX9_item_1 ++ dktX9_item_2
def dkwX9_item_0 : List UInt8 := [42, 182, 0, 52, 60, 42, 27, 16, 98, 159, 0, 30, 27, 16, 97, 159, 0, 24, 27, 16, 109, 159, 0, 18]
abbrev dktX9_item_0 : List UInt8 := dkwX9_item_0 ++ dktX9_item_1
theorem dksX9_item_0 : cX9_item.data.toList.drop 0 = dktX9_item_0 := by decide +kernel
theorem dksX9_item_1 : cX9_item.data.toList.drop 24 = dktX9_item_1 := dk_seg dksX9_item_0 24 rfl rfl
theorem dksX9_item_2 : cX9_item.data.toList.drop 48 = dktX9_item_2 := dk_seg dksX9_item_1 24 rfl rfl
theorem dksX9_item_3 : cX9_item.data.toList.drop 92 = dktX9_item_3 := dk_seg dksX9_item_2 44 rfl rfl
theorem dksX9_item_4 : cX9_item.data.toList.drop 115 = dktX9_item_4 := dk_seg dksX9_item_3 23 rfl rfl
theorem dksX9_item_5 : cX9_item.data.toList.drop 138 = dktX9_item_5 := dk_seg dksX9_item_4 23 rfl rfl
theorem dksX9_item_6 : cX9_item.data.toList.drop 160 = dktX9_item_6 := dk_seg dksX9_item_5 22 rfl rfl
theorem dX9_item_0 : decode cX9_item 0 = .ok (.aload_n 0, 1) := dk_42 (dk_at dksX9_item_0 0 rfl rfl)
theorem dX9_item_1 : decode cX9_item 1 = .ok (.invokevirtual 52, 3) := dk_182 0 52 (dk_at dksX9_item_0 1 rfl rfl)
theorem dX9_item_4 : decode cX9_item 4 = .ok (.istore_n 1, 1) := dk_60 (dk_at dksX9_item_0 4 rfl rfl)
theorem dX9_item_5 : decode cX9_item 5 = .ok (.aload_n 0, 1) := dk_42 (dk_at dksX9_item_0 5 rfl rfl)
theorem dX9_item_6 : decode cX9_item 6 = .ok (.iload_n 1, 1) := dk_27 (dk_at dksX9_item_0 6 rfl rfl)
theorem dX9_item_7 : decode cX9_item 7 = .ok (.bipush 98, 2) := dk_16 98 (dk_at dksX9_item_0 7 rfl rfl)
theorem dX9_item_9 : decode cX9_item 9 = .ok (.if_icmp .eq 30, 3) := dk_159 0 30 (dk_at dksX9_item_0 9 rfl rfl)
theorem dX9_item_12 : decode cX9_item 12 = .ok (.iload_n 1, 1) := dk_27 (dk_at dksX9_item_0 12 rfl rfl)
theorem dX9_item_13 : decode cX9_item 13 = .ok (.bipush 97, 2) := dk_16 97 (dk_at dksX9_item_0 13 rfl rfl)
theorem dX9_item_15 : decode cX9_item 15 = .ok (.if_icmp .eq 24, 3) := dk_159 0 24 (dk_at dksX9_item_0 15 rfl rfl)
theorem dX9_item_18 : decode cX9_item 18 = .ok (.iload_n 1, 1) := dk_27 (dk_at dksX9_item_0 18 rfl rfl)
theorem dX9_item_19 : decode cX9_item 19 = .ok (.bipush 109, 2) := dk_16 109 (dk_at dksX9_item_0 19 rfl rfl)
theorem dX9_item_21 : decode cX9_item 21 = .ok (.if_icmp .eq 18, 3) := dk_159 0 18 (dk_at dksX9_item_0 21 rfl rfl)
theorem dX9_item_24 : decode cX9_item 24 = .ok (.iload_n 1, 1) := dk_27 (dk_at dksX9_item_1 0 rfl rfl)
theorem dX9_item_25 : decode cX9_item 25 = .ok (.bipush 99, 2) := dk_16 99 (dk_at dksX9_item_1 1 rfl rfl)
theorem dX9_item_27 : decode cX9_item 27 = .ok (.if_icmp .eq 12, 3) := dk_159 0 12 (dk_at dksX9_item_1 3 rfl rfl)
theorem dX9_item_30 : decode cX9_item 30 = .ok (.ldc 135, 2) := dk_18 135 (dk_at dksX9_item_1 6 rfl rfl)
theorem dX9_item_32 : decode cX9_item 32 = .ok (.iload_n 1, 1) := dk_27 (dk_at dksX9_item_1 8 rfl rfl)
theorem dX9_item_33 : decode cX9_item 33 = .ok (.invokevirtual 137, 3) := dk_182 0 137 (dk_at dksX9_item_1 9 rfl rfl)
theorem dX9_item_36 : decode cX9_item 36 = .ok (.ifCond .lt 7, 3) := dk_155 0 7 (dk_at dksX9_item_1 12 rfl rfl)
theorem dX9_item_39 : decode cX9_item 39 = .ok (.iconst 1, 1) := dk_4 (dk_at dksX9_item_1 15 rfl rfl)
theorem dX9_item_40 : decode cX9_item 40 = .ok (.goto 4, 3) := dk_167 0 4 (dk_at dksX9_item_1 16 rfl rfl)
theorem dX9_item_43 : decode cX9_item 43 = .ok (.iconst 0, 1) := dk_3 (dk_at dksX9_item_1 19 rfl rfl)
theorem dX9_item_44 : decode cX9_item 44 = .ok (.invokevirtual 64, 3) := dk_182 0 64 (dk_at dksX9_item_1 20 rfl rfl)
theorem dX9_item_47 : decode cX9_item 47 = .ok (.iload_n 1, 1) := dk_27 (dk_at dksX9_item_1 23 rfl rfl)
theorem dX9_item_48 : decode cX9_item 48 = .ok (.lookupswitch 86 #[(97, 51), (98, 44), (99, 79), (109, 65)], 44) := by decide +kernel
theorem dX9_item_92 : decode cX9_item 92 = .ok (.aload_n 0, 1) := dk_42 (dk_at dksX9_item_3 0 rfl rfl)
theorem dX9_item_93 : decode cX9_item 93 = .ok (.invokevirtual 143, 3) := dk_182 0 143 (dk_at dksX9_item_3 1 rfl rfl)
theorem dX9_item_96 : decode cX9_item 96 = .ok (.goto 48, 3) := dk_167 0 48 (dk_at dksX9_item_3 4 rfl rfl)
theorem dX9_item_99 : decode cX9_item 99 = .ok (.aload_n 0, 1) := dk_42 (dk_at dksX9_item_3 7 rfl rfl)
theorem dX9_item_100 : decode cX9_item 100 = .ok (.aload_n 0, 1) := dk_42 (dk_at dksX9_item_3 8 rfl rfl)
theorem dX9_item_101 : decode cX9_item 101 = .ok (.getfield 31, 3) := dk_180 0 31 (dk_at dksX9_item_3 9 rfl rfl)
theorem dX9_item_104 : decode cX9_item 104 = .ok (.getfield 145, 3) := dk_180 0 145 (dk_at dksX9_item_3 12 rfl rfl)
theorem dX9_item_107 : decode cX9_item 107 = .ok (.invokevirtual 149, 3) := dk_182 0 149 (dk_at dksX9_item_3 15 rfl rfl)
theorem dX9_item_110 : decode cX9_item 110 = .ok (.goto 34, 3) := dk_167 0 34 (dk_at dksX9_item_3 18 rfl rfl)
theorem dX9_item_113 : decode cX9_item 113 = .ok (.aload_n 0, 1) := dk_42 (dk_at dksX9_item_3 21 rfl rfl)
theorem dX9_item_114 : decode cX9_item 114 = .ok (.aload_n 0, 1) := dk_42 (dk_at dksX9_item_3 22 rfl rfl)
theorem dX9_item_115 : decode cX9_item 115 = .ok (.getfield 31, 3) := dk_180 0 31 (dk_at dksX9_item_4 0 rfl rfl)
theorem dX9_item_118 : decode cX9_item 118 = .ok (.getfield 153, 3) := dk_180 0 153 (dk_at dksX9_item_4 3 rfl rfl)
theorem dX9_item_121 : decode cX9_item 121 = .ok (.invokevirtual 149, 3) := dk_182 0 149 (dk_at dksX9_item_4 6 rfl rfl)
theorem dX9_item_124 : decode cX9_item 124 = .ok (.goto 20, 3) := dk_167 0 20 (dk_at dksX9_item_4 9 rfl rfl)
theorem dX9_item_127 : decode cX9_item 127 = .ok (.aload_n 0, 1) := dk_42 (dk_at dksX9_item_4 12 rfl rfl)
theorem dX9_item_128 : decode cX9_item 128 = .ok (.invokevirtual 156, 3) := dk_182 0 156 (dk_at dksX9_item_4 13 rfl rfl)
theorem dX9_item_131 : decode cX9_item 131 = .ok (.goto 13, 3) := dk_167 0 13 (dk_at dksX9_item_4 16 rfl rfl)
theorem dX9_item_134 : decode cX9_item 134 = .ok (.aload_n 0, 1) := dk_42 (dk_at dksX9_item_4 19 rfl rfl)
theorem dX9_item_135 : decode cX9_item 135 = .ok (.ldc 135, 2) := dk_18 135 (dk_at dksX9_item_4 20 rfl rfl)
theorem dX9_item_137 : decode cX9_item 137 = .ok (.iload_n 1, 1) := dk_27 (dk_at dksX9_item_4 22 rfl rfl)
theorem dX9_item_138 : decode cX9_item 138 = .ok (.invokevirtual 137, 3) := dk_182 0 137 (dk_at dksX9_item_5 0 rfl rfl)
theorem dX9_item_141 : decode cX9_item 141 = .ok (.invokevirtual 159, 3) := dk_182 0 159 (dk_at dksX9_item_5 3 rfl rfl)
theorem dX9_item_144 : decode cX9_item 144 = .ok (.aload_n 0, 1) := dk_42 (dk_at dksX9_item_5 6 rfl rfl)
theorem dX9_item_145 : decode cX9_item 145 = .ok (.dup, 1) := dk_89 (dk_at dksX9_item_5 7 rfl rfl)
theorem dX9_item_146 : decode cX9_item 146 = .ok (.getfield 162, 3) := dk_180 0 162 (dk_at dksX9_item_5 8 rfl rfl)
theorem dX9_item_149 : decode cX9_item 149 = .ok (.iconst 1, 1) := dk_4 (dk_at dksX9_item_5 11 rfl rfl)
theorem dX9_item_150 : decode cX9_item 150 = .ok (.iadd, 1) := dk_96 (dk_at dksX9_item_5 12 rfl rfl)
theorem dX9_item_151 : decode cX9_item 151 = .ok (.putfield 162, 3) := dk_181 0 162 (dk_at dksX9_item_5 13 rfl rfl)
theorem dX9_item_154 : decode cX9_item 154 = .ok (.aload_n 0, 1) := dk_42 (dk_at dksX9_item_5 16 rfl rfl)
theorem dX9_item_155 : decode cX9_item 155 = .ok (.dup, 1) := dk_89 (dk_at dksX9_item_5 17 rfl rfl)
theorem dX9_item_156 : decode cX9_item 156 = .ok (.getfield 32, 3) := dk_180 0 32 (dk_at dksX9_item_5 18 rfl rfl)
theorem dX9_item_159 : decode cX9_item 159 = .ok (.aload_n 0, 1) := dk_42 (dk_at dksX9_item_5 21 rfl rfl)
theorem dX9_item_160 : decode cX9_item 160 = .ok (.invokevirtual 165, 3) := dk_182 0 165 (dk_at dksX9_item_6 0 rfl rfl)
theorem dX9_item_163 : decode cX9_item 163 = .ok (.iand, 1) := dk_126 (dk_at dksX9_item_6 3 rfl rfl)
theorem dX9_item_164 : decode cX9_item 164 = .ok (.putfield 32, 3) := dk_181 0 32 (dk_at dksX9_item_6 4 rfl rfl)
theorem dX9_item_167 : decode cX9_item 167 = .ok (.return_, 1) := dk_177 (dk_at dksX9_item_6 7 rfl rfl)
abbrev cX9_here : ByteArray := prog_9_method_2_code
def yX9_here : MethodName := ⟨RX9, "here", "()C"⟩
def dkwX9_here_1 : List UInt8 := [180, 0, 36, 52, 167, 0, 5, 16, 32, 172]
abbrev dktX9_here_1 : List UInt8 := dkwX9_here_1 ++ []
def dkwX9_here_0 : List UInt8 := [42, 180, 0, 36, 42, 180, 0, 3, 180, 0, 40, 162, 0, 18, 42, 180, 0, 3, 180, 0, 43, 42]
abbrev dktX9_here_0 : List UInt8 := dkwX9_here_0 ++ dktX9_here_1
theorem dksX9_here_0 : cX9_here.data.toList.drop 0 = dktX9_here_0 := by decide +kernel
theorem dksX9_here_1 : cX9_here.data.toList.drop 22 = dktX9_here_1 := dk_seg dksX9_here_0 22 rfl rfl
theorem dX9_here_0 : decode cX9_here 0 = .ok (.aload_n 0, 1) := dk_42 (dk_at dksX9_here_0 0 rfl rfl)
theorem dX9_here_1 : decode cX9_here 1 = .ok (.getfield 36, 3) := dk_180 0 36 (dk_at dksX9_here_0 1 rfl rfl)
theorem dX9_here_4 : decode cX9_here 4 = .ok (.aload_n 0, 1) := dk_42 (dk_at dksX9_here_0 4 rfl rfl)
theorem dX9_here_5 : decode cX9_here 5 = .ok (.getfield 3, 3) := dk_180 0 3 (dk_at dksX9_here_0 5 rfl rfl)
theorem dX9_here_8 : decode cX9_here 8 = .ok (.getfield 40, 3) := dk_180 0 40 (dk_at dksX9_here_0 8 rfl rfl)
theorem dX9_here_11 : decode cX9_here 11 = .ok (.if_icmp .ge 18, 3) := dk_162 0 18 (dk_at dksX9_here_0 11 rfl rfl)
theorem dX9_here_14 : decode cX9_here 14 = .ok (.aload_n 0, 1) := dk_42 (dk_at dksX9_here_0 14 rfl rfl)
theorem dX9_here_15 : decode cX9_here 15 = .ok (.getfield 3, 3) := dk_180 0 3 (dk_at dksX9_here_0 15 rfl rfl)
theorem dX9_here_18 : decode cX9_here 18 = .ok (.getfield 43, 3) := dk_180 0 43 (dk_at dksX9_here_0 18 rfl rfl)
theorem dX9_here_21 : decode cX9_here 21 = .ok (.aload_n 0, 1) := dk_42 (dk_at dksX9_here_0 21 rfl rfl)
theorem dX9_here_22 : decode cX9_here 22 = .ok (.getfield 36, 3) := dk_180 0 36 (dk_at dksX9_here_1 0 rfl rfl)
theorem dX9_here_25 : decode cX9_here 25 = .ok (.caload, 1) := dk_52 (dk_at dksX9_here_1 3 rfl rfl)
theorem dX9_here_26 : decode cX9_here 26 = .ok (.goto 5, 3) := dk_167 0 5 (dk_at dksX9_here_1 4 rfl rfl)
theorem dX9_here_29 : decode cX9_here 29 = .ok (.bipush 32, 2) := dk_16 32 (dk_at dksX9_here_1 7 rfl rfl)
theorem dX9_here_31 : decode cX9_here 31 = .ok (.ireturn, 1) := dk_172 (dk_at dksX9_here_1 9 rfl rfl)
abbrev cX9_pass : ByteArray := prog_9_method_3_code
def yX9_pass : MethodName := ⟨RX9, "pass", "(Z)V"⟩
def dkwX9_pass_1 : List UInt8 := [181, 0, 36, 177]
abbrev dktX9_pass_1 : List UInt8 := dkwX9_pass_1 ++ []
def dkwX9_pass_0 : List UInt8 := [27, 154, 0, 15, 187, 0, 47, 89, 42, 180, 0, 36, 183, 0, 49, 191, 42, 89, 180, 0, 36, 4, 96]
abbrev dktX9_pass_0 : List UInt8 := dkwX9_pass_0 ++ dktX9_pass_1
theorem dksX9_pass_0 : cX9_pass.data.toList.drop 0 = dktX9_pass_0 := by decide +kernel
theorem dksX9_pass_1 : cX9_pass.data.toList.drop 23 = dktX9_pass_1 := dk_seg dksX9_pass_0 23 rfl rfl
theorem dX9_pass_0 : decode cX9_pass 0 = .ok (.iload_n 1, 1) := dk_27 (dk_at dksX9_pass_0 0 rfl rfl)
theorem dX9_pass_1 : decode cX9_pass 1 = .ok (.ifCond .ne 15, 3) := dk_154 0 15 (dk_at dksX9_pass_0 1 rfl rfl)
theorem dX9_pass_4 : decode cX9_pass 4 = .ok (.new 47, 3) := dk_187 0 47 (dk_at dksX9_pass_0 4 rfl rfl)
theorem dX9_pass_7 : decode cX9_pass 7 = .ok (.dup, 1) := dk_89 (dk_at dksX9_pass_0 7 rfl rfl)
theorem dX9_pass_8 : decode cX9_pass 8 = .ok (.aload_n 0, 1) := dk_42 (dk_at dksX9_pass_0 8 rfl rfl)
theorem dX9_pass_9 : decode cX9_pass 9 = .ok (.getfield 36, 3) := dk_180 0 36 (dk_at dksX9_pass_0 9 rfl rfl)
theorem dX9_pass_12 : decode cX9_pass 12 = .ok (.invokespecial 49, 3) := dk_183 0 49 (dk_at dksX9_pass_0 12 rfl rfl)
theorem dX9_pass_15 : decode cX9_pass 15 = .ok (.athrow, 1) := dk_191 (dk_at dksX9_pass_0 15 rfl rfl)
theorem dX9_pass_16 : decode cX9_pass 16 = .ok (.aload_n 0, 1) := dk_42 (dk_at dksX9_pass_0 16 rfl rfl)
theorem dX9_pass_17 : decode cX9_pass 17 = .ok (.dup, 1) := dk_89 (dk_at dksX9_pass_0 17 rfl rfl)
theorem dX9_pass_18 : decode cX9_pass 18 = .ok (.getfield 36, 3) := dk_180 0 36 (dk_at dksX9_pass_0 18 rfl rfl)
theorem dX9_pass_21 : decode cX9_pass 21 = .ok (.iconst 1, 1) := dk_4 (dk_at dksX9_pass_0 21 rfl rfl)
theorem dX9_pass_22 : decode cX9_pass 22 = .ok (.iadd, 1) := dk_96 (dk_at dksX9_pass_0 22 rfl rfl)
theorem dX9_pass_23 : decode cX9_pass 23 = .ok (.putfield 36, 3) := dk_181 0 36 (dk_at dksX9_pass_1 0 rfl rfl)
theorem dX9_pass_26 : decode cX9_pass 26 = .ok (.return_, 1) := dk_177 (dk_at dksX9_pass_1 3 rfl rfl)
abbrev cX9_brackets : ByteArray := prog_9_method_7_code
def yX9_brackets : MethodName := ⟨RX9, "brackets", "()V"⟩
def dkwX9_brackets_4 : List UInt8 := [181, 0, 96, 177]
abbrev dktX9_brackets_4 : List UInt8 := dkwX9_brackets_4 ++ []
def dkwX9_brackets_3 : List UInt8 := [180, 0, 36, 28, 153, 0, 7, 4, 167, 0, 4, 3, 96, 181, 0, 36, 167, 255, 179, 42, 180, 0, 31, 43]
abbrev dktX9_brackets_3 : List UInt8 := dkwX9_brackets_3 ++ dktX9_brackets_4
def dkwX9_brackets_2 : List UInt8 := [183, 0, 93, 182, 0, 81, 87, 42, 182, 0, 52, 16, 44, 160, 0, 7, 4, 167, 0, 4, 3, 61, 42, 89]
abbrev dktX9_brackets_2 : List UInt8 := dkwX9_brackets_2 ++ dktX9_brackets_3
def dkwX9_brackets_1 : List UInt8 := [16, 58, 160, 0, 7, 4, 167, 0, 4, 3, 182, 0, 64, 43, 187, 0, 91, 89, 29, 42, 182, 0, 71]
abbrev dktX9_brackets_1 : List UInt8 := dkwX9_brackets_1 ++ dktX9_brackets_2
def dkwX9_brackets_0 : List UInt8 := [187, 0, 68, 89, 183, 0, 70, 76, 4, 61, 28, 153, 0, 79, 42, 182, 0, 71, 62, 42, 42, 182, 0, 52]
abbrev dktX9_brackets_0 : List UInt8 := dkwX9_brackets_0 ++ dktX9_brackets_1
theorem dksX9_brackets_0 : cX9_brackets.data.toList.drop 0 = dktX9_brackets_0 := by decide +kernel
theorem dksX9_brackets_1 : cX9_brackets.data.toList.drop 24 = dktX9_brackets_1 := dk_seg dksX9_brackets_0 24 rfl rfl
theorem dksX9_brackets_2 : cX9_brackets.data.toList.drop 47 = dktX9_brackets_2 := dk_seg dksX9_brackets_1 23 rfl rfl
theorem dksX9_brackets_3 : cX9_brackets.data.toList.drop 71 = dktX9_brackets_3 := dk_seg dksX9_brackets_2 24 rfl rfl
theorem dksX9_brackets_4 : cX9_brackets.data.toList.drop 95 = dktX9_brackets_4 := dk_seg dksX9_brackets_3 24 rfl rfl
theorem dX9_brackets_0 : decode cX9_brackets 0 = .ok (.new 68, 3) := dk_187 0 68 (dk_at dksX9_brackets_0 0 rfl rfl)
theorem dX9_brackets_3 : decode cX9_brackets 3 = .ok (.dup, 1) := dk_89 (dk_at dksX9_brackets_0 3 rfl rfl)
theorem dX9_brackets_4 : decode cX9_brackets 4 = .ok (.invokespecial 70, 3) := dk_183 0 70 (dk_at dksX9_brackets_0 4 rfl rfl)
theorem dX9_brackets_7 : decode cX9_brackets 7 = .ok (.astore_n 1, 1) := dk_76 (dk_at dksX9_brackets_0 7 rfl rfl)
theorem dX9_brackets_8 : decode cX9_brackets 8 = .ok (.iconst 1, 1) := dk_4 (dk_at dksX9_brackets_0 8 rfl rfl)
theorem dX9_brackets_9 : decode cX9_brackets 9 = .ok (.istore_n 2, 1) := dk_61 (dk_at dksX9_brackets_0 9 rfl rfl)
theorem dX9_brackets_10 : decode cX9_brackets 10 = .ok (.iload_n 2, 1) := dk_28 (dk_at dksX9_brackets_0 10 rfl rfl)
theorem dX9_brackets_11 : decode cX9_brackets 11 = .ok (.ifCond .eq 79, 3) := dk_153 0 79 (dk_at dksX9_brackets_0 11 rfl rfl)
theorem dX9_brackets_14 : decode cX9_brackets 14 = .ok (.aload_n 0, 1) := dk_42 (dk_at dksX9_brackets_0 14 rfl rfl)
theorem dX9_brackets_15 : decode cX9_brackets 15 = .ok (.invokevirtual 71, 3) := dk_182 0 71 (dk_at dksX9_brackets_0 15 rfl rfl)
theorem dX9_brackets_18 : decode cX9_brackets 18 = .ok (.istore_n 3, 1) := dk_62 (dk_at dksX9_brackets_0 18 rfl rfl)
theorem dX9_brackets_19 : decode cX9_brackets 19 = .ok (.aload_n 0, 1) := dk_42 (dk_at dksX9_brackets_0 19 rfl rfl)
theorem dX9_brackets_20 : decode cX9_brackets 20 = .ok (.aload_n 0, 1) := dk_42 (dk_at dksX9_brackets_0 20 rfl rfl)
theorem dX9_brackets_21 : decode cX9_brackets 21 = .ok (.invokevirtual 52, 3) := dk_182 0 52 (dk_at dksX9_brackets_0 21 rfl rfl)
theorem dX9_brackets_24 : decode cX9_brackets 24 = .ok (.bipush 58, 2) := dk_16 58 (dk_at dksX9_brackets_1 0 rfl rfl)
theorem dX9_brackets_26 : decode cX9_brackets 26 = .ok (.if_icmp .ne 7, 3) := dk_160 0 7 (dk_at dksX9_brackets_1 2 rfl rfl)
theorem dX9_brackets_29 : decode cX9_brackets 29 = .ok (.iconst 1, 1) := dk_4 (dk_at dksX9_brackets_1 5 rfl rfl)
theorem dX9_brackets_30 : decode cX9_brackets 30 = .ok (.goto 4, 3) := dk_167 0 4 (dk_at dksX9_brackets_1 6 rfl rfl)
theorem dX9_brackets_33 : decode cX9_brackets 33 = .ok (.iconst 0, 1) := dk_3 (dk_at dksX9_brackets_1 9 rfl rfl)
theorem dX9_brackets_34 : decode cX9_brackets 34 = .ok (.invokevirtual 64, 3) := dk_182 0 64 (dk_at dksX9_brackets_1 10 rfl rfl)
theorem dX9_brackets_37 : decode cX9_brackets 37 = .ok (.aload_n 1, 1) := dk_43 (dk_at dksX9_brackets_1 13 rfl rfl)
theorem dX9_brackets_38 : decode cX9_brackets 38 = .ok (.new 91, 3) := dk_187 0 91 (dk_at dksX9_brackets_1 14 rfl rfl)
theorem dX9_brackets_41 : decode cX9_brackets 41 = .ok (.dup, 1) := dk_89 (dk_at dksX9_brackets_1 17 rfl rfl)
theorem dX9_brackets_42 : decode cX9_brackets 42 = .ok (.iload_n 3, 1) := dk_29 (dk_at dksX9_brackets_1 18 rfl rfl)
theorem dX9_brackets_43 : decode cX9_brackets 43 = .ok (.aload_n 0, 1) := dk_42 (dk_at dksX9_brackets_1 19 rfl rfl)
theorem dX9_brackets_44 : decode cX9_brackets 44 = .ok (.invokevirtual 71, 3) := dk_182 0 71 (dk_at dksX9_brackets_1 20 rfl rfl)
theorem dX9_brackets_47 : decode cX9_brackets 47 = .ok (.invokespecial 93, 3) := dk_183 0 93 (dk_at dksX9_brackets_2 0 rfl rfl)
theorem dX9_brackets_50 : decode cX9_brackets 50 = .ok (.invokevirtual 81, 3) := dk_182 0 81 (dk_at dksX9_brackets_2 3 rfl rfl)
theorem dX9_brackets_53 : decode cX9_brackets 53 = .ok (.pop, 1) := dk_87 (dk_at dksX9_brackets_2 6 rfl rfl)
theorem dX9_brackets_54 : decode cX9_brackets 54 = .ok (.aload_n 0, 1) := dk_42 (dk_at dksX9_brackets_2 7 rfl rfl)
theorem dX9_brackets_55 : decode cX9_brackets 55 = .ok (.invokevirtual 52, 3) := dk_182 0 52 (dk_at dksX9_brackets_2 8 rfl rfl)
theorem dX9_brackets_58 : decode cX9_brackets 58 = .ok (.bipush 44, 2) := dk_16 44 (dk_at dksX9_brackets_2 11 rfl rfl)
theorem dX9_brackets_60 : decode cX9_brackets 60 = .ok (.if_icmp .ne 7, 3) := dk_160 0 7 (dk_at dksX9_brackets_2 13 rfl rfl)
theorem dX9_brackets_63 : decode cX9_brackets 63 = .ok (.iconst 1, 1) := dk_4 (dk_at dksX9_brackets_2 16 rfl rfl)
theorem dX9_brackets_64 : decode cX9_brackets 64 = .ok (.goto 4, 3) := dk_167 0 4 (dk_at dksX9_brackets_2 17 rfl rfl)
theorem dX9_brackets_67 : decode cX9_brackets 67 = .ok (.iconst 0, 1) := dk_3 (dk_at dksX9_brackets_2 20 rfl rfl)
theorem dX9_brackets_68 : decode cX9_brackets 68 = .ok (.istore_n 2, 1) := dk_61 (dk_at dksX9_brackets_2 21 rfl rfl)
theorem dX9_brackets_69 : decode cX9_brackets 69 = .ok (.aload_n 0, 1) := dk_42 (dk_at dksX9_brackets_2 22 rfl rfl)
theorem dX9_brackets_70 : decode cX9_brackets 70 = .ok (.dup, 1) := dk_89 (dk_at dksX9_brackets_2 23 rfl rfl)
theorem dX9_brackets_71 : decode cX9_brackets 71 = .ok (.getfield 36, 3) := dk_180 0 36 (dk_at dksX9_brackets_3 0 rfl rfl)
theorem dX9_brackets_74 : decode cX9_brackets 74 = .ok (.iload_n 2, 1) := dk_28 (dk_at dksX9_brackets_3 3 rfl rfl)
theorem dX9_brackets_75 : decode cX9_brackets 75 = .ok (.ifCond .eq 7, 3) := dk_153 0 7 (dk_at dksX9_brackets_3 4 rfl rfl)
theorem dX9_brackets_78 : decode cX9_brackets 78 = .ok (.iconst 1, 1) := dk_4 (dk_at dksX9_brackets_3 7 rfl rfl)
theorem dX9_brackets_79 : decode cX9_brackets 79 = .ok (.goto 4, 3) := dk_167 0 4 (dk_at dksX9_brackets_3 8 rfl rfl)
theorem dX9_brackets_82 : decode cX9_brackets 82 = .ok (.iconst 0, 1) := dk_3 (dk_at dksX9_brackets_3 11 rfl rfl)
theorem dX9_brackets_83 : decode cX9_brackets 83 = .ok (.iadd, 1) := dk_96 (dk_at dksX9_brackets_3 12 rfl rfl)
theorem dX9_brackets_84 : decode cX9_brackets 84 = .ok (.putfield 36, 3) := dk_181 0 36 (dk_at dksX9_brackets_3 13 rfl rfl)
theorem dX9_brackets_87 : decode cX9_brackets 87 = .ok (.goto (-77), 3) := dk_167 255 179 (dk_at dksX9_brackets_3 16 rfl rfl)
theorem dX9_brackets_90 : decode cX9_brackets 90 = .ok (.aload_n 0, 1) := dk_42 (dk_at dksX9_brackets_3 19 rfl rfl)
theorem dX9_brackets_91 : decode cX9_brackets 91 = .ok (.getfield 31, 3) := dk_180 0 31 (dk_at dksX9_brackets_3 20 rfl rfl)
theorem dX9_brackets_94 : decode cX9_brackets 94 = .ok (.aload_n 1, 1) := dk_43 (dk_at dksX9_brackets_3 23 rfl rfl)
theorem dX9_brackets_95 : decode cX9_brackets 95 = .ok (.putfield 96, 3) := dk_181 0 96 (dk_at dksX9_brackets_4 0 rfl rfl)
theorem dX9_brackets_98 : decode cX9_brackets 98 = .ok (.return_, 1) := dk_177 (dk_at dksX9_brackets_4 3 rfl rfl)
abbrev cX9_number : ByteArray := prog_9_method_5_code
def yX9_number : MethodName := ⟨RX9, "number", "()I"⟩
def dkwX9_number_2 : List UInt8 := [96, 16, 48, 100, 61, 42, 89, 180, 0, 36, 4, 96, 181, 0, 36, 167, 255, 216, 28, 172]
abbrev dktX9_number_2 : List UInt8 := dkwX9_number_2 ++ []
def dkwX9_number_1 : List UInt8 := [182, 0, 60, 153, 0, 39, 42, 180, 0, 36, 27, 100, 7, 162, 0, 29, 16, 10, 28, 104, 42, 182, 0, 52]
abbrev dktX9_number_1 : List UInt8 := dkwX9_number_1 ++ dktX9_number_2
def dkwX9_number_0 : List UInt8 := [42, 180, 0, 36, 60, 42, 182, 0, 52, 16, 48, 100, 61, 42, 42, 182, 0, 60, 182, 0, 64, 42]
abbrev dktX9_number_0 : List UInt8 := dkwX9_number_0 ++ dktX9_number_1
theorem dksX9_number_0 : cX9_number.data.toList.drop 0 = dktX9_number_0 := by decide +kernel
theorem dksX9_number_1 : cX9_number.data.toList.drop 22 = dktX9_number_1 := dk_seg dksX9_number_0 22 rfl rfl
theorem dksX9_number_2 : cX9_number.data.toList.drop 46 = dktX9_number_2 := dk_seg dksX9_number_1 24 rfl rfl
theorem dX9_number_0 : decode cX9_number 0 = .ok (.aload_n 0, 1) := dk_42 (dk_at dksX9_number_0 0 rfl rfl)
theorem dX9_number_1 : decode cX9_number 1 = .ok (.getfield 36, 3) := dk_180 0 36 (dk_at dksX9_number_0 1 rfl rfl)
theorem dX9_number_4 : decode cX9_number 4 = .ok (.istore_n 1, 1) := dk_60 (dk_at dksX9_number_0 4 rfl rfl)
theorem dX9_number_5 : decode cX9_number 5 = .ok (.aload_n 0, 1) := dk_42 (dk_at dksX9_number_0 5 rfl rfl)
theorem dX9_number_6 : decode cX9_number 6 = .ok (.invokevirtual 52, 3) := dk_182 0 52 (dk_at dksX9_number_0 6 rfl rfl)
theorem dX9_number_9 : decode cX9_number 9 = .ok (.bipush 48, 2) := dk_16 48 (dk_at dksX9_number_0 9 rfl rfl)
theorem dX9_number_11 : decode cX9_number 11 = .ok (.isub, 1) := dk_100 (dk_at dksX9_number_0 11 rfl rfl)
theorem dX9_number_12 : decode cX9_number 12 = .ok (.istore_n 2, 1) := dk_61 (dk_at dksX9_number_0 12 rfl rfl)
theorem dX9_number_13 : decode cX9_number 13 = .ok (.aload_n 0, 1) := dk_42 (dk_at dksX9_number_0 13 rfl rfl)
theorem dX9_number_14 : decode cX9_number 14 = .ok (.aload_n 0, 1) := dk_42 (dk_at dksX9_number_0 14 rfl rfl)
theorem dX9_number_15 : decode cX9_number 15 = .ok (.invokevirtual 60, 3) := dk_182 0 60 (dk_at dksX9_number_0 15 rfl rfl)
theorem dX9_number_18 : decode cX9_number 18 = .ok (.invokevirtual 64, 3) := dk_182 0 64 (dk_at dksX9_number_0 18 rfl rfl)
theorem dX9_number_21 : decode cX9_number 21 = .ok (.aload_n 0, 1) := dk_42 (dk_at dksX9_number_0 21 rfl rfl)
theorem dX9_number_22 : decode cX9_number 22 = .ok (.invokevirtual 60, 3) := dk_182 0 60 (dk_at dksX9_number_1 0 rfl rfl)
theorem dX9_number_25 : decode cX9_number 25 = .ok (.ifCond .eq 39, 3) := dk_153 0 39 (dk_at dksX9_number_1 3 rfl rfl)
theorem dX9_number_28 : decode cX9_number 28 = .ok (.aload_n 0, 1) := dk_42 (dk_at dksX9_number_1 6 rfl rfl)
theorem dX9_number_29 : decode cX9_number 29 = .ok (.getfield 36, 3) := dk_180 0 36 (dk_at dksX9_number_1 7 rfl rfl)
theorem dX9_number_32 : decode cX9_number 32 = .ok (.iload_n 1, 1) := dk_27 (dk_at dksX9_number_1 10 rfl rfl)
theorem dX9_number_33 : decode cX9_number 33 = .ok (.isub, 1) := dk_100 (dk_at dksX9_number_1 11 rfl rfl)
theorem dX9_number_34 : decode cX9_number 34 = .ok (.iconst 4, 1) := dk_7 (dk_at dksX9_number_1 12 rfl rfl)
theorem dX9_number_35 : decode cX9_number 35 = .ok (.if_icmp .ge 29, 3) := dk_162 0 29 (dk_at dksX9_number_1 13 rfl rfl)
theorem dX9_number_38 : decode cX9_number 38 = .ok (.bipush 10, 2) := dk_16 10 (dk_at dksX9_number_1 16 rfl rfl)
theorem dX9_number_40 : decode cX9_number 40 = .ok (.iload_n 2, 1) := dk_28 (dk_at dksX9_number_1 18 rfl rfl)
theorem dX9_number_41 : decode cX9_number 41 = .ok (.imul, 1) := dk_104 (dk_at dksX9_number_1 19 rfl rfl)
theorem dX9_number_42 : decode cX9_number 42 = .ok (.aload_n 0, 1) := dk_42 (dk_at dksX9_number_1 20 rfl rfl)
theorem dX9_number_43 : decode cX9_number 43 = .ok (.invokevirtual 52, 3) := dk_182 0 52 (dk_at dksX9_number_1 21 rfl rfl)
theorem dX9_number_46 : decode cX9_number 46 = .ok (.iadd, 1) := dk_96 (dk_at dksX9_number_2 0 rfl rfl)
theorem dX9_number_47 : decode cX9_number 47 = .ok (.bipush 48, 2) := dk_16 48 (dk_at dksX9_number_2 1 rfl rfl)
theorem dX9_number_49 : decode cX9_number 49 = .ok (.isub, 1) := dk_100 (dk_at dksX9_number_2 3 rfl rfl)
theorem dX9_number_50 : decode cX9_number 50 = .ok (.istore_n 2, 1) := dk_61 (dk_at dksX9_number_2 4 rfl rfl)
theorem dX9_number_51 : decode cX9_number 51 = .ok (.aload_n 0, 1) := dk_42 (dk_at dksX9_number_2 5 rfl rfl)
theorem dX9_number_52 : decode cX9_number 52 = .ok (.dup, 1) := dk_89 (dk_at dksX9_number_2 6 rfl rfl)
theorem dX9_number_53 : decode cX9_number 53 = .ok (.getfield 36, 3) := dk_180 0 36 (dk_at dksX9_number_2 7 rfl rfl)
theorem dX9_number_56 : decode cX9_number 56 = .ok (.iconst 1, 1) := dk_4 (dk_at dksX9_number_2 10 rfl rfl)
theorem dX9_number_57 : decode cX9_number 57 = .ok (.iadd, 1) := dk_96 (dk_at dksX9_number_2 11 rfl rfl)
theorem dX9_number_58 : decode cX9_number 58 = .ok (.putfield 36, 3) := dk_181 0 36 (dk_at dksX9_number_2 12 rfl rfl)
theorem dX9_number_61 : decode cX9_number 61 = .ok (.goto (-40), 3) := dk_167 255 216 (dk_at dksX9_number_2 15 rfl rfl)
theorem dX9_number_64 : decode cX9_number 64 = .ok (.iload_n 2, 1) := dk_28 (dk_at dksX9_number_2 18 rfl rfl)
theorem dX9_number_65 : decode cX9_number 65 = .ok (.ireturn, 1) := dk_172 (dk_at dksX9_number_2 19 rfl rfl)
abbrev cX9_isDigit : ByteArray := prog_9_method_4_code
def yX9_isDigit : MethodName := ⟨RX9, "isDigit", "()Z"⟩
def dkwX9_isDigit_0 : List UInt8 := [42, 182, 0, 52, 16, 48, 16, 57, 184, 0, 56, 172]
abbrev dktX9_isDigit_0 : List UInt8 := dkwX9_isDigit_0 ++ []
theorem dksX9_isDigit_0 : cX9_isDigit.data.toList.drop 0 = dktX9_isDigit_0 := by decide +kernel
theorem dX9_isDigit_0 : decode cX9_isDigit 0 = .ok (.aload_n 0, 1) := dk_42 (dk_at dksX9_isDigit_0 0 rfl rfl)
theorem dX9_isDigit_1 : decode cX9_isDigit 1 = .ok (.invokevirtual 52, 3) := dk_182 0 52 (dk_at dksX9_isDigit_0 1 rfl rfl)
theorem dX9_isDigit_4 : decode cX9_isDigit 4 = .ok (.bipush 48, 2) := dk_16 48 (dk_at dksX9_isDigit_0 4 rfl rfl)
theorem dX9_isDigit_6 : decode cX9_isDigit 6 = .ok (.bipush 57, 2) := dk_16 57 (dk_at dksX9_isDigit_0 6 rfl rfl)
theorem dX9_isDigit_8 : decode cX9_isDigit 8 = .ok (.invokestatic 56, 3) := dk_184 0 56 (dk_at dksX9_isDigit_0 8 rfl rfl)
theorem dX9_isDigit_11 : decode cX9_isDigit 11 = .ok (.ireturn, 1) := dk_172 (dk_at dksX9_isDigit_0 11 rfl rfl)
abbrev cX9_fill : ByteArray := prog_9_method_9_code
def yX9_fill : MethodName := ⟨RX9, "fill", "([I)V"⟩
def dkwX9_fill_1 : List UInt8 := [192, 0, 76, 182, 0, 125, 79, 132, 3, 1, 167, 255, 231, 177]
abbrev dktX9_fill_1 : List UInt8 := dkwX9_fill_1 ++ []
def dkwX9_fill_0 : List UInt8 := [42, 43, 190, 182, 0, 100, 77, 3, 62, 29, 43, 190, 162, 0, 25, 43, 29, 44, 29, 185, 0, 119, 2, 0]
abbrev dktX9_fill_0 : List UInt8 := dkwX9_fill_0 ++ dktX9_fill_1
theorem dksX9_fill_0 : cX9_fill.data.toList.drop 0 = dktX9_fill_0 := by decide +kernel
theorem dksX9_fill_1 : cX9_fill.data.toList.drop 24 = dktX9_fill_1 := dk_seg dksX9_fill_0 24 rfl rfl
theorem dX9_fill_0 : decode cX9_fill 0 = .ok (.aload_n 0, 1) := dk_42 (dk_at dksX9_fill_0 0 rfl rfl)
theorem dX9_fill_1 : decode cX9_fill 1 = .ok (.aload_n 1, 1) := dk_43 (dk_at dksX9_fill_0 1 rfl rfl)
theorem dX9_fill_2 : decode cX9_fill 2 = .ok (.arraylength, 1) := dk_190 (dk_at dksX9_fill_0 2 rfl rfl)
theorem dX9_fill_3 : decode cX9_fill 3 = .ok (.invokevirtual 100, 3) := dk_182 0 100 (dk_at dksX9_fill_0 3 rfl rfl)
theorem dX9_fill_6 : decode cX9_fill 6 = .ok (.astore_n 2, 1) := dk_77 (dk_at dksX9_fill_0 6 rfl rfl)
theorem dX9_fill_7 : decode cX9_fill 7 = .ok (.iconst 0, 1) := dk_3 (dk_at dksX9_fill_0 7 rfl rfl)
theorem dX9_fill_8 : decode cX9_fill 8 = .ok (.istore_n 3, 1) := dk_62 (dk_at dksX9_fill_0 8 rfl rfl)
theorem dX9_fill_9 : decode cX9_fill 9 = .ok (.iload_n 3, 1) := dk_29 (dk_at dksX9_fill_0 9 rfl rfl)
theorem dX9_fill_10 : decode cX9_fill 10 = .ok (.aload_n 1, 1) := dk_43 (dk_at dksX9_fill_0 10 rfl rfl)
theorem dX9_fill_11 : decode cX9_fill 11 = .ok (.arraylength, 1) := dk_190 (dk_at dksX9_fill_0 11 rfl rfl)
theorem dX9_fill_12 : decode cX9_fill 12 = .ok (.if_icmp .ge 25, 3) := dk_162 0 25 (dk_at dksX9_fill_0 12 rfl rfl)
theorem dX9_fill_15 : decode cX9_fill 15 = .ok (.aload_n 1, 1) := dk_43 (dk_at dksX9_fill_0 15 rfl rfl)
theorem dX9_fill_16 : decode cX9_fill 16 = .ok (.iload_n 3, 1) := dk_29 (dk_at dksX9_fill_0 16 rfl rfl)
theorem dX9_fill_17 : decode cX9_fill 17 = .ok (.aload_n 2, 1) := dk_44 (dk_at dksX9_fill_0 17 rfl rfl)
theorem dX9_fill_18 : decode cX9_fill 18 = .ok (.iload_n 3, 1) := dk_29 (dk_at dksX9_fill_0 18 rfl rfl)
theorem dX9_fill_19 : decode cX9_fill 19 = .ok (.invokeinterface 119 2, 5) := by decide +kernel
theorem dX9_fill_24 : decode cX9_fill 24 = .ok (.checkcast 76, 3) := dk_192 0 76 (dk_at dksX9_fill_1 0 rfl rfl)
theorem dX9_fill_27 : decode cX9_fill 27 = .ok (.invokevirtual 125, 3) := dk_182 0 125 (dk_at dksX9_fill_1 3 rfl rfl)
theorem dX9_fill_30 : decode cX9_fill 30 = .ok (.iastore, 1) := dk_79 (dk_at dksX9_fill_1 6 rfl rfl)
theorem dX9_fill_31 : decode cX9_fill 31 = .ok (.iinc 3 1, 3) := dk_132 3 1 (dk_at dksX9_fill_1 7 rfl rfl)
theorem dX9_fill_34 : decode cX9_fill 34 = .ok (.goto (-25), 3) := dk_167 255 231 (dk_at dksX9_fill_1 10 rfl rfl)
theorem dX9_fill_37 : decode cX9_fill 37 = .ok (.return_, 1) := dk_177 (dk_at dksX9_fill_1 13 rfl rfl)
abbrev cX9_numbers : ByteArray := prog_9_method_6_code
def yX9_numbers : MethodName := ⟨RX9, "numbers", "(I)Ljava/util/List;"⟩
def dkwX9_numbers_2 : List UInt8 := [87, 132, 3, 1, 167, 255, 214, 44, 184, 0, 85, 176]
abbrev dktX9_numbers_2 : List UInt8 := dkwX9_numbers_2 ++ []
def dkwX9_numbers_1 : List UInt8 := [16, 44, 160, 0, 7, 4, 167, 0, 4, 3, 182, 0, 64, 44, 42, 182, 0, 71, 184, 0, 75, 182, 0, 81]
abbrev dktX9_numbers_1 : List UInt8 := dkwX9_numbers_1 ++ dktX9_numbers_2
def dkwX9_numbers_0 : List UInt8 := [187, 0, 68, 89, 183, 0, 70, 77, 3, 62, 29, 27, 162, 0, 43, 29, 158, 0, 21, 42, 42, 182, 0, 52]
abbrev dktX9_numbers_0 : List UInt8 := dkwX9_numbers_0 ++ dktX9_numbers_1
theorem dksX9_numbers_0 : cX9_numbers.data.toList.drop 0 = dktX9_numbers_0 := by decide +kernel
theorem dksX9_numbers_1 : cX9_numbers.data.toList.drop 24 = dktX9_numbers_1 := dk_seg dksX9_numbers_0 24 rfl rfl
theorem dksX9_numbers_2 : cX9_numbers.data.toList.drop 48 = dktX9_numbers_2 := dk_seg dksX9_numbers_1 24 rfl rfl
theorem dX9_numbers_0 : decode cX9_numbers 0 = .ok (.new 68, 3) := dk_187 0 68 (dk_at dksX9_numbers_0 0 rfl rfl)
theorem dX9_numbers_3 : decode cX9_numbers 3 = .ok (.dup, 1) := dk_89 (dk_at dksX9_numbers_0 3 rfl rfl)
theorem dX9_numbers_4 : decode cX9_numbers 4 = .ok (.invokespecial 70, 3) := dk_183 0 70 (dk_at dksX9_numbers_0 4 rfl rfl)
theorem dX9_numbers_7 : decode cX9_numbers 7 = .ok (.astore_n 2, 1) := dk_77 (dk_at dksX9_numbers_0 7 rfl rfl)
theorem dX9_numbers_8 : decode cX9_numbers 8 = .ok (.iconst 0, 1) := dk_3 (dk_at dksX9_numbers_0 8 rfl rfl)
theorem dX9_numbers_9 : decode cX9_numbers 9 = .ok (.istore_n 3, 1) := dk_62 (dk_at dksX9_numbers_0 9 rfl rfl)
theorem dX9_numbers_10 : decode cX9_numbers 10 = .ok (.iload_n 3, 1) := dk_29 (dk_at dksX9_numbers_0 10 rfl rfl)
theorem dX9_numbers_11 : decode cX9_numbers 11 = .ok (.iload_n 1, 1) := dk_27 (dk_at dksX9_numbers_0 11 rfl rfl)
theorem dX9_numbers_12 : decode cX9_numbers 12 = .ok (.if_icmp .ge 43, 3) := dk_162 0 43 (dk_at dksX9_numbers_0 12 rfl rfl)
theorem dX9_numbers_15 : decode cX9_numbers 15 = .ok (.iload_n 3, 1) := dk_29 (dk_at dksX9_numbers_0 15 rfl rfl)
theorem dX9_numbers_16 : decode cX9_numbers 16 = .ok (.ifCond .le 21, 3) := dk_158 0 21 (dk_at dksX9_numbers_0 16 rfl rfl)
theorem dX9_numbers_19 : decode cX9_numbers 19 = .ok (.aload_n 0, 1) := dk_42 (dk_at dksX9_numbers_0 19 rfl rfl)
theorem dX9_numbers_20 : decode cX9_numbers 20 = .ok (.aload_n 0, 1) := dk_42 (dk_at dksX9_numbers_0 20 rfl rfl)
theorem dX9_numbers_21 : decode cX9_numbers 21 = .ok (.invokevirtual 52, 3) := dk_182 0 52 (dk_at dksX9_numbers_0 21 rfl rfl)
theorem dX9_numbers_24 : decode cX9_numbers 24 = .ok (.bipush 44, 2) := dk_16 44 (dk_at dksX9_numbers_1 0 rfl rfl)
theorem dX9_numbers_26 : decode cX9_numbers 26 = .ok (.if_icmp .ne 7, 3) := dk_160 0 7 (dk_at dksX9_numbers_1 2 rfl rfl)
theorem dX9_numbers_29 : decode cX9_numbers 29 = .ok (.iconst 1, 1) := dk_4 (dk_at dksX9_numbers_1 5 rfl rfl)
theorem dX9_numbers_30 : decode cX9_numbers 30 = .ok (.goto 4, 3) := dk_167 0 4 (dk_at dksX9_numbers_1 6 rfl rfl)
theorem dX9_numbers_33 : decode cX9_numbers 33 = .ok (.iconst 0, 1) := dk_3 (dk_at dksX9_numbers_1 9 rfl rfl)
theorem dX9_numbers_34 : decode cX9_numbers 34 = .ok (.invokevirtual 64, 3) := dk_182 0 64 (dk_at dksX9_numbers_1 10 rfl rfl)
theorem dX9_numbers_37 : decode cX9_numbers 37 = .ok (.aload_n 2, 1) := dk_44 (dk_at dksX9_numbers_1 13 rfl rfl)
theorem dX9_numbers_38 : decode cX9_numbers 38 = .ok (.aload_n 0, 1) := dk_42 (dk_at dksX9_numbers_1 14 rfl rfl)
theorem dX9_numbers_39 : decode cX9_numbers 39 = .ok (.invokevirtual 71, 3) := dk_182 0 71 (dk_at dksX9_numbers_1 15 rfl rfl)
theorem dX9_numbers_42 : decode cX9_numbers 42 = .ok (.invokestatic 75, 3) := dk_184 0 75 (dk_at dksX9_numbers_1 18 rfl rfl)
theorem dX9_numbers_45 : decode cX9_numbers 45 = .ok (.invokevirtual 81, 3) := dk_182 0 81 (dk_at dksX9_numbers_1 21 rfl rfl)
theorem dX9_numbers_48 : decode cX9_numbers 48 = .ok (.pop, 1) := dk_87 (dk_at dksX9_numbers_2 0 rfl rfl)
theorem dX9_numbers_49 : decode cX9_numbers 49 = .ok (.iinc 3 1, 3) := dk_132 3 1 (dk_at dksX9_numbers_2 1 rfl rfl)
theorem dX9_numbers_52 : decode cX9_numbers 52 = .ok (.goto (-42), 3) := dk_167 255 214 (dk_at dksX9_numbers_2 4 rfl rfl)
theorem dX9_numbers_55 : decode cX9_numbers 55 = .ok (.aload_n 2, 1) := dk_44 (dk_at dksX9_numbers_2 7 rfl rfl)
theorem dX9_numbers_56 : decode cX9_numbers 56 = .ok (.invokestatic 85, 3) := dk_184 0 85 (dk_at dksX9_numbers_2 8 rfl rfl)
theorem dX9_numbers_59 : decode cX9_numbers 59 = .ok (.areturn, 1) := dk_176 (dk_at dksX9_numbers_2 11 rfl rfl)
abbrev cX9_charge : ByteArray := prog_9_method_10_code
def yX9_charge : MethodName := ⟨RX9, "charge", "()V"⟩
def dkwX9_charge_2 : List UInt8 := [182, 0, 81, 87, 177]
abbrev dktX9_charge_2 : List UInt8 := dkwX9_charge_2 ++ []
def dkwX9_charge_1 : List UInt8 := [192, 0, 76, 182, 0, 125, 43, 4, 185, 0, 119, 2, 0, 192, 0, 76, 182, 0, 125, 183, 0, 134]
abbrev dktX9_charge_1 : List UInt8 := dkwX9_charge_1 ++ dktX9_charge_2
def dkwX9_charge_0 : List UInt8 := [42, 5, 182, 0, 100, 76, 42, 180, 0, 31, 180, 0, 128, 187, 0, 132, 89, 43, 3, 185, 0, 119, 2, 0]
abbrev dktX9_charge_0 : List UInt8 := dkwX9_charge_0 ++ dktX9_charge_1
theorem dksX9_charge_0 : cX9_charge.data.toList.drop 0 = dktX9_charge_0 := by decide +kernel
theorem dksX9_charge_1 : cX9_charge.data.toList.drop 24 = dktX9_charge_1 := dk_seg dksX9_charge_0 24 rfl rfl
theorem dksX9_charge_2 : cX9_charge.data.toList.drop 46 = dktX9_charge_2 := dk_seg dksX9_charge_1 22 rfl rfl
theorem dX9_charge_0 : decode cX9_charge 0 = .ok (.aload_n 0, 1) := dk_42 (dk_at dksX9_charge_0 0 rfl rfl)
theorem dX9_charge_1 : decode cX9_charge 1 = .ok (.iconst 2, 1) := dk_5 (dk_at dksX9_charge_0 1 rfl rfl)
theorem dX9_charge_2 : decode cX9_charge 2 = .ok (.invokevirtual 100, 3) := dk_182 0 100 (dk_at dksX9_charge_0 2 rfl rfl)
theorem dX9_charge_5 : decode cX9_charge 5 = .ok (.astore_n 1, 1) := dk_76 (dk_at dksX9_charge_0 5 rfl rfl)
theorem dX9_charge_6 : decode cX9_charge 6 = .ok (.aload_n 0, 1) := dk_42 (dk_at dksX9_charge_0 6 rfl rfl)
theorem dX9_charge_7 : decode cX9_charge 7 = .ok (.getfield 31, 3) := dk_180 0 31 (dk_at dksX9_charge_0 7 rfl rfl)
theorem dX9_charge_10 : decode cX9_charge 10 = .ok (.getfield 128, 3) := dk_180 0 128 (dk_at dksX9_charge_0 10 rfl rfl)
theorem dX9_charge_13 : decode cX9_charge 13 = .ok (.new 132, 3) := dk_187 0 132 (dk_at dksX9_charge_0 13 rfl rfl)
theorem dX9_charge_16 : decode cX9_charge 16 = .ok (.dup, 1) := dk_89 (dk_at dksX9_charge_0 16 rfl rfl)
theorem dX9_charge_17 : decode cX9_charge 17 = .ok (.aload_n 1, 1) := dk_43 (dk_at dksX9_charge_0 17 rfl rfl)
theorem dX9_charge_18 : decode cX9_charge 18 = .ok (.iconst 0, 1) := dk_3 (dk_at dksX9_charge_0 18 rfl rfl)
theorem dX9_charge_19 : decode cX9_charge 19 = .ok (.invokeinterface 119 2, 5) := by decide +kernel
theorem dX9_charge_24 : decode cX9_charge 24 = .ok (.checkcast 76, 3) := dk_192 0 76 (dk_at dksX9_charge_1 0 rfl rfl)
theorem dX9_charge_27 : decode cX9_charge 27 = .ok (.invokevirtual 125, 3) := dk_182 0 125 (dk_at dksX9_charge_1 3 rfl rfl)
theorem dX9_charge_30 : decode cX9_charge 30 = .ok (.aload_n 1, 1) := dk_43 (dk_at dksX9_charge_1 6 rfl rfl)
theorem dX9_charge_31 : decode cX9_charge 31 = .ok (.iconst 1, 1) := dk_4 (dk_at dksX9_charge_1 7 rfl rfl)
theorem dX9_charge_32 : decode cX9_charge 32 = .ok (.invokeinterface 119 2, 5) := by decide +kernel
theorem dX9_charge_37 : decode cX9_charge 37 = .ok (.checkcast 76, 3) := dk_192 0 76 (dk_at dksX9_charge_1 13 rfl rfl)
theorem dX9_charge_40 : decode cX9_charge 40 = .ok (.invokevirtual 125, 3) := dk_182 0 125 (dk_at dksX9_charge_1 16 rfl rfl)
theorem dX9_charge_43 : decode cX9_charge 43 = .ok (.invokespecial 134, 3) := dk_183 0 134 (dk_at dksX9_charge_1 19 rfl rfl)
theorem dX9_charge_46 : decode cX9_charge 46 = .ok (.invokevirtual 81, 3) := dk_182 0 81 (dk_at dksX9_charge_2 0 rfl rfl)
theorem dX9_charge_49 : decode cX9_charge 49 = .ok (.pop, 1) := dk_87 (dk_at dksX9_charge_2 3 rfl rfl)
theorem dX9_charge_50 : decode cX9_charge 50 = .ok (.return_, 1) := dk_177 (dk_at dksX9_charge_2 4 rfl rfl)
abbrev cX9_credit : ByteArray := prog_9_method_8_code
def yX9_credit : MethodName := ⟨RX9, "credit", "(I)V"⟩
def dkwX9_credit_2 : List UInt8 := [187, 0, 108, 89, 27, 44, 29, 183, 0, 110, 182, 0, 113, 177]
abbrev dktX9_credit_2 : List UInt8 := dkwX9_credit_2 ++ []
def dkwX9_credit_1 : List UInt8 := [180, 0, 36, 29, 153, 0, 7, 4, 167, 0, 4, 3, 96, 181, 0, 36, 42, 180, 0, 31, 180, 0, 104]
abbrev dktX9_credit_1 : List UInt8 := dkwX9_credit_1 ++ dktX9_credit_2
def dkwX9_credit_0 : List UInt8 := [42, 7, 182, 0, 100, 77, 42, 182, 0, 52, 16, 42, 160, 0, 7, 4, 167, 0, 4, 3, 62, 42, 89]
abbrev dktX9_credit_0 : List UInt8 := dkwX9_credit_0 ++ dktX9_credit_1
theorem dksX9_credit_0 : cX9_credit.data.toList.drop 0 = dktX9_credit_0 := by decide +kernel
theorem dksX9_credit_1 : cX9_credit.data.toList.drop 23 = dktX9_credit_1 := dk_seg dksX9_credit_0 23 rfl rfl
theorem dksX9_credit_2 : cX9_credit.data.toList.drop 46 = dktX9_credit_2 := dk_seg dksX9_credit_1 23 rfl rfl
theorem dX9_credit_0 : decode cX9_credit 0 = .ok (.aload_n 0, 1) := dk_42 (dk_at dksX9_credit_0 0 rfl rfl)
theorem dX9_credit_1 : decode cX9_credit 1 = .ok (.iconst 4, 1) := dk_7 (dk_at dksX9_credit_0 1 rfl rfl)
theorem dX9_credit_2 : decode cX9_credit 2 = .ok (.invokevirtual 100, 3) := dk_182 0 100 (dk_at dksX9_credit_0 2 rfl rfl)
theorem dX9_credit_5 : decode cX9_credit 5 = .ok (.astore_n 2, 1) := dk_77 (dk_at dksX9_credit_0 5 rfl rfl)
theorem dX9_credit_6 : decode cX9_credit 6 = .ok (.aload_n 0, 1) := dk_42 (dk_at dksX9_credit_0 6 rfl rfl)
theorem dX9_credit_7 : decode cX9_credit 7 = .ok (.invokevirtual 52, 3) := dk_182 0 52 (dk_at dksX9_credit_0 7 rfl rfl)
theorem dX9_credit_10 : decode cX9_credit 10 = .ok (.bipush 42, 2) := dk_16 42 (dk_at dksX9_credit_0 10 rfl rfl)
theorem dX9_credit_12 : decode cX9_credit 12 = .ok (.if_icmp .ne 7, 3) := dk_160 0 7 (dk_at dksX9_credit_0 12 rfl rfl)
theorem dX9_credit_15 : decode cX9_credit 15 = .ok (.iconst 1, 1) := dk_4 (dk_at dksX9_credit_0 15 rfl rfl)
theorem dX9_credit_16 : decode cX9_credit 16 = .ok (.goto 4, 3) := dk_167 0 4 (dk_at dksX9_credit_0 16 rfl rfl)
theorem dX9_credit_19 : decode cX9_credit 19 = .ok (.iconst 0, 1) := dk_3 (dk_at dksX9_credit_0 19 rfl rfl)
theorem dX9_credit_20 : decode cX9_credit 20 = .ok (.istore_n 3, 1) := dk_62 (dk_at dksX9_credit_0 20 rfl rfl)
theorem dX9_credit_21 : decode cX9_credit 21 = .ok (.aload_n 0, 1) := dk_42 (dk_at dksX9_credit_0 21 rfl rfl)
theorem dX9_credit_22 : decode cX9_credit 22 = .ok (.dup, 1) := dk_89 (dk_at dksX9_credit_0 22 rfl rfl)
theorem dX9_credit_23 : decode cX9_credit 23 = .ok (.getfield 36, 3) := dk_180 0 36 (dk_at dksX9_credit_1 0 rfl rfl)
theorem dX9_credit_26 : decode cX9_credit 26 = .ok (.iload_n 3, 1) := dk_29 (dk_at dksX9_credit_1 3 rfl rfl)
theorem dX9_credit_27 : decode cX9_credit 27 = .ok (.ifCond .eq 7, 3) := dk_153 0 7 (dk_at dksX9_credit_1 4 rfl rfl)
theorem dX9_credit_30 : decode cX9_credit 30 = .ok (.iconst 1, 1) := dk_4 (dk_at dksX9_credit_1 7 rfl rfl)
theorem dX9_credit_31 : decode cX9_credit 31 = .ok (.goto 4, 3) := dk_167 0 4 (dk_at dksX9_credit_1 8 rfl rfl)
theorem dX9_credit_34 : decode cX9_credit 34 = .ok (.iconst 0, 1) := dk_3 (dk_at dksX9_credit_1 11 rfl rfl)
theorem dX9_credit_35 : decode cX9_credit 35 = .ok (.iadd, 1) := dk_96 (dk_at dksX9_credit_1 12 rfl rfl)
theorem dX9_credit_36 : decode cX9_credit 36 = .ok (.putfield 36, 3) := dk_181 0 36 (dk_at dksX9_credit_1 13 rfl rfl)
theorem dX9_credit_39 : decode cX9_credit 39 = .ok (.aload_n 0, 1) := dk_42 (dk_at dksX9_credit_1 16 rfl rfl)
theorem dX9_credit_40 : decode cX9_credit 40 = .ok (.getfield 31, 3) := dk_180 0 31 (dk_at dksX9_credit_1 17 rfl rfl)
theorem dX9_credit_43 : decode cX9_credit 43 = .ok (.getfield 104, 3) := dk_180 0 104 (dk_at dksX9_credit_1 20 rfl rfl)
theorem dX9_credit_46 : decode cX9_credit 46 = .ok (.new 108, 3) := dk_187 0 108 (dk_at dksX9_credit_2 0 rfl rfl)
theorem dX9_credit_49 : decode cX9_credit 49 = .ok (.dup, 1) := dk_89 (dk_at dksX9_credit_2 3 rfl rfl)
theorem dX9_credit_50 : decode cX9_credit 50 = .ok (.iload_n 1, 1) := dk_27 (dk_at dksX9_credit_2 4 rfl rfl)
theorem dX9_credit_51 : decode cX9_credit 51 = .ok (.aload_n 2, 1) := dk_44 (dk_at dksX9_credit_2 5 rfl rfl)
theorem dX9_credit_52 : decode cX9_credit 52 = .ok (.iload_n 3, 1) := dk_29 (dk_at dksX9_credit_2 6 rfl rfl)
theorem dX9_credit_53 : decode cX9_credit 53 = .ok (.invokespecial 110, 3) := dk_183 0 110 (dk_at dksX9_credit_2 7 rfl rfl)
theorem dX9_credit_56 : decode cX9_credit 56 = .ok (.invokevirtual 113, 3) := dk_182 0 113 (dk_at dksX9_credit_2 10 rfl rfl)
theorem dX9_credit_59 : decode cX9_credit 59 = .ok (.return_, 1) := dk_177 (dk_at dksX9_credit_2 13 rfl rfl)
abbrev cX9_areRatesAllowed : ByteArray := prog_9_method_12_code
def yX9_areRatesAllowed : MethodName := ⟨RX9, "areRatesAllowed", "()Z"⟩
def dkwX9_areRatesAllowed_2 : List UInt8 := [182, 0, 175, 87, 167, 255, 236, 43, 182, 0, 179, 172]
abbrev dktX9_areRatesAllowed_2 : List UInt8 := dkwX9_areRatesAllowed_2 ++ []
def dkwX9_areRatesAllowed_1 : List UInt8 := [182, 0, 171, 87, 167, 255, 236, 43, 180, 0, 104, 182, 0, 174, 16, 6, 164, 0, 14, 43, 180, 0, 104]
abbrev dktX9_areRatesAllowed_1 : List UInt8 := dkwX9_areRatesAllowed_1 ++ dktX9_areRatesAllowed_2
def dkwX9_areRatesAllowed_0 : List UInt8 := [42, 180, 0, 31, 182, 0, 25, 76, 43, 180, 0, 128, 182, 0, 168, 7, 164, 0, 15, 43, 180, 0, 128, 3]
abbrev dktX9_areRatesAllowed_0 : List UInt8 := dkwX9_areRatesAllowed_0 ++ dktX9_areRatesAllowed_1
theorem dksX9_areRatesAllowed_0 : cX9_areRatesAllowed.data.toList.drop 0 = dktX9_areRatesAllowed_0 := by decide +kernel
theorem dksX9_areRatesAllowed_1 : cX9_areRatesAllowed.data.toList.drop 24 = dktX9_areRatesAllowed_1 := dk_seg dksX9_areRatesAllowed_0 24 rfl rfl
theorem dksX9_areRatesAllowed_2 : cX9_areRatesAllowed.data.toList.drop 47 = dktX9_areRatesAllowed_2 := dk_seg dksX9_areRatesAllowed_1 23 rfl rfl
theorem dX9_areRatesAllowed_0 : decode cX9_areRatesAllowed 0 = .ok (.aload_n 0, 1) := dk_42 (dk_at dksX9_areRatesAllowed_0 0 rfl rfl)
theorem dX9_areRatesAllowed_1 : decode cX9_areRatesAllowed 1 = .ok (.getfield 31, 3) := dk_180 0 31 (dk_at dksX9_areRatesAllowed_0 1 rfl rfl)
theorem dX9_areRatesAllowed_4 : decode cX9_areRatesAllowed 4 = .ok (.invokevirtual 25, 3) := dk_182 0 25 (dk_at dksX9_areRatesAllowed_0 4 rfl rfl)
theorem dX9_areRatesAllowed_7 : decode cX9_areRatesAllowed 7 = .ok (.astore_n 1, 1) := dk_76 (dk_at dksX9_areRatesAllowed_0 7 rfl rfl)
theorem dX9_areRatesAllowed_8 : decode cX9_areRatesAllowed 8 = .ok (.aload_n 1, 1) := dk_43 (dk_at dksX9_areRatesAllowed_0 8 rfl rfl)
theorem dX9_areRatesAllowed_9 : decode cX9_areRatesAllowed 9 = .ok (.getfield 128, 3) := dk_180 0 128 (dk_at dksX9_areRatesAllowed_0 9 rfl rfl)
theorem dX9_areRatesAllowed_12 : decode cX9_areRatesAllowed 12 = .ok (.invokevirtual 168, 3) := dk_182 0 168 (dk_at dksX9_areRatesAllowed_0 12 rfl rfl)
theorem dX9_areRatesAllowed_15 : decode cX9_areRatesAllowed 15 = .ok (.iconst 4, 1) := dk_7 (dk_at dksX9_areRatesAllowed_0 15 rfl rfl)
theorem dX9_areRatesAllowed_16 : decode cX9_areRatesAllowed 16 = .ok (.if_icmp .le 15, 3) := dk_164 0 15 (dk_at dksX9_areRatesAllowed_0 16 rfl rfl)
theorem dX9_areRatesAllowed_19 : decode cX9_areRatesAllowed 19 = .ok (.aload_n 1, 1) := dk_43 (dk_at dksX9_areRatesAllowed_0 19 rfl rfl)
theorem dX9_areRatesAllowed_20 : decode cX9_areRatesAllowed 20 = .ok (.getfield 128, 3) := dk_180 0 128 (dk_at dksX9_areRatesAllowed_0 20 rfl rfl)
theorem dX9_areRatesAllowed_23 : decode cX9_areRatesAllowed 23 = .ok (.iconst 0, 1) := dk_3 (dk_at dksX9_areRatesAllowed_0 23 rfl rfl)
theorem dX9_areRatesAllowed_24 : decode cX9_areRatesAllowed 24 = .ok (.invokevirtual 171, 3) := dk_182 0 171 (dk_at dksX9_areRatesAllowed_1 0 rfl rfl)
theorem dX9_areRatesAllowed_27 : decode cX9_areRatesAllowed 27 = .ok (.pop, 1) := dk_87 (dk_at dksX9_areRatesAllowed_1 3 rfl rfl)
theorem dX9_areRatesAllowed_28 : decode cX9_areRatesAllowed 28 = .ok (.goto (-20), 3) := dk_167 255 236 (dk_at dksX9_areRatesAllowed_1 4 rfl rfl)
theorem dX9_areRatesAllowed_31 : decode cX9_areRatesAllowed 31 = .ok (.aload_n 1, 1) := dk_43 (dk_at dksX9_areRatesAllowed_1 7 rfl rfl)
theorem dX9_areRatesAllowed_32 : decode cX9_areRatesAllowed 32 = .ok (.getfield 104, 3) := dk_180 0 104 (dk_at dksX9_areRatesAllowed_1 8 rfl rfl)
theorem dX9_areRatesAllowed_35 : decode cX9_areRatesAllowed 35 = .ok (.invokevirtual 174, 3) := dk_182 0 174 (dk_at dksX9_areRatesAllowed_1 11 rfl rfl)
theorem dX9_areRatesAllowed_38 : decode cX9_areRatesAllowed 38 = .ok (.bipush 6, 2) := dk_16 6 (dk_at dksX9_areRatesAllowed_1 14 rfl rfl)
theorem dX9_areRatesAllowed_40 : decode cX9_areRatesAllowed 40 = .ok (.if_icmp .le 14, 3) := dk_164 0 14 (dk_at dksX9_areRatesAllowed_1 16 rfl rfl)
theorem dX9_areRatesAllowed_43 : decode cX9_areRatesAllowed 43 = .ok (.aload_n 1, 1) := dk_43 (dk_at dksX9_areRatesAllowed_1 19 rfl rfl)
theorem dX9_areRatesAllowed_44 : decode cX9_areRatesAllowed 44 = .ok (.getfield 104, 3) := dk_180 0 104 (dk_at dksX9_areRatesAllowed_1 20 rfl rfl)
theorem dX9_areRatesAllowed_47 : decode cX9_areRatesAllowed 47 = .ok (.invokevirtual 175, 3) := dk_182 0 175 (dk_at dksX9_areRatesAllowed_2 0 rfl rfl)
theorem dX9_areRatesAllowed_50 : decode cX9_areRatesAllowed 50 = .ok (.pop, 1) := dk_87 (dk_at dksX9_areRatesAllowed_2 3 rfl rfl)
theorem dX9_areRatesAllowed_51 : decode cX9_areRatesAllowed 51 = .ok (.goto (-20), 3) := dk_167 255 236 (dk_at dksX9_areRatesAllowed_2 4 rfl rfl)
theorem dX9_areRatesAllowed_54 : decode cX9_areRatesAllowed 54 = .ok (.aload_n 1, 1) := dk_43 (dk_at dksX9_areRatesAllowed_2 7 rfl rfl)
theorem dX9_areRatesAllowed_55 : decode cX9_areRatesAllowed 55 = .ok (.invokevirtual 179, 3) := dk_182 0 179 (dk_at dksX9_areRatesAllowed_2 8 rfl rfl)
theorem dX9_areRatesAllowed_58 : decode cX9_areRatesAllowed 58 = .ok (.ireturn, 1) := dk_172 (dk_at dksX9_areRatesAllowed_2 11 rfl rfl)
abbrev cX9_isAllowed : ByteArray := prog_9_method_14_code
def yX9_isAllowed : MethodName := ⟨RX9, "isAllowed", "()Z"⟩
def dkwX9_isAllowed_0 : List UInt8 := [42, 180, 0, 32, 153, 0, 17, 42, 180, 0, 31, 182, 0, 179, 153, 0, 7, 4, 167, 0, 4, 3, 172]
abbrev dktX9_isAllowed_0 : List UInt8 := dkwX9_isAllowed_0 ++ []
theorem dksX9_isAllowed_0 : cX9_isAllowed.data.toList.drop 0 = dktX9_isAllowed_0 := by decide +kernel
theorem dX9_isAllowed_0 : decode cX9_isAllowed 0 = .ok (.aload_n 0, 1) := dk_42 (dk_at dksX9_isAllowed_0 0 rfl rfl)
theorem dX9_isAllowed_1 : decode cX9_isAllowed 1 = .ok (.getfield 32, 3) := dk_180 0 32 (dk_at dksX9_isAllowed_0 1 rfl rfl)
theorem dX9_isAllowed_4 : decode cX9_isAllowed 4 = .ok (.ifCond .eq 17, 3) := dk_153 0 17 (dk_at dksX9_isAllowed_0 4 rfl rfl)
theorem dX9_isAllowed_7 : decode cX9_isAllowed 7 = .ok (.aload_n 0, 1) := dk_42 (dk_at dksX9_isAllowed_0 7 rfl rfl)
theorem dX9_isAllowed_8 : decode cX9_isAllowed 8 = .ok (.getfield 31, 3) := dk_180 0 31 (dk_at dksX9_isAllowed_0 8 rfl rfl)
theorem dX9_isAllowed_11 : decode cX9_isAllowed 11 = .ok (.invokevirtual 179, 3) := dk_182 0 179 (dk_at dksX9_isAllowed_0 11 rfl rfl)
theorem dX9_isAllowed_14 : decode cX9_isAllowed 14 = .ok (.ifCond .eq 7, 3) := dk_153 0 7 (dk_at dksX9_isAllowed_0 14 rfl rfl)
theorem dX9_isAllowed_17 : decode cX9_isAllowed 17 = .ok (.iconst 1, 1) := dk_4 (dk_at dksX9_isAllowed_0 17 rfl rfl)
theorem dX9_isAllowed_18 : decode cX9_isAllowed 18 = .ok (.goto 4, 3) := dk_167 0 4 (dk_at dksX9_isAllowed_0 18 rfl rfl)
theorem dX9_isAllowed_21 : decode cX9_isAllowed 21 = .ok (.iconst 0, 1) := dk_3 (dk_at dksX9_isAllowed_0 21 rfl rfl)
theorem dX9_isAllowed_22 : decode cX9_isAllowed 22 = .ok (.ireturn, 1) := dk_172 (dk_at dksX9_isAllowed_0 22 rfl rfl)
theorem q131 : (Jvm.Cond.initialized "TaxWorkbench$Reader") ∈ lw_all := lw_g (lw_at lw_m1 30 rfl) rfl
theorem q306 : (Jvm.Cond.fieldLinkNest "TaxWorkbench$Reader" (96 : Nat) "TaxWorkbench$Rules" "brackets" "Ljava/util/List;" "TaxWorkbench") ∈ lw_tbl := lw_at lw_m1 205 rfl
theorem q309 : (Jvm.Cond.fieldLinkNest "TaxWorkbench$Reader" (145 : Nat) "TaxWorkbench$Rules" "allowance" "[I" "TaxWorkbench") ∈ lw_tbl := lw_at lw_m1 208 rfl
theorem q312 : (Jvm.Cond.fieldLinkNest "TaxWorkbench$Reader" (153 : Nat) "TaxWorkbench$Rules" "minimum" "[I" "TaxWorkbench") ∈ lw_tbl := lw_at lw_m1 211 rfl
theorem q315 : (Jvm.Cond.fieldLinkNest "TaxWorkbench$Reader" (128 : Nat) "TaxWorkbench$Rules" "charges" "Ljava/util/ArrayList;" "TaxWorkbench") ∈ lw_tbl := lw_at lw_m1 214 rfl
theorem q319 : (Jvm.Cond.fieldLinkNest "TaxWorkbench$Reader" (104 : Nat) "TaxWorkbench$Rules" "credits" "Ljava/util/LinkedList;" "TaxWorkbench") ∈ lw_tbl := lw_at lw_m1 218 rfl
theorem q394 : (Jvm.Cond.selects "TaxWorkbench$Reader" ({ cls := "java/lang/Object", name := "getClass", desc := "()Ljava/lang/Class;" } : Jvm.MethodName) ({ cls := "java/lang/Object", name := "getClass", desc := "()Ljava/lang/Class;" } : Jvm.MethodName)) ∈ lw_all := lw_g (lw_at lw_m2 53 rfl) rfl
theorem q447 : (Jvm.Cond.fieldLinkNest "TaxWorkbench$Reader" (19 : Nat) "TaxWorkbench$World" "rules" "LTaxWorkbench$Rules;" "TaxWorkbench") ∈ lw_tbl := lw_at lw_m2 106 rfl
theorem q549 : (Jvm.Cond.fieldLinkNest "TaxWorkbench$Reader" (15 : Nat) "TaxWorkbench" "now" "LTaxWorkbench$World;" "TaxWorkbench") ∈ lw_tbl := lw_at lw_m2 208 rfl
theorem q554 : (Jvm.Cond.fieldLinkNest "TaxWorkbench$Reader" (43 : Nat) "TaxWorkbench" "text" "[C" "TaxWorkbench") ∈ lw_tbl := lw_at lw_m2 213 rfl
theorem q556 : (Jvm.Cond.fieldLinkNest "TaxWorkbench$Reader" (40 : Nat) "TaxWorkbench" "textLength" "I" "TaxWorkbench") ∈ lw_tbl := lw_at lw_m2 215 rfl
theorem q2043 : (Jvm.Cond.instantiable "TaxWorkbench$Reader" (5 : Nat)) ∈ lw_all := lw_g (lw_at lw_m9 22 rfl) rfl
theorem q2045 : (Jvm.Cond.instanceMethod ({ cls := "TaxWorkbench$Reader", name := "<init>", desc := "(LTaxWorkbench;)V" } : Jvm.MethodName)) ∈ lw_all := lw_g (lw_at lw_m9 24 rfl) rfl
theorem q2046 : (Jvm.Cond.code ({ cls := "TaxWorkbench$Reader", name := "<init>", desc := "(LTaxWorkbench;)V" } : Jvm.MethodName) prog_9_method_1_code (2 : Nat) (Option.none : Option Jvm.ClassFile.FieldType)) ∈ lw_all := lw_g (lw_at lw_m9 25 rfl) rfl
theorem q2047 : (Jvm.Cond.methodLink "TaxWorkbench$Reader" (9 : Nat) ({ cls := "java/lang/Object", name := "<init>", desc := "()V" } : Jvm.MethodName)) ∈ lw_all := lw_g (lw_at lw_m9 26 rfl) rfl
theorem q2048 : (Jvm.Cond.methodLink "TaxWorkbench$Reader" (25 : Nat) ({ cls := "TaxWorkbench$Rules", name := "copy", desc := "()LTaxWorkbench$Rules;" } : Jvm.MethodName)) ∈ lw_all := lw_g (lw_at lw_m9 27 rfl) rfl
theorem q2049 : (Jvm.Cond.fieldLink "TaxWorkbench$Reader" (31 : Nat) "TaxWorkbench$Reader" "rules" "LTaxWorkbench$Rules;") ∈ lw_all := lw_g (lw_at lw_m9 28 rfl) rfl
theorem q2051 : (Jvm.Cond.fieldLink "TaxWorkbench$Reader" (36 : Nat) "TaxWorkbench$Reader" "at" "I") ∈ lw_all := lw_g (lw_at lw_m9 30 rfl) rfl
theorem q2053 : (Jvm.Cond.fieldLink "TaxWorkbench$Reader" (162 : Nat) "TaxWorkbench$Reader" "items" "I") ∈ lw_all := lw_g (lw_at lw_m9 32 rfl) rfl
theorem q2054 : (Jvm.Cond.fieldLink "TaxWorkbench$Reader" (32 : Nat) "TaxWorkbench$Reader" "areBracketsAllowed" "Z") ∈ lw_all := lw_g (lw_at lw_m9 33 rfl) rfl
theorem q2055 : (Jvm.Cond.fieldLink "TaxWorkbench$Reader" (3 : Nat) "TaxWorkbench$Reader" "this$0" "LTaxWorkbench;") ∈ lw_all := lw_g (lw_at lw_m9 34 rfl) rfl
theorem q2056 : (Jvm.Cond.laysFinal "TaxWorkbench$Reader" "TaxWorkbench$Reader" "rules" "LTaxWorkbench$Rules;") ∈ lw_all := lw_g (lw_at lw_m9 35 rfl) rfl
theorem q2057 : (Jvm.Cond.soleField "TaxWorkbench$Reader" "rules") ∈ lw_all := lw_g (lw_at lw_m9 36 rfl) rfl
theorem q2058 : (Jvm.Cond.lays "TaxWorkbench$Reader" "TaxWorkbench$Reader" "at" "I") ∈ lw_all := lw_g (lw_at lw_m9 37 rfl) rfl
theorem q2059 : (Jvm.Cond.soleField "TaxWorkbench$Reader" "at") ∈ lw_all := lw_g (lw_at lw_m9 38 rfl) rfl
theorem q2060 : (Jvm.Cond.lays "TaxWorkbench$Reader" "TaxWorkbench$Reader" "items" "I") ∈ lw_all := lw_g (lw_at lw_m9 39 rfl) rfl
theorem q2061 : (Jvm.Cond.soleField "TaxWorkbench$Reader" "items") ∈ lw_all := lw_g (lw_at lw_m9 40 rfl) rfl
theorem q2062 : (Jvm.Cond.lays "TaxWorkbench$Reader" "TaxWorkbench$Reader" "areBracketsAllowed" "Z") ∈ lw_all := lw_g (lw_at lw_m9 41 rfl) rfl
theorem q2063 : (Jvm.Cond.soleField "TaxWorkbench$Reader" "areBracketsAllowed") ∈ lw_all := lw_g (lw_at lw_m9 42 rfl) rfl
theorem q2064 : (Jvm.Cond.laysFinal "TaxWorkbench$Reader" "TaxWorkbench$Reader" "this$0" "LTaxWorkbench;") ∈ lw_all := lw_g (lw_at lw_m9 43 rfl) rfl
theorem q2065 : (Jvm.Cond.soleField "TaxWorkbench$Reader" "this$0") ∈ lw_all := lw_g (lw_at lw_m9 44 rfl) rfl
theorem q2066 : (Jvm.Cond.superclass "TaxWorkbench$Reader" "java/lang/Object") ∈ lw_all := lw_g (lw_at lw_m9 45 rfl) rfl
theorem q2068 : (Jvm.Cond.instanceMethod ({ cls := "TaxWorkbench$Reader", name := "all", desc := "()V" } : Jvm.MethodName)) ∈ lw_all := lw_g (lw_at lw_m9 47 rfl) rfl
theorem q2069 : (Jvm.Cond.selects "TaxWorkbench$Reader" ({ cls := "TaxWorkbench$Reader", name := "all", desc := "()V" } : Jvm.MethodName) ({ cls := "TaxWorkbench$Reader", name := "all", desc := "()V" } : Jvm.MethodName)) ∈ lw_all := lw_g (lw_at lw_m9 48 rfl) rfl
theorem q2070 : (Jvm.Cond.code ({ cls := "TaxWorkbench$Reader", name := "all", desc := "()V" } : Jvm.MethodName) prog_9_method_13_code (1 : Nat) (Option.none : Option Jvm.ClassFile.FieldType)) ∈ lw_all := lw_g (lw_at lw_m9 49 rfl) rfl
theorem q2071 : (Jvm.Cond.methodLink "TaxWorkbench$Reader" (182 : Nat) ({ cls := "TaxWorkbench$Reader", name := "item", desc := "()V" } : Jvm.MethodName)) ∈ lw_all := lw_g (lw_at lw_m9 50 rfl) rfl
theorem q2072 : (Jvm.Cond.privateMethod ({ cls := "TaxWorkbench$Reader", name := "item", desc := "()V" } : Jvm.MethodName)) ∈ lw_tbl := lw_at lw_m9 51 rfl
theorem q2073 : (Jvm.Cond.instanceMethod ({ cls := "TaxWorkbench$Reader", name := "item", desc := "()V" } : Jvm.MethodName)) ∈ lw_all := lw_g (lw_at lw_m9 52 rfl) rfl
theorem q2074 : (Jvm.Cond.code ({ cls := "TaxWorkbench$Reader", name := "item", desc := "()V" } : Jvm.MethodName) prog_9_method_11_code (2 : Nat) (Option.none : Option Jvm.ClassFile.FieldType)) ∈ lw_all := lw_g (lw_at lw_m9 53 rfl) rfl
theorem q2075 : (Jvm.Cond.methodLink "TaxWorkbench$Reader" (52 : Nat) ({ cls := "TaxWorkbench$Reader", name := "here", desc := "()C" } : Jvm.MethodName)) ∈ lw_all := lw_g (lw_at lw_m9 54 rfl) rfl
theorem q2076 : (Jvm.Cond.privateMethod ({ cls := "TaxWorkbench$Reader", name := "here", desc := "()C" } : Jvm.MethodName)) ∈ lw_tbl := lw_at lw_m9 55 rfl
theorem q2077 : (Jvm.Cond.instanceMethod ({ cls := "TaxWorkbench$Reader", name := "here", desc := "()C" } : Jvm.MethodName)) ∈ lw_all := lw_g (lw_at lw_m9 56 rfl) rfl
theorem q2078 : (Jvm.Cond.code ({ cls := "TaxWorkbench$Reader", name := "here", desc := "()C" } : Jvm.MethodName) prog_9_method_2_code (1 : Nat) (Option.some Jvm.ClassFile.FieldType.char)) ∈ lw_all := lw_g (lw_at lw_m9 57 rfl) rfl
theorem q2079 : (Jvm.Cond.stringRef "TaxWorkbench$Reader" (135 : Nat) "nrk") ∈ lw_tbl := lw_at lw_m9 58 rfl
theorem q2080 : (Jvm.Cond.methodLink "TaxWorkbench$Reader" (137 : Nat) ({ cls := "java/lang/String", name := "indexOf", desc := "(I)I" } : Jvm.MethodName)) ∈ lw_all := lw_g (lw_at lw_m9 59 rfl) rfl
theorem q2130 : (Jvm.Cond.methodLink "TaxWorkbench$Reader" (64 : Nat) ({ cls := "TaxWorkbench$Reader", name := "pass", desc := "(Z)V" } : Jvm.MethodName)) ∈ lw_all := lw_g (lw_at lw_m9 109 rfl) rfl
theorem q2131 : (Jvm.Cond.privateMethod ({ cls := "TaxWorkbench$Reader", name := "pass", desc := "(Z)V" } : Jvm.MethodName)) ∈ lw_tbl := lw_at lw_m9 110 rfl
theorem q2132 : (Jvm.Cond.instanceMethod ({ cls := "TaxWorkbench$Reader", name := "pass", desc := "(Z)V" } : Jvm.MethodName)) ∈ lw_all := lw_g (lw_at lw_m9 111 rfl) rfl
theorem q2133 : (Jvm.Cond.code ({ cls := "TaxWorkbench$Reader", name := "pass", desc := "(Z)V" } : Jvm.MethodName) prog_9_method_3_code (2 : Nat) (Option.none : Option Jvm.ClassFile.FieldType)) ∈ lw_all := lw_g (lw_at lw_m9 112 rfl) rfl
theorem q2134 : (Jvm.Cond.classLink "TaxWorkbench$Reader" (47 : Nat) "TaxWorkbench$FaultException") ∈ lw_all := lw_g (lw_at lw_m9 113 rfl) rfl
theorem q2143 : (Jvm.Cond.methodLink "TaxWorkbench$Reader" (49 : Nat) ({ cls := "TaxWorkbench$FaultException", name := "<init>", desc := "(I)V" } : Jvm.MethodName)) ∈ lw_all := lw_g (lw_at lw_m9 122 rfl) rfl
theorem q2158 : (Jvm.Cond.methodLink "TaxWorkbench$Reader" (143 : Nat) ({ cls := "TaxWorkbench$Reader", name := "brackets", desc := "()V" } : Jvm.MethodName)) ∈ lw_all := lw_g (lw_at lw_m9 137 rfl) rfl
theorem q2159 : (Jvm.Cond.privateMethod ({ cls := "TaxWorkbench$Reader", name := "brackets", desc := "()V" } : Jvm.MethodName)) ∈ lw_tbl := lw_at lw_m9 138 rfl
theorem q2160 : (Jvm.Cond.instanceMethod ({ cls := "TaxWorkbench$Reader", name := "brackets", desc := "()V" } : Jvm.MethodName)) ∈ lw_all := lw_g (lw_at lw_m9 139 rfl) rfl
theorem q2161 : (Jvm.Cond.code ({ cls := "TaxWorkbench$Reader", name := "brackets", desc := "()V" } : Jvm.MethodName) prog_9_method_7_code (4 : Nat) (Option.none : Option Jvm.ClassFile.FieldType)) ∈ lw_all := lw_g (lw_at lw_m9 140 rfl) rfl
theorem q2162 : (Jvm.Cond.classLink "TaxWorkbench$Reader" (68 : Nat) "java/util/ArrayList") ∈ lw_all := lw_g (lw_at lw_m9 141 rfl) rfl
theorem q2163 : (Jvm.Cond.methodLink "TaxWorkbench$Reader" (70 : Nat) ({ cls := "java/util/ArrayList", name := "<init>", desc := "()V" } : Jvm.MethodName)) ∈ lw_all := lw_g (lw_at lw_m9 142 rfl) rfl
theorem q2164 : (Jvm.Cond.methodLink "TaxWorkbench$Reader" (71 : Nat) ({ cls := "TaxWorkbench$Reader", name := "number", desc := "()I" } : Jvm.MethodName)) ∈ lw_all := lw_g (lw_at lw_m9 143 rfl) rfl
theorem q2165 : (Jvm.Cond.privateMethod ({ cls := "TaxWorkbench$Reader", name := "number", desc := "()I" } : Jvm.MethodName)) ∈ lw_tbl := lw_at lw_m9 144 rfl
theorem q2166 : (Jvm.Cond.instanceMethod ({ cls := "TaxWorkbench$Reader", name := "number", desc := "()I" } : Jvm.MethodName)) ∈ lw_all := lw_g (lw_at lw_m9 145 rfl) rfl
theorem q2167 : (Jvm.Cond.code ({ cls := "TaxWorkbench$Reader", name := "number", desc := "()I" } : Jvm.MethodName) prog_9_method_5_code (3 : Nat) (Option.some Jvm.ClassFile.FieldType.int)) ∈ lw_all := lw_g (lw_at lw_m9 146 rfl) rfl
theorem q2168 : (Jvm.Cond.methodLink "TaxWorkbench$Reader" (60 : Nat) ({ cls := "TaxWorkbench$Reader", name := "isDigit", desc := "()Z" } : Jvm.MethodName)) ∈ lw_all := lw_g (lw_at lw_m9 147 rfl) rfl
theorem q2169 : (Jvm.Cond.privateMethod ({ cls := "TaxWorkbench$Reader", name := "isDigit", desc := "()Z" } : Jvm.MethodName)) ∈ lw_tbl := lw_at lw_m9 148 rfl
theorem q2170 : (Jvm.Cond.instanceMethod ({ cls := "TaxWorkbench$Reader", name := "isDigit", desc := "()Z" } : Jvm.MethodName)) ∈ lw_all := lw_g (lw_at lw_m9 149 rfl) rfl
theorem q2171 : (Jvm.Cond.code ({ cls := "TaxWorkbench$Reader", name := "isDigit", desc := "()Z" } : Jvm.MethodName) prog_9_method_4_code (1 : Nat) (Option.some Jvm.ClassFile.FieldType.boolean)) ∈ lw_all := lw_g (lw_at lw_m9 150 rfl) rfl
theorem q2172 : (Jvm.Cond.methodLinkNest "TaxWorkbench$Reader" (56 : Nat) ({ cls := "TaxWorkbench", name := "isBetween", desc := "(III)Z" } : Jvm.MethodName) "TaxWorkbench") ∈ lw_tbl := lw_at lw_m9 151 rfl
theorem q2173 : (Jvm.Cond.classLink "TaxWorkbench$Reader" (91 : Nat) "TaxWorkbench$Bracket") ∈ lw_all := lw_g (lw_at lw_m9 152 rfl) rfl
theorem q2174 : (Jvm.Cond.methodLink "TaxWorkbench$Reader" (93 : Nat) ({ cls := "TaxWorkbench$Bracket", name := "<init>", desc := "(II)V" } : Jvm.MethodName)) ∈ lw_all := lw_g (lw_at lw_m9 153 rfl) rfl
theorem q2175 : (Jvm.Cond.methodLink "TaxWorkbench$Reader" (81 : Nat) ({ cls := "java/util/ArrayList", name := "add", desc := "(Ljava/lang/Object;)Z" } : Jvm.MethodName)) ∈ lw_all := lw_g (lw_at lw_m9 154 rfl) rfl
theorem q2176 : (Jvm.Cond.methodLink "TaxWorkbench$Reader" (149 : Nat) ({ cls := "TaxWorkbench$Reader", name := "fill", desc := "([I)V" } : Jvm.MethodName)) ∈ lw_all := lw_g (lw_at lw_m9 155 rfl) rfl
theorem q2177 : (Jvm.Cond.privateMethod ({ cls := "TaxWorkbench$Reader", name := "fill", desc := "([I)V" } : Jvm.MethodName)) ∈ lw_tbl := lw_at lw_m9 156 rfl
theorem q2178 : (Jvm.Cond.instanceMethod ({ cls := "TaxWorkbench$Reader", name := "fill", desc := "([I)V" } : Jvm.MethodName)) ∈ lw_all := lw_g (lw_at lw_m9 157 rfl) rfl
theorem q2179 : (Jvm.Cond.code ({ cls := "TaxWorkbench$Reader", name := "fill", desc := "([I)V" } : Jvm.MethodName) prog_9_method_9_code (4 : Nat) (Option.none : Option Jvm.ClassFile.FieldType)) ∈ lw_all := lw_g (lw_at lw_m9 158 rfl) rfl
theorem q2180 : (Jvm.Cond.methodLink "TaxWorkbench$Reader" (100 : Nat) ({ cls := "TaxWorkbench$Reader", name := "numbers", desc := "(I)Ljava/util/List;" } : Jvm.MethodName)) ∈ lw_all := lw_g (lw_at lw_m9 159 rfl) rfl
theorem q2181 : (Jvm.Cond.privateMethod ({ cls := "TaxWorkbench$Reader", name := "numbers", desc := "(I)Ljava/util/List;" } : Jvm.MethodName)) ∈ lw_tbl := lw_at lw_m9 160 rfl
theorem q2182 : (Jvm.Cond.instanceMethod ({ cls := "TaxWorkbench$Reader", name := "numbers", desc := "(I)Ljava/util/List;" } : Jvm.MethodName)) ∈ lw_all := lw_g (lw_at lw_m9 161 rfl) rfl
theorem q2183 : (Jvm.Cond.code ({ cls := "TaxWorkbench$Reader", name := "numbers", desc := "(I)Ljava/util/List;" } : Jvm.MethodName) prog_9_method_6_code (4 : Nat) (Option.some (Jvm.ClassFile.FieldType.object "java/util/List"))) ∈ lw_all := lw_g (lw_at lw_m9 162 rfl) rfl
theorem q2184 : (Jvm.Cond.methodLink "TaxWorkbench$Reader" (75 : Nat) ({ cls := "java/lang/Integer", name := "valueOf", desc := "(I)Ljava/lang/Integer;" } : Jvm.MethodName)) ∈ lw_all := lw_g (lw_at lw_m9 163 rfl) rfl
theorem q2204 : (Jvm.Cond.methodLink "TaxWorkbench$Reader" (85 : Nat) ({ cls := "java/util/Collections", name := "unmodifiableList", desc := "(Ljava/util/List;)Ljava/util/List;" } : Jvm.MethodName)) ∈ lw_all := lw_g (lw_at lw_m9 183 rfl) rfl
theorem q2252 : (Jvm.Cond.interfaceEntry "TaxWorkbench$Reader" (119 : Nat)) ∈ lw_tbl := lw_at lw_m9 231 rfl
theorem q2253 : (Jvm.Cond.methodLink "TaxWorkbench$Reader" (119 : Nat) ({ cls := "java/util/List", name := "get", desc := "(I)Ljava/lang/Object;" } : Jvm.MethodName)) ∈ lw_all := lw_g (lw_at lw_m9 232 rfl) rfl
theorem q2254 : (Jvm.Cond.classLink "TaxWorkbench$Reader" (76 : Nat) "java/lang/Integer") ∈ lw_all := lw_g (lw_at lw_m9 233 rfl) rfl
theorem q2255 : (Jvm.Cond.methodLink "TaxWorkbench$Reader" (125 : Nat) ({ cls := "java/lang/Integer", name := "intValue", desc := "()I" } : Jvm.MethodName)) ∈ lw_all := lw_g (lw_at lw_m9 234 rfl) rfl
theorem q2259 : (Jvm.Cond.methodLink "TaxWorkbench$Reader" (156 : Nat) ({ cls := "TaxWorkbench$Reader", name := "charge", desc := "()V" } : Jvm.MethodName)) ∈ lw_all := lw_g (lw_at lw_m9 238 rfl) rfl
theorem q2260 : (Jvm.Cond.privateMethod ({ cls := "TaxWorkbench$Reader", name := "charge", desc := "()V" } : Jvm.MethodName)) ∈ lw_tbl := lw_at lw_m9 239 rfl
theorem q2261 : (Jvm.Cond.instanceMethod ({ cls := "TaxWorkbench$Reader", name := "charge", desc := "()V" } : Jvm.MethodName)) ∈ lw_all := lw_g (lw_at lw_m10 0 rfl) rfl
theorem q2262 : (Jvm.Cond.code ({ cls := "TaxWorkbench$Reader", name := "charge", desc := "()V" } : Jvm.MethodName) prog_9_method_10_code (2 : Nat) (Option.none : Option Jvm.ClassFile.FieldType)) ∈ lw_all := lw_g (lw_at lw_m10 1 rfl) rfl
theorem q2263 : (Jvm.Cond.classLink "TaxWorkbench$Reader" (132 : Nat) "TaxWorkbench$Charge") ∈ lw_all := lw_g (lw_at lw_m10 2 rfl) rfl
theorem q2265 : (Jvm.Cond.methodLink "TaxWorkbench$Reader" (134 : Nat) ({ cls := "TaxWorkbench$Charge", name := "<init>", desc := "(II)V" } : Jvm.MethodName)) ∈ lw_all := lw_g (lw_at lw_m10 4 rfl) rfl
theorem q2280 : (Jvm.Cond.methodLink "TaxWorkbench$Reader" (159 : Nat) ({ cls := "TaxWorkbench$Reader", name := "credit", desc := "(I)V" } : Jvm.MethodName)) ∈ lw_all := lw_g (lw_at lw_m10 19 rfl) rfl
theorem q2281 : (Jvm.Cond.privateMethod ({ cls := "TaxWorkbench$Reader", name := "credit", desc := "(I)V" } : Jvm.MethodName)) ∈ lw_tbl := lw_at lw_m10 20 rfl
theorem q2282 : (Jvm.Cond.instanceMethod ({ cls := "TaxWorkbench$Reader", name := "credit", desc := "(I)V" } : Jvm.MethodName)) ∈ lw_all := lw_g (lw_at lw_m10 21 rfl) rfl
theorem q2283 : (Jvm.Cond.code ({ cls := "TaxWorkbench$Reader", name := "credit", desc := "(I)V" } : Jvm.MethodName) prog_9_method_8_code (4 : Nat) (Option.none : Option Jvm.ClassFile.FieldType)) ∈ lw_all := lw_g (lw_at lw_m10 22 rfl) rfl
theorem q2284 : (Jvm.Cond.classLink "TaxWorkbench$Reader" (108 : Nat) "TaxWorkbench$Credit") ∈ lw_all := lw_g (lw_at lw_m10 23 rfl) rfl
theorem q2286 : (Jvm.Cond.methodLink "TaxWorkbench$Reader" (110 : Nat) ({ cls := "TaxWorkbench$Credit", name := "<init>", desc := "(ILjava/util/List;Z)V" } : Jvm.MethodName)) ∈ lw_all := lw_g (lw_at lw_m10 25 rfl) rfl
theorem q2314 : (Jvm.Cond.methodLink "TaxWorkbench$Reader" (113 : Nat) ({ cls := "java/util/LinkedList", name := "addLast", desc := "(Ljava/lang/Object;)V" } : Jvm.MethodName)) ∈ lw_all := lw_g (lw_at lw_m10 53 rfl) rfl
theorem q2322 : (Jvm.Cond.methodLink "TaxWorkbench$Reader" (165 : Nat) ({ cls := "TaxWorkbench$Reader", name := "areRatesAllowed", desc := "()Z" } : Jvm.MethodName)) ∈ lw_all := lw_g (lw_at lw_m10 61 rfl) rfl
theorem q2323 : (Jvm.Cond.privateMethod ({ cls := "TaxWorkbench$Reader", name := "areRatesAllowed", desc := "()Z" } : Jvm.MethodName)) ∈ lw_tbl := lw_at lw_m10 62 rfl
theorem q2324 : (Jvm.Cond.instanceMethod ({ cls := "TaxWorkbench$Reader", name := "areRatesAllowed", desc := "()Z" } : Jvm.MethodName)) ∈ lw_all := lw_g (lw_at lw_m10 63 rfl) rfl
theorem q2325 : (Jvm.Cond.code ({ cls := "TaxWorkbench$Reader", name := "areRatesAllowed", desc := "()Z" } : Jvm.MethodName) prog_9_method_12_code (2 : Nat) (Option.some Jvm.ClassFile.FieldType.boolean)) ∈ lw_all := lw_g (lw_at lw_m10 64 rfl) rfl
theorem q2326 : (Jvm.Cond.methodLink "TaxWorkbench$Reader" (168 : Nat) ({ cls := "java/util/ArrayList", name := "size", desc := "()I" } : Jvm.MethodName)) ∈ lw_all := lw_g (lw_at lw_m10 65 rfl) rfl
theorem q2327 : (Jvm.Cond.methodLink "TaxWorkbench$Reader" (171 : Nat) ({ cls := "java/util/ArrayList", name := "remove", desc := "(I)Ljava/lang/Object;" } : Jvm.MethodName)) ∈ lw_all := lw_g (lw_at lw_m10 66 rfl) rfl
theorem q2335 : (Jvm.Cond.methodLink "TaxWorkbench$Reader" (174 : Nat) ({ cls := "java/util/LinkedList", name := "size", desc := "()I" } : Jvm.MethodName)) ∈ lw_all := lw_g (lw_at lw_m10 74 rfl) rfl
theorem q2336 : (Jvm.Cond.methodLink "TaxWorkbench$Reader" (175 : Nat) ({ cls := "java/util/LinkedList", name := "removeFirst", desc := "()Ljava/lang/Object;" } : Jvm.MethodName)) ∈ lw_all := lw_g (lw_at lw_m10 75 rfl) rfl
theorem q2346 : (Jvm.Cond.methodLink "TaxWorkbench$Reader" (179 : Nat) ({ cls := "TaxWorkbench$Rules", name := "isAllowed", desc := "()Z" } : Jvm.MethodName)) ∈ lw_all := lw_g (lw_at lw_m10 85 rfl) rfl
theorem q2366 : (Jvm.Cond.instanceMethod ({ cls := "TaxWorkbench$Reader", name := "isAllowed", desc := "()Z" } : Jvm.MethodName)) ∈ lw_all := lw_g (lw_at lw_m10 105 rfl) rfl
theorem q2367 : (Jvm.Cond.selects "TaxWorkbench$Reader" ({ cls := "TaxWorkbench$Reader", name := "isAllowed", desc := "()Z" } : Jvm.MethodName) ({ cls := "TaxWorkbench$Reader", name := "isAllowed", desc := "()Z" } : Jvm.MethodName)) ∈ lw_all := lw_g (lw_at lw_m10 106 rfl) rfl
theorem q2368 : (Jvm.Cond.code ({ cls := "TaxWorkbench$Reader", name := "isAllowed", desc := "()Z" } : Jvm.MethodName) prog_9_method_14_code (1 : Nat) (Option.some Jvm.ClassFile.FieldType.boolean)) ∈ lw_all := lw_g (lw_at lw_m10 107 rfl) rfl
theorem q3962 : (Jvm.Cond.castable "TaxWorkbench$Reader" "java/lang/Object") ∈ lw_tbl := lw_at lw_m17 21 rfl

/-! TaxWorkbench$FaultException -/
set_option maxRecDepth 100000
abbrev cX10_init : ByteArray := prog_7_method_1_code
def yX10_init : MethodName := ⟨RX10, "<init>", "(I)V"⟩
def dkwX10_init_0 : List UInt8 := [42, 1, 1, 3, 3, 183, 0, 1, 42, 27, 181, 0, 7, 177]
abbrev dktX10_init_0 : List UInt8 := dkwX10_init_0 ++ []
theorem dksX10_init_0 : cX10_init.data.toList.drop 0 = dktX10_init_0 := by decide +kernel
theorem dX10_init_0 : decode cX10_init 0 = .ok (.aload_n 0, 1) := dk_42 (dk_at dksX10_init_0 0 rfl rfl)
theorem dX10_init_1 : decode cX10_init 1 = .ok (.aconst_null, 1) := dk_1 (dk_at dksX10_init_0 1 rfl rfl)
theorem dX10_init_2 : decode cX10_init 2 = .ok (.aconst_null, 1) := dk_1 (dk_at dksX10_init_0 2 rfl rfl)
theorem dX10_init_3 : decode cX10_init 3 = .ok (.iconst 0, 1) := dk_3 (dk_at dksX10_init_0 3 rfl rfl)
theorem dX10_init_4 : decode cX10_init 4 = .ok (.iconst 0, 1) := dk_3 (dk_at dksX10_init_0 4 rfl rfl)
theorem dX10_init_5 : decode cX10_init 5 = .ok (.invokespecial 1, 3) := dk_183 0 1 (dk_at dksX10_init_0 5 rfl rfl)
theorem dX10_init_8 : decode cX10_init 8 = .ok (.aload_n 0, 1) := dk_42 (dk_at dksX10_init_0 8 rfl rfl)
theorem dX10_init_9 : decode cX10_init 9 = .ok (.iload_n 1, 1) := dk_27 (dk_at dksX10_init_0 9 rfl rfl)
theorem dX10_init_10 : decode cX10_init 10 = .ok (.putfield 7, 3) := dk_181 0 7 (dk_at dksX10_init_0 10 rfl rfl)
theorem dX10_init_13 : decode cX10_init 13 = .ok (.return_, 1) := dk_177 (dk_at dksX10_init_0 13 rfl rfl)
theorem q153 : (Jvm.Cond.initialized "TaxWorkbench$FaultException") ∈ lw_all := lw_g (lw_at lw_m1 52 rfl) rfl
theorem q392 : (Jvm.Cond.selects "TaxWorkbench$FaultException" ({ cls := "java/lang/Object", name := "getClass", desc := "()Ljava/lang/Class;" } : Jvm.MethodName) ({ cls := "java/lang/Object", name := "getClass", desc := "()Ljava/lang/Class;" } : Jvm.MethodName)) ∈ lw_all := lw_g (lw_at lw_m2 51 rfl) rfl
theorem q713 : (Jvm.Cond.selects "TaxWorkbench$FaultException" ({ cls := "java/lang/Throwable", name := "fillInStackTrace", desc := "()Ljava/lang/Throwable;" } : Jvm.MethodName) ({ cls := "java/lang/Throwable", name := "fillInStackTrace", desc := "()Ljava/lang/Throwable;" } : Jvm.MethodName)) ∈ lw_all := lw_g (lw_at lw_m3 132 rfl) rfl
theorem q1441 : (Jvm.Cond.selects "TaxWorkbench$FaultException" ({ cls := "java/lang/Throwable", name := "toString", desc := "()Ljava/lang/String;" } : Jvm.MethodName) ({ cls := "java/lang/Throwable", name := "toString", desc := "()Ljava/lang/String;" } : Jvm.MethodName)) ∈ lw_all := lw_g (lw_at lw_m6 140 rfl) rfl
theorem q1455 : (Jvm.Cond.selects "TaxWorkbench$FaultException" ({ cls := "java/lang/Throwable", name := "getLocalizedMessage", desc := "()Ljava/lang/String;" } : Jvm.MethodName) ({ cls := "java/lang/Throwable", name := "getLocalizedMessage", desc := "()Ljava/lang/String;" } : Jvm.MethodName)) ∈ lw_all := lw_g (lw_at lw_m6 154 rfl) rfl
theorem q1468 : (Jvm.Cond.selects "TaxWorkbench$FaultException" ({ cls := "java/lang/Throwable", name := "getMessage", desc := "()Ljava/lang/String;" } : Jvm.MethodName) ({ cls := "java/lang/Throwable", name := "getMessage", desc := "()Ljava/lang/String;" } : Jvm.MethodName)) ∈ lw_all := lw_g (lw_at lw_m6 167 rfl) rfl
theorem q2135 : (Jvm.Cond.instantiable "TaxWorkbench$FaultException" (7 : Nat)) ∈ lw_all := lw_g (lw_at lw_m9 114 rfl) rfl
theorem q2136 : (Jvm.Cond.castable "TaxWorkbench$FaultException" "TaxWorkbench$FaultException") ∈ lw_tbl := lw_at lw_m9 115 rfl
theorem q2137 : (Jvm.Cond.selects "TaxWorkbench$FaultException" ({ cls := "java/lang/Throwable", name := "fillInStackTrace", desc := "(I)Ljava/lang/Throwable;" } : Jvm.MethodName) ({ cls := "java/lang/Throwable", name := "fillInStackTrace", desc := "(I)Ljava/lang/Throwable;" } : Jvm.MethodName)) ∈ lw_all := lw_g (lw_at lw_m9 116 rfl) rfl
theorem q2138 : (Jvm.Cond.lays "TaxWorkbench$FaultException" "java/lang/Throwable" "cause" "Ljava/lang/Throwable;") ∈ lw_all := lw_g (lw_at lw_m9 117 rfl) rfl
theorem q2139 : (Jvm.Cond.lays "TaxWorkbench$FaultException" "java/lang/Throwable" "stackTrace" "[Ljava/lang/StackTraceElement;") ∈ lw_all := lw_g (lw_at lw_m9 118 rfl) rfl
theorem q2140 : (Jvm.Cond.lays "TaxWorkbench$FaultException" "java/lang/Throwable" "suppressedExceptions" "Ljava/util/List;") ∈ lw_all := lw_g (lw_at lw_m9 119 rfl) rfl
theorem q2141 : (Jvm.Cond.lays "TaxWorkbench$FaultException" "java/lang/Throwable" "detailMessage" "Ljava/lang/String;") ∈ lw_all := lw_g (lw_at lw_m9 120 rfl) rfl
theorem q2142 : (Jvm.Cond.lays "TaxWorkbench$FaultException" "java/lang/Throwable" "backtrace" "Ljava/lang/Object;") ∈ lw_all := lw_g (lw_at lw_m9 121 rfl) rfl
theorem q2144 : (Jvm.Cond.instanceMethod ({ cls := "TaxWorkbench$FaultException", name := "<init>", desc := "(I)V" } : Jvm.MethodName)) ∈ lw_all := lw_g (lw_at lw_m9 123 rfl) rfl
theorem q2145 : (Jvm.Cond.code ({ cls := "TaxWorkbench$FaultException", name := "<init>", desc := "(I)V" } : Jvm.MethodName) prog_7_method_1_code (2 : Nat) (Option.none : Option Jvm.ClassFile.FieldType)) ∈ lw_all := lw_g (lw_at lw_m9 124 rfl) rfl
theorem q2146 : (Jvm.Cond.methodLink "TaxWorkbench$FaultException" (1 : Nat) ({ cls := "java/lang/Exception", name := "<init>", desc := "(Ljava/lang/String;Ljava/lang/Throwable;ZZ)V" } : Jvm.MethodName)) ∈ lw_all := lw_g (lw_at lw_m9 125 rfl) rfl
theorem q2152 : (Jvm.Cond.fieldLink "TaxWorkbench$FaultException" (7 : Nat) "TaxWorkbench$FaultException" "position" "I") ∈ lw_all := lw_g (lw_at lw_m9 131 rfl) rfl
theorem q2154 : (Jvm.Cond.laysFinal "TaxWorkbench$FaultException" "TaxWorkbench$FaultException" "position" "I") ∈ lw_all := lw_g (lw_at lw_m9 133 rfl) rfl
theorem q2155 : (Jvm.Cond.soleField "TaxWorkbench$FaultException" "position") ∈ lw_all := lw_g (lw_at lw_m9 134 rfl) rfl
theorem q2156 : (Jvm.Cond.lays "TaxWorkbench$FaultException" "java/lang/Throwable" "depth" "I") ∈ lw_all := lw_g (lw_at lw_m9 135 rfl) rfl
theorem q2157 : (Jvm.Cond.superclass "TaxWorkbench$FaultException" "java/lang/Exception") ∈ lw_all := lw_g (lw_at lw_m9 136 rfl) rfl
theorem q3967 : (Jvm.Cond.castable "TaxWorkbench$FaultException" "java/lang/Object") ∈ lw_tbl := lw_at lw_m17 26 rfl

