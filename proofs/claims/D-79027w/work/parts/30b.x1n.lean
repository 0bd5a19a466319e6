/-! TaxWorkbench -/
set_option maxRecDepth 100000
abbrev cX1_init : ByteArray := prog_1_method_6_code
def yX1_init : MethodName := ⟨RX1, "<init>", "()V"⟩
def dkwX1_init_2 : List UInt8 := [181, 0, 46, 177]
abbrev dktX1_init_2 : List UInt8 := dkwX1_init_2 ++ []
def dkwX1_init_1 : List UInt8 := [181, 0, 31, 42, 187, 0, 35, 89, 183, 0, 37, 181, 0, 38, 42, 16, 80, 188, 5, 181, 0, 42, 42, 2]
abbrev dktX1_init_1 : List UInt8 := dkwX1_init_1 ++ dktX1_init_2
def dkwX1_init_0 : List UInt8 := [42, 183, 0, 16, 42, 187, 0, 19, 89, 183, 0, 21, 181, 0, 22, 42, 187, 0, 28, 89, 183, 0, 30]
abbrev dktX1_init_0 : List UInt8 := dkwX1_init_0 ++ dktX1_init_1
theorem dksX1_init_0 : cX1_init.data.toList.drop 0 = dktX1_init_0 := by decide +kernel
theorem dksX1_init_1 : cX1_init.data.toList.drop 23 = dktX1_init_1 := dk_seg dksX1_init_0 23 rfl rfl
theorem dksX1_init_2 : cX1_init.data.toList.drop 47 = dktX1_init_2 := dk_seg dksX1_init_1 24 rfl rfl
theorem dX1_init_0 : decode cX1_init 0 = .ok (.aload_n 0, 1) := dk_42 (dk_at dksX1_init_0 0 rfl rfl)
theorem dX1_init_1 : decode cX1_init 1 = .ok (.invokespecial 16, 3) := dk_183 0 16 (dk_at dksX1_init_0 1 rfl rfl)
theorem dX1_init_4 : decode cX1_init 4 = .ok (.aload_n 0, 1) := dk_42 (dk_at dksX1_init_0 4 rfl rfl)
theorem dX1_init_5 : decode cX1_init 5 = .ok (.new 19, 3) := dk_187 0 19 (dk_at dksX1_init_0 5 rfl rfl)
theorem dX1_init_8 : decode cX1_init 8 = .ok (.dup, 1) := dk_89 (dk_at dksX1_init_0 8 rfl rfl)
theorem dX1_init_9 : decode cX1_init 9 = .ok (.invokespecial 21, 3) := dk_183 0 21 (dk_at dksX1_init_0 9 rfl rfl)
theorem dX1_init_12 : decode cX1_init 12 = .ok (.putfield 22, 3) := dk_181 0 22 (dk_at dksX1_init_0 12 rfl rfl)
theorem dX1_init_15 : decode cX1_init 15 = .ok (.aload_n 0, 1) := dk_42 (dk_at dksX1_init_0 15 rfl rfl)
theorem dX1_init_16 : decode cX1_init 16 = .ok (.new 28, 3) := dk_187 0 28 (dk_at dksX1_init_0 16 rfl rfl)
theorem dX1_init_19 : decode cX1_init 19 = .ok (.dup, 1) := dk_89 (dk_at dksX1_init_0 19 rfl rfl)
theorem dX1_init_20 : decode cX1_init 20 = .ok (.invokespecial 30, 3) := dk_183 0 30 (dk_at dksX1_init_0 20 rfl rfl)
theorem dX1_init_23 : decode cX1_init 23 = .ok (.putfield 31, 3) := dk_181 0 31 (dk_at dksX1_init_1 0 rfl rfl)
theorem dX1_init_26 : decode cX1_init 26 = .ok (.aload_n 0, 1) := dk_42 (dk_at dksX1_init_1 3 rfl rfl)
theorem dX1_init_27 : decode cX1_init 27 = .ok (.new 35, 3) := dk_187 0 35 (dk_at dksX1_init_1 4 rfl rfl)
theorem dX1_init_30 : decode cX1_init 30 = .ok (.dup, 1) := dk_89 (dk_at dksX1_init_1 7 rfl rfl)
theorem dX1_init_31 : decode cX1_init 31 = .ok (.invokespecial 37, 3) := dk_183 0 37 (dk_at dksX1_init_1 8 rfl rfl)
theorem dX1_init_34 : decode cX1_init 34 = .ok (.putfield 38, 3) := dk_181 0 38 (dk_at dksX1_init_1 11 rfl rfl)
theorem dX1_init_37 : decode cX1_init 37 = .ok (.aload_n 0, 1) := dk_42 (dk_at dksX1_init_1 14 rfl rfl)
theorem dX1_init_38 : decode cX1_init 38 = .ok (.bipush 80, 2) := dk_16 80 (dk_at dksX1_init_1 15 rfl rfl)
theorem dX1_init_40 : decode cX1_init 40 = .ok (.newarray .char, 2) := dk_188_5 (dk_at dksX1_init_1 17 rfl rfl)
theorem dX1_init_42 : decode cX1_init 42 = .ok (.putfield 42, 3) := dk_181 0 42 (dk_at dksX1_init_1 19 rfl rfl)
theorem dX1_init_45 : decode cX1_init 45 = .ok (.aload_n 0, 1) := dk_42 (dk_at dksX1_init_1 22 rfl rfl)
theorem dX1_init_46 : decode cX1_init 46 = .ok (.iconst (-1), 1) := dk_2 (dk_at dksX1_init_1 23 rfl rfl)
theorem dX1_init_47 : decode cX1_init 47 = .ok (.putfield 46, 3) := dk_181 0 46 (dk_at dksX1_init_2 0 rfl rfl)
theorem dX1_init_50 : decode cX1_init 50 = .ok (.return_, 1) := dk_177 (dk_at dksX1_init_2 3 rfl rfl)
abbrev cX1_faultPosition : ByteArray := prog_1_method_11_code
def yX1_faultPosition : MethodName := ⟨RX1, "faultPosition", "()I"⟩
theorem dX1_faultPosition_0 : decode cX1_faultPosition 0 = .ok (.aload_n 0, 1) := by decide +kernel
theorem dX1_faultPosition_1 : decode cX1_faultPosition 1 = .ok (.getfield 46, 3) := by decide +kernel
theorem dX1_faultPosition_4 : decode cX1_faultPosition 4 = .ok (.ireturn, 1) := by decide +kernel
abbrev cX1_clearRules : ByteArray := prog_1_method_12_code
def yX1_clearRules : MethodName := ⟨RX1, "clearRules", "()I"⟩
def dkwX1_clearRules_3 : List UInt8 := [27, 172]
abbrev dktX1_clearRules_3 : List UInt8 := dkwX1_clearRules_3 ++ []
def dkwX1_clearRules_2 : List UInt8 := [16, 6, 162, 0, 22, 44, 180, 0, 128, 29, 16, 6, 188, 11, 182, 0, 131, 87, 132, 3, 1, 167, 255, 234]
abbrev dktX1_clearRules_2 : List UInt8 := dkwX1_clearRules_2 ++ dktX1_clearRules_3
def dkwX1_clearRules_1 : List UInt8 := [182, 0, 124, 96, 60, 42, 182, 0, 101, 77, 44, 187, 0, 112, 89, 183, 0, 127, 181, 0, 107, 3, 62, 29]
abbrev dktX1_clearRules_1 : List UInt8 := dkwX1_clearRules_1 ++ dktX1_clearRules_2
def dkwX1_clearRules_0 : List UInt8 := [42, 180, 0, 22, 180, 0, 107, 180, 0, 111, 182, 0, 117, 42, 180, 0, 22, 180, 0, 107, 180, 0, 120]
abbrev dktX1_clearRules_0 : List UInt8 := dkwX1_clearRules_0 ++ dktX1_clearRules_1
theorem dksX1_clearRules_0 : cX1_clearRules.data.toList.drop 0 = dktX1_clearRules_0 := by decide +kernel
theorem dksX1_clearRules_1 : cX1_clearRules.data.toList.drop 23 = dktX1_clearRules_1 := dk_seg dksX1_clearRules_0 23 rfl rfl
theorem dksX1_clearRules_2 : cX1_clearRules.data.toList.drop 47 = dktX1_clearRules_2 := dk_seg dksX1_clearRules_1 24 rfl rfl
theorem dksX1_clearRules_3 : cX1_clearRules.data.toList.drop 71 = dktX1_clearRules_3 := dk_seg dksX1_clearRules_2 24 rfl rfl
theorem dX1_clearRules_0 : decode cX1_clearRules 0 = .ok (.aload_n 0, 1) := dk_42 (dk_at dksX1_clearRules_0 0 rfl rfl)
theorem dX1_clearRules_1 : decode cX1_clearRules 1 = .ok (.getfield 22, 3) := dk_180 0 22 (dk_at dksX1_clearRules_0 1 rfl rfl)
theorem dX1_clearRules_4 : decode cX1_clearRules 4 = .ok (.getfield 107, 3) := dk_180 0 107 (dk_at dksX1_clearRules_0 4 rfl rfl)
theorem dX1_clearRules_7 : decode cX1_clearRules 7 = .ok (.getfield 111, 3) := dk_180 0 111 (dk_at dksX1_clearRules_0 7 rfl rfl)
theorem dX1_clearRules_10 : decode cX1_clearRules 10 = .ok (.invokevirtual 117, 3) := dk_182 0 117 (dk_at dksX1_clearRules_0 10 rfl rfl)
theorem dX1_clearRules_13 : decode cX1_clearRules 13 = .ok (.aload_n 0, 1) := dk_42 (dk_at dksX1_clearRules_0 13 rfl rfl)
theorem dX1_clearRules_14 : decode cX1_clearRules 14 = .ok (.getfield 22, 3) := dk_180 0 22 (dk_at dksX1_clearRules_0 14 rfl rfl)
theorem dX1_clearRules_17 : decode cX1_clearRules 17 = .ok (.getfield 107, 3) := dk_180 0 107 (dk_at dksX1_clearRules_0 17 rfl rfl)
theorem dX1_clearRules_20 : decode cX1_clearRules 20 = .ok (.getfield 120, 3) := dk_180 0 120 (dk_at dksX1_clearRules_0 20 rfl rfl)
theorem dX1_clearRules_23 : decode cX1_clearRules 23 = .ok (.invokevirtual 124, 3) := dk_182 0 124 (dk_at dksX1_clearRules_1 0 rfl rfl)
theorem dX1_clearRules_26 : decode cX1_clearRules 26 = .ok (.iadd, 1) := dk_96 (dk_at dksX1_clearRules_1 3 rfl rfl)
theorem dX1_clearRules_27 : decode cX1_clearRules 27 = .ok (.istore_n 1, 1) := dk_60 (dk_at dksX1_clearRules_1 4 rfl rfl)
theorem dX1_clearRules_28 : decode cX1_clearRules 28 = .ok (.aload_n 0, 1) := dk_42 (dk_at dksX1_clearRules_1 5 rfl rfl)
theorem dX1_clearRules_29 : decode cX1_clearRules 29 = .ok (.invokevirtual 101, 3) := dk_182 0 101 (dk_at dksX1_clearRules_1 6 rfl rfl)
theorem dX1_clearRules_32 : decode cX1_clearRules 32 = .ok (.astore_n 2, 1) := dk_77 (dk_at dksX1_clearRules_1 9 rfl rfl)
theorem dX1_clearRules_33 : decode cX1_clearRules 33 = .ok (.aload_n 2, 1) := dk_44 (dk_at dksX1_clearRules_1 10 rfl rfl)
theorem dX1_clearRules_34 : decode cX1_clearRules 34 = .ok (.new 112, 3) := dk_187 0 112 (dk_at dksX1_clearRules_1 11 rfl rfl)
theorem dX1_clearRules_37 : decode cX1_clearRules 37 = .ok (.dup, 1) := dk_89 (dk_at dksX1_clearRules_1 14 rfl rfl)
theorem dX1_clearRules_38 : decode cX1_clearRules 38 = .ok (.invokespecial 127, 3) := dk_183 0 127 (dk_at dksX1_clearRules_1 15 rfl rfl)
theorem dX1_clearRules_41 : decode cX1_clearRules 41 = .ok (.putfield 107, 3) := dk_181 0 107 (dk_at dksX1_clearRules_1 18 rfl rfl)
theorem dX1_clearRules_44 : decode cX1_clearRules 44 = .ok (.iconst 0, 1) := dk_3 (dk_at dksX1_clearRules_1 21 rfl rfl)
theorem dX1_clearRules_45 : decode cX1_clearRules 45 = .ok (.istore_n 3, 1) := dk_62 (dk_at dksX1_clearRules_1 22 rfl rfl)
theorem dX1_clearRules_46 : decode cX1_clearRules 46 = .ok (.iload_n 3, 1) := dk_29 (dk_at dksX1_clearRules_1 23 rfl rfl)
theorem dX1_clearRules_47 : decode cX1_clearRules 47 = .ok (.bipush 6, 2) := dk_16 6 (dk_at dksX1_clearRules_2 0 rfl rfl)
theorem dX1_clearRules_49 : decode cX1_clearRules 49 = .ok (.if_icmp .ge 22, 3) := dk_162 0 22 (dk_at dksX1_clearRules_2 2 rfl rfl)
theorem dX1_clearRules_52 : decode cX1_clearRules 52 = .ok (.aload_n 2, 1) := dk_44 (dk_at dksX1_clearRules_2 5 rfl rfl)
theorem dX1_clearRules_53 : decode cX1_clearRules 53 = .ok (.getfield 128, 3) := dk_180 0 128 (dk_at dksX1_clearRules_2 6 rfl rfl)
theorem dX1_clearRules_56 : decode cX1_clearRules 56 = .ok (.iload_n 3, 1) := dk_29 (dk_at dksX1_clearRules_2 9 rfl rfl)
theorem dX1_clearRules_57 : decode cX1_clearRules 57 = .ok (.bipush 6, 2) := dk_16 6 (dk_at dksX1_clearRules_2 10 rfl rfl)
theorem dX1_clearRules_59 : decode cX1_clearRules 59 = .ok (.newarray .long, 2) := dk_188_11 (dk_at dksX1_clearRules_2 12 rfl rfl)
theorem dX1_clearRules_61 : decode cX1_clearRules 61 = .ok (.invokevirtual 131, 3) := dk_182 0 131 (dk_at dksX1_clearRules_2 14 rfl rfl)
theorem dX1_clearRules_64 : decode cX1_clearRules 64 = .ok (.pop, 1) := dk_87 (dk_at dksX1_clearRules_2 17 rfl rfl)
theorem dX1_clearRules_65 : decode cX1_clearRules 65 = .ok (.iinc 3 1, 3) := dk_132 3 1 (dk_at dksX1_clearRules_2 18 rfl rfl)
theorem dX1_clearRules_68 : decode cX1_clearRules 68 = .ok (.goto (-22), 3) := dk_167 255 234 (dk_at dksX1_clearRules_2 21 rfl rfl)
theorem dX1_clearRules_71 : decode cX1_clearRules 71 = .ok (.iload_n 1, 1) := dk_27 (dk_at dksX1_clearRules_3 0 rfl rfl)
theorem dX1_clearRules_72 : decode cX1_clearRules 72 = .ok (.ireturn, 1) := dk_172 (dk_at dksX1_clearRules_3 1 rfl rfl)
abbrev cX1_change : ByteArray := prog_1_method_7_code
def yX1_change : MethodName := ⟨RX1, "change", "()LTaxWorkbench$World;"⟩
def dkwX1_change_0 : List UInt8 := [42, 42, 180, 0, 22, 182, 0, 50, 182, 0, 54, 176]
abbrev dktX1_change_0 : List UInt8 := dkwX1_change_0 ++ []
theorem dksX1_change_0 : cX1_change.data.toList.drop 0 = dktX1_change_0 := by decide +kernel
theorem dX1_change_0 : decode cX1_change 0 = .ok (.aload_n 0, 1) := dk_42 (dk_at dksX1_change_0 0 rfl rfl)
theorem dX1_change_1 : decode cX1_change 1 = .ok (.aload_n 0, 1) := dk_42 (dk_at dksX1_change_0 1 rfl rfl)
theorem dX1_change_2 : decode cX1_change 2 = .ok (.getfield 22, 3) := dk_180 0 22 (dk_at dksX1_change_0 2 rfl rfl)
theorem dX1_change_5 : decode cX1_change 5 = .ok (.invokevirtual 50, 3) := dk_182 0 50 (dk_at dksX1_change_0 5 rfl rfl)
theorem dX1_change_8 : decode cX1_change 8 = .ok (.invokevirtual 54, 3) := dk_182 0 54 (dk_at dksX1_change_0 8 rfl rfl)
theorem dX1_change_11 : decode cX1_change 11 = .ok (.areturn, 1) := dk_176 (dk_at dksX1_change_0 11 rfl rfl)
abbrev cX1_change_2 : ByteArray := prog_1_method_8_code
def yX1_change_2 : MethodName := ⟨RX1, "change", "(LTaxWorkbench$World;)LTaxWorkbench$World;"⟩
def dkwX1_change_2_1 : List UInt8 := [42, 180, 0, 22, 182, 0, 66, 42, 43, 181, 0, 22, 43, 176]
abbrev dktX1_change_2_1 : List UInt8 := dkwX1_change_2_1 ++ []
def dkwX1_change_2_0 : List UInt8 := [42, 180, 0, 31, 182, 0, 58, 16, 6, 160, 0, 11, 42, 180, 0, 31, 182, 0, 62, 87, 42, 180, 0, 31]
abbrev dktX1_change_2_0 : List UInt8 := dkwX1_change_2_0 ++ dktX1_change_2_1
theorem dksX1_change_2_0 : cX1_change_2.data.toList.drop 0 = dktX1_change_2_0 := by decide +kernel
theorem dksX1_change_2_1 : cX1_change_2.data.toList.drop 24 = dktX1_change_2_1 := dk_seg dksX1_change_2_0 24 rfl rfl
theorem dX1_change_2_0 : decode cX1_change_2 0 = .ok (.aload_n 0, 1) := dk_42 (dk_at dksX1_change_2_0 0 rfl rfl)
theorem dX1_change_2_1 : decode cX1_change_2 1 = .ok (.getfield 31, 3) := dk_180 0 31 (dk_at dksX1_change_2_0 1 rfl rfl)
theorem dX1_change_2_4 : decode cX1_change_2 4 = .ok (.invokevirtual 58, 3) := dk_182 0 58 (dk_at dksX1_change_2_0 4 rfl rfl)
theorem dX1_change_2_7 : decode cX1_change_2 7 = .ok (.bipush 6, 2) := dk_16 6 (dk_at dksX1_change_2_0 7 rfl rfl)
theorem dX1_change_2_9 : decode cX1_change_2 9 = .ok (.if_icmp .ne 11, 3) := dk_160 0 11 (dk_at dksX1_change_2_0 9 rfl rfl)
theorem dX1_change_2_12 : decode cX1_change_2 12 = .ok (.aload_n 0, 1) := dk_42 (dk_at dksX1_change_2_0 12 rfl rfl)
theorem dX1_change_2_13 : decode cX1_change_2 13 = .ok (.getfield 31, 3) := dk_180 0 31 (dk_at dksX1_change_2_0 13 rfl rfl)
theorem dX1_change_2_16 : decode cX1_change_2 16 = .ok (.invokevirtual 62, 3) := dk_182 0 62 (dk_at dksX1_change_2_0 16 rfl rfl)
theorem dX1_change_2_19 : decode cX1_change_2 19 = .ok (.pop, 1) := dk_87 (dk_at dksX1_change_2_0 19 rfl rfl)
theorem dX1_change_2_20 : decode cX1_change_2 20 = .ok (.aload_n 0, 1) := dk_42 (dk_at dksX1_change_2_0 20 rfl rfl)
theorem dX1_change_2_21 : decode cX1_change_2 21 = .ok (.getfield 31, 3) := dk_180 0 31 (dk_at dksX1_change_2_0 21 rfl rfl)
theorem dX1_change_2_24 : decode cX1_change_2 24 = .ok (.aload_n 0, 1) := dk_42 (dk_at dksX1_change_2_1 0 rfl rfl)
theorem dX1_change_2_25 : decode cX1_change_2 25 = .ok (.getfield 22, 3) := dk_180 0 22 (dk_at dksX1_change_2_1 1 rfl rfl)
theorem dX1_change_2_28 : decode cX1_change_2 28 = .ok (.invokevirtual 66, 3) := dk_182 0 66 (dk_at dksX1_change_2_1 4 rfl rfl)
theorem dX1_change_2_31 : decode cX1_change_2 31 = .ok (.aload_n 0, 1) := dk_42 (dk_at dksX1_change_2_1 7 rfl rfl)
theorem dX1_change_2_32 : decode cX1_change_2 32 = .ok (.aload_n 1, 1) := dk_43 (dk_at dksX1_change_2_1 8 rfl rfl)
theorem dX1_change_2_33 : decode cX1_change_2 33 = .ok (.putfield 22, 3) := dk_181 0 22 (dk_at dksX1_change_2_1 9 rfl rfl)
theorem dX1_change_2_36 : decode cX1_change_2 36 = .ok (.aload_n 1, 1) := dk_43 (dk_at dksX1_change_2_1 12 rfl rfl)
theorem dX1_change_2_37 : decode cX1_change_2 37 = .ok (.areturn, 1) := dk_176 (dk_at dksX1_change_2_1 13 rfl rfl)
abbrev cX1_bracketCount : ByteArray := prog_1_method_13_code
def yX1_bracketCount : MethodName := ⟨RX1, "bracketCount", "()I"⟩
def dkwX1_bracketCount_0 : List UInt8 := [42, 180, 0, 22, 180, 0, 107, 180, 0, 135, 185, 0, 139, 1, 0, 172]
abbrev dktX1_bracketCount_0 : List UInt8 := dkwX1_bracketCount_0 ++ []
theorem dksX1_bracketCount_0 : cX1_bracketCount.data.toList.drop 0 = dktX1_bracketCount_0 := by decide +kernel
theorem dX1_bracketCount_0 : decode cX1_bracketCount 0 = .ok (.aload_n 0, 1) := dk_42 (dk_at dksX1_bracketCount_0 0 rfl rfl)
theorem dX1_bracketCount_1 : decode cX1_bracketCount 1 = .ok (.getfield 22, 3) := dk_180 0 22 (dk_at dksX1_bracketCount_0 1 rfl rfl)
theorem dX1_bracketCount_4 : decode cX1_bracketCount 4 = .ok (.getfield 107, 3) := dk_180 0 107 (dk_at dksX1_bracketCount_0 4 rfl rfl)
theorem dX1_bracketCount_7 : decode cX1_bracketCount 7 = .ok (.getfield 135, 3) := dk_180 0 135 (dk_at dksX1_bracketCount_0 7 rfl rfl)
theorem dX1_bracketCount_10 : decode cX1_bracketCount 10 = .ok (.invokeinterface 139 1, 5) := by decide +kernel
theorem dX1_bracketCount_15 : decode cX1_bracketCount 15 = .ok (.ireturn, 1) := dk_172 (dk_at dksX1_bracketCount_0 15 rfl rfl)
abbrev cX1_chargeCount : ByteArray := prog_1_method_16_code
def yX1_chargeCount : MethodName := ⟨RX1, "chargeCount", "()I"⟩
def dkwX1_chargeCount_0 : List UInt8 := [42, 180, 0, 22, 180, 0, 107, 180, 0, 111, 182, 0, 117, 172]
abbrev dktX1_chargeCount_0 : List UInt8 := dkwX1_chargeCount_0 ++ []
theorem dksX1_chargeCount_0 : cX1_chargeCount.data.toList.drop 0 = dktX1_chargeCount_0 := by decide +kernel
theorem dX1_chargeCount_0 : decode cX1_chargeCount 0 = .ok (.aload_n 0, 1) := dk_42 (dk_at dksX1_chargeCount_0 0 rfl rfl)
theorem dX1_chargeCount_1 : decode cX1_chargeCount 1 = .ok (.getfield 22, 3) := dk_180 0 22 (dk_at dksX1_chargeCount_0 1 rfl rfl)
theorem dX1_chargeCount_4 : decode cX1_chargeCount 4 = .ok (.getfield 107, 3) := dk_180 0 107 (dk_at dksX1_chargeCount_0 4 rfl rfl)
theorem dX1_chargeCount_7 : decode cX1_chargeCount 7 = .ok (.getfield 111, 3) := dk_180 0 111 (dk_at dksX1_chargeCount_0 7 rfl rfl)
theorem dX1_chargeCount_10 : decode cX1_chargeCount 10 = .ok (.invokevirtual 117, 3) := dk_182 0 117 (dk_at dksX1_chargeCount_0 10 rfl rfl)
theorem dX1_chargeCount_13 : decode cX1_chargeCount 13 = .ok (.ireturn, 1) := dk_172 (dk_at dksX1_chargeCount_0 13 rfl rfl)
abbrev cX1_creditCount : ByteArray := prog_1_method_18_code
def yX1_creditCount : MethodName := ⟨RX1, "creditCount", "()I"⟩
def dkwX1_creditCount_0 : List UInt8 := [42, 180, 0, 22, 180, 0, 107, 180, 0, 120, 182, 0, 124, 172]
abbrev dktX1_creditCount_0 : List UInt8 := dkwX1_creditCount_0 ++ []
theorem dksX1_creditCount_0 : cX1_creditCount.data.toList.drop 0 = dktX1_creditCount_0 := by decide +kernel
theorem dX1_creditCount_0 : decode cX1_creditCount 0 = .ok (.aload_n 0, 1) := dk_42 (dk_at dksX1_creditCount_0 0 rfl rfl)
theorem dX1_creditCount_1 : decode cX1_creditCount 1 = .ok (.getfield 22, 3) := dk_180 0 22 (dk_at dksX1_creditCount_0 1 rfl rfl)
theorem dX1_creditCount_4 : decode cX1_creditCount 4 = .ok (.getfield 107, 3) := dk_180 0 107 (dk_at dksX1_creditCount_0 4 rfl rfl)
theorem dX1_creditCount_7 : decode cX1_creditCount 7 = .ok (.getfield 120, 3) := dk_180 0 120 (dk_at dksX1_creditCount_0 7 rfl rfl)
theorem dX1_creditCount_10 : decode cX1_creditCount 10 = .ok (.invokevirtual 124, 3) := dk_182 0 124 (dk_at dksX1_creditCount_0 10 rfl rfl)
theorem dX1_creditCount_13 : decode cX1_creditCount 13 = .ok (.ireturn, 1) := dk_172 (dk_at dksX1_creditCount_0 13 rfl rfl)
abbrev cX1_totalTax : ByteArray := prog_1_method_48_code
def yX1_totalTax : MethodName := ⟨RX1, "totalTax", "()J"⟩
def dkwX1_totalTax_1 : List UInt8 := [182, 1, 47, 167, 0, 4, 9, 97, 64, 132, 3, 1, 167, 255, 224, 31, 173]
abbrev dktX1_totalTax_1 : List UInt8 := dkwX1_totalTax_1 ++ []
def dkwX1_totalTax_0 : List UInt8 := [9, 64, 3, 62, 29, 16, 6, 162, 0, 32, 31, 42, 180, 0, 22, 29, 182, 1, 50, 153, 0, 11, 42, 29]
abbrev dktX1_totalTax_0 : List UInt8 := dkwX1_totalTax_0 ++ dktX1_totalTax_1
theorem dksX1_totalTax_0 : cX1_totalTax.data.toList.drop 0 = dktX1_totalTax_0 := by decide +kernel
theorem dksX1_totalTax_1 : cX1_totalTax.data.toList.drop 24 = dktX1_totalTax_1 := dk_seg dksX1_totalTax_0 24 rfl rfl
theorem dX1_totalTax_0 : decode cX1_totalTax 0 = .ok (.lconst 0, 1) := dk_9 (dk_at dksX1_totalTax_0 0 rfl rfl)
theorem dX1_totalTax_1 : decode cX1_totalTax 1 = .ok (.lstore_n 1, 1) := dk_64 (dk_at dksX1_totalTax_0 1 rfl rfl)
theorem dX1_totalTax_2 : decode cX1_totalTax 2 = .ok (.iconst 0, 1) := dk_3 (dk_at dksX1_totalTax_0 2 rfl rfl)
theorem dX1_totalTax_3 : decode cX1_totalTax 3 = .ok (.istore_n 3, 1) := dk_62 (dk_at dksX1_totalTax_0 3 rfl rfl)
theorem dX1_totalTax_4 : decode cX1_totalTax 4 = .ok (.iload_n 3, 1) := dk_29 (dk_at dksX1_totalTax_0 4 rfl rfl)
theorem dX1_totalTax_5 : decode cX1_totalTax 5 = .ok (.bipush 6, 2) := dk_16 6 (dk_at dksX1_totalTax_0 5 rfl rfl)
theorem dX1_totalTax_7 : decode cX1_totalTax 7 = .ok (.if_icmp .ge 32, 3) := dk_162 0 32 (dk_at dksX1_totalTax_0 7 rfl rfl)
theorem dX1_totalTax_10 : decode cX1_totalTax 10 = .ok (.lload_n 1, 1) := dk_31 (dk_at dksX1_totalTax_0 10 rfl rfl)
theorem dX1_totalTax_11 : decode cX1_totalTax 11 = .ok (.aload_n 0, 1) := dk_42 (dk_at dksX1_totalTax_0 11 rfl rfl)
theorem dX1_totalTax_12 : decode cX1_totalTax 12 = .ok (.getfield 22, 3) := dk_180 0 22 (dk_at dksX1_totalTax_0 12 rfl rfl)
theorem dX1_totalTax_15 : decode cX1_totalTax 15 = .ok (.iload_n 3, 1) := dk_29 (dk_at dksX1_totalTax_0 15 rfl rfl)
theorem dX1_totalTax_16 : decode cX1_totalTax 16 = .ok (.invokevirtual 306, 3) := dk_182 1 50 (dk_at dksX1_totalTax_0 16 rfl rfl)
theorem dX1_totalTax_19 : decode cX1_totalTax 19 = .ok (.ifCond .eq 11, 3) := dk_153 0 11 (dk_at dksX1_totalTax_0 19 rfl rfl)
theorem dX1_totalTax_22 : decode cX1_totalTax 22 = .ok (.aload_n 0, 1) := dk_42 (dk_at dksX1_totalTax_0 22 rfl rfl)
theorem dX1_totalTax_23 : decode cX1_totalTax 23 = .ok (.iload_n 3, 1) := dk_29 (dk_at dksX1_totalTax_0 23 rfl rfl)
theorem dX1_totalTax_24 : decode cX1_totalTax 24 = .ok (.invokevirtual 303, 3) := dk_182 1 47 (dk_at dksX1_totalTax_1 0 rfl rfl)
theorem dX1_totalTax_27 : decode cX1_totalTax 27 = .ok (.goto 4, 3) := dk_167 0 4 (dk_at dksX1_totalTax_1 3 rfl rfl)
theorem dX1_totalTax_30 : decode cX1_totalTax 30 = .ok (.lconst 0, 1) := dk_9 (dk_at dksX1_totalTax_1 6 rfl rfl)
theorem dX1_totalTax_31 : decode cX1_totalTax 31 = .ok (.ladd, 1) := dk_97 (dk_at dksX1_totalTax_1 7 rfl rfl)
theorem dX1_totalTax_32 : decode cX1_totalTax 32 = .ok (.lstore_n 1, 1) := dk_64 (dk_at dksX1_totalTax_1 8 rfl rfl)
theorem dX1_totalTax_33 : decode cX1_totalTax 33 = .ok (.iinc 3 1, 3) := dk_132 3 1 (dk_at dksX1_totalTax_1 9 rfl rfl)
theorem dX1_totalTax_36 : decode cX1_totalTax 36 = .ok (.goto (-32), 3) := dk_167 255 224 (dk_at dksX1_totalTax_1 12 rfl rfl)
theorem dX1_totalTax_39 : decode cX1_totalTax 39 = .ok (.lload_n 1, 1) := dk_31 (dk_at dksX1_totalTax_1 15 rfl rfl)
theorem dX1_totalTax_40 : decode cX1_totalTax 40 = .ok (.lreturn, 1) := dk_173 (dk_at dksX1_totalTax_1 16 rfl rfl)
abbrev cX1_household : ByteArray := prog_1_method_42_code
def yX1_household : MethodName := ⟨RX1, "household", "(I)J"⟩
def dkwX1_household_1 : List UInt8 := [42, 27, 182, 1, 37, 184, 1, 40, 173]
abbrev dktX1_household_1 : List UInt8 := dkwX1_household_1 ++ []
def dkwX1_household_0 : List UInt8 := [42, 180, 0, 22, 180, 0, 229, 27, 46, 2, 160, 0, 9, 42, 27, 182, 1, 8, 173, 42, 27, 182, 1, 34]
abbrev dktX1_household_0 : List UInt8 := dkwX1_household_0 ++ dktX1_household_1
theorem dksX1_household_0 : cX1_household.data.toList.drop 0 = dktX1_household_0 := by decide +kernel
theorem dksX1_household_1 : cX1_household.data.toList.drop 24 = dktX1_household_1 := dk_seg dksX1_household_0 24 rfl rfl
theorem dX1_household_0 : decode cX1_household 0 = .ok (.aload_n 0, 1) := dk_42 (dk_at dksX1_household_0 0 rfl rfl)
theorem dX1_household_1 : decode cX1_household 1 = .ok (.getfield 22, 3) := dk_180 0 22 (dk_at dksX1_household_0 1 rfl rfl)
theorem dX1_household_4 : decode cX1_household 4 = .ok (.getfield 229, 3) := dk_180 0 229 (dk_at dksX1_household_0 4 rfl rfl)
theorem dX1_household_7 : decode cX1_household 7 = .ok (.iload_n 1, 1) := dk_27 (dk_at dksX1_household_0 7 rfl rfl)
theorem dX1_household_8 : decode cX1_household 8 = .ok (.iaload, 1) := dk_46 (dk_at dksX1_household_0 8 rfl rfl)
theorem dX1_household_9 : decode cX1_household 9 = .ok (.iconst (-1), 1) := dk_2 (dk_at dksX1_household_0 9 rfl rfl)
theorem dX1_household_10 : decode cX1_household 10 = .ok (.if_icmp .ne 9, 3) := dk_160 0 9 (dk_at dksX1_household_0 10 rfl rfl)
theorem dX1_household_13 : decode cX1_household 13 = .ok (.aload_n 0, 1) := dk_42 (dk_at dksX1_household_0 13 rfl rfl)
theorem dX1_household_14 : decode cX1_household 14 = .ok (.iload_n 1, 1) := dk_27 (dk_at dksX1_household_0 14 rfl rfl)
theorem dX1_household_15 : decode cX1_household 15 = .ok (.invokevirtual 264, 3) := dk_182 1 8 (dk_at dksX1_household_0 15 rfl rfl)
theorem dX1_household_18 : decode cX1_household 18 = .ok (.lreturn, 1) := dk_173 (dk_at dksX1_household_0 18 rfl rfl)
theorem dX1_household_19 : decode cX1_household 19 = .ok (.aload_n 0, 1) := dk_42 (dk_at dksX1_household_0 19 rfl rfl)
theorem dX1_household_20 : decode cX1_household 20 = .ok (.iload_n 1, 1) := dk_27 (dk_at dksX1_household_0 20 rfl rfl)
theorem dX1_household_21 : decode cX1_household 21 = .ok (.invokevirtual 290, 3) := dk_182 1 34 (dk_at dksX1_household_0 21 rfl rfl)
theorem dX1_household_24 : decode cX1_household 24 = .ok (.aload_n 0, 1) := dk_42 (dk_at dksX1_household_1 0 rfl rfl)
theorem dX1_household_25 : decode cX1_household 25 = .ok (.iload_n 1, 1) := dk_27 (dk_at dksX1_household_1 1 rfl rfl)
theorem dX1_household_26 : decode cX1_household 26 = .ok (.invokevirtual 293, 3) := dk_182 1 37 (dk_at dksX1_household_1 2 rfl rfl)
theorem dX1_household_29 : decode cX1_household 29 = .ok (.invokestatic 296, 3) := dk_184 1 40 (dk_at dksX1_household_1 5 rfl rfl)
theorem dX1_household_32 : decode cX1_household 32 = .ok (.lreturn, 1) := dk_173 (dk_at dksX1_household_1 8 rfl rfl)
abbrev cX1_alone : ByteArray := prog_1_method_31_code
def yX1_alone : MethodName := ⟨RX1, "alone", "(I)J"⟩
def dkwX1_alone_1 : List UInt8 := [180, 0, 226, 182, 1, 4, 173]
abbrev dktX1_alone_1 : List UInt8 := dkwX1_alone_1 ++ []
def dkwX1_alone_0 : List UInt8 := [42, 27, 42, 180, 0, 22, 180, 0, 207, 27, 50, 180, 0, 220, 42, 180, 0, 22, 180, 0, 207, 27, 50]
abbrev dktX1_alone_0 : List UInt8 := dkwX1_alone_0 ++ dktX1_alone_1
theorem dksX1_alone_0 : cX1_alone.data.toList.drop 0 = dktX1_alone_0 := by decide +kernel
theorem dksX1_alone_1 : cX1_alone.data.toList.drop 23 = dktX1_alone_1 := dk_seg dksX1_alone_0 23 rfl rfl
theorem dX1_alone_0 : decode cX1_alone 0 = .ok (.aload_n 0, 1) := dk_42 (dk_at dksX1_alone_0 0 rfl rfl)
theorem dX1_alone_1 : decode cX1_alone 1 = .ok (.iload_n 1, 1) := dk_27 (dk_at dksX1_alone_0 1 rfl rfl)
theorem dX1_alone_2 : decode cX1_alone 2 = .ok (.aload_n 0, 1) := dk_42 (dk_at dksX1_alone_0 2 rfl rfl)
theorem dX1_alone_3 : decode cX1_alone 3 = .ok (.getfield 22, 3) := dk_180 0 22 (dk_at dksX1_alone_0 3 rfl rfl)
theorem dX1_alone_6 : decode cX1_alone 6 = .ok (.getfield 207, 3) := dk_180 0 207 (dk_at dksX1_alone_0 6 rfl rfl)
theorem dX1_alone_9 : decode cX1_alone 9 = .ok (.iload_n 1, 1) := dk_27 (dk_at dksX1_alone_0 9 rfl rfl)
theorem dX1_alone_10 : decode cX1_alone 10 = .ok (.aaload, 1) := dk_50 (dk_at dksX1_alone_0 10 rfl rfl)
theorem dX1_alone_11 : decode cX1_alone 11 = .ok (.getfield 220, 3) := dk_180 0 220 (dk_at dksX1_alone_0 11 rfl rfl)
theorem dX1_alone_14 : decode cX1_alone 14 = .ok (.aload_n 0, 1) := dk_42 (dk_at dksX1_alone_0 14 rfl rfl)
theorem dX1_alone_15 : decode cX1_alone 15 = .ok (.getfield 22, 3) := dk_180 0 22 (dk_at dksX1_alone_0 15 rfl rfl)
theorem dX1_alone_18 : decode cX1_alone 18 = .ok (.getfield 207, 3) := dk_180 0 207 (dk_at dksX1_alone_0 18 rfl rfl)
theorem dX1_alone_21 : decode cX1_alone 21 = .ok (.iload_n 1, 1) := dk_27 (dk_at dksX1_alone_0 21 rfl rfl)
theorem dX1_alone_22 : decode cX1_alone 22 = .ok (.aaload, 1) := dk_50 (dk_at dksX1_alone_0 22 rfl rfl)
theorem dX1_alone_23 : decode cX1_alone 23 = .ok (.getfield 226, 3) := dk_180 0 226 (dk_at dksX1_alone_1 0 rfl rfl)
theorem dX1_alone_26 : decode cX1_alone 26 = .ok (.invokevirtual 260, 3) := dk_182 1 4 (dk_at dksX1_alone_1 3 rfl rfl)
theorem dX1_alone_29 : decode cX1_alone 29 = .ok (.lreturn, 1) := dk_173 (dk_at dksX1_alone_1 6 rfl rfl)
abbrev cX1_alone_2 : ByteArray := prog_1_method_30_code
def yX1_alone_2 : MethodName := ⟨RX1, "alone", "(III)J"⟩
def dkwX1_alone_2_2 : List UInt8 := [180, 0, 247, 3, 16, 6, 184, 0, 250, 42, 180, 0, 38, 42, 180, 0, 22, 180, 0, 107, 182, 1, 0, 173]
abbrev dktX1_alone_2_2 : List UInt8 := dkwX1_alone_2_2 ++ []
def dkwX1_alone_2_1 : List UInt8 := [182, 0, 242, 42, 180, 0, 22, 180, 0, 128, 27, 182, 0, 164, 3, 42, 180, 0, 38, 180, 0, 238]
abbrev dktX1_alone_2_1 : List UInt8 := dkwX1_alone_2_1 ++ dktX1_alone_2_2
def dkwX1_alone_2_0 : List UInt8 := [42, 180, 0, 38, 180, 0, 238, 28, 42, 180, 0, 22, 180, 0, 207, 27, 50, 180, 0, 223, 29, 4]
abbrev dktX1_alone_2_0 : List UInt8 := dkwX1_alone_2_0 ++ dktX1_alone_2_1
theorem dksX1_alone_2_0 : cX1_alone_2.data.toList.drop 0 = dktX1_alone_2_0 := by decide +kernel
theorem dksX1_alone_2_1 : cX1_alone_2.data.toList.drop 22 = dktX1_alone_2_1 := dk_seg dksX1_alone_2_0 22 rfl rfl
theorem dksX1_alone_2_2 : cX1_alone_2.data.toList.drop 44 = dktX1_alone_2_2 := dk_seg dksX1_alone_2_1 22 rfl rfl
theorem dX1_alone_2_0 : decode cX1_alone_2 0 = .ok (.aload_n 0, 1) := dk_42 (dk_at dksX1_alone_2_0 0 rfl rfl)
theorem dX1_alone_2_1 : decode cX1_alone_2 1 = .ok (.getfield 38, 3) := dk_180 0 38 (dk_at dksX1_alone_2_0 1 rfl rfl)
theorem dX1_alone_2_4 : decode cX1_alone_2 4 = .ok (.getfield 238, 3) := dk_180 0 238 (dk_at dksX1_alone_2_0 4 rfl rfl)
theorem dX1_alone_2_7 : decode cX1_alone_2 7 = .ok (.iload_n 2, 1) := dk_28 (dk_at dksX1_alone_2_0 7 rfl rfl)
theorem dX1_alone_2_8 : decode cX1_alone_2 8 = .ok (.aload_n 0, 1) := dk_42 (dk_at dksX1_alone_2_0 8 rfl rfl)
theorem dX1_alone_2_9 : decode cX1_alone_2 9 = .ok (.getfield 22, 3) := dk_180 0 22 (dk_at dksX1_alone_2_0 9 rfl rfl)
theorem dX1_alone_2_12 : decode cX1_alone_2 12 = .ok (.getfield 207, 3) := dk_180 0 207 (dk_at dksX1_alone_2_0 12 rfl rfl)
theorem dX1_alone_2_15 : decode cX1_alone_2 15 = .ok (.iload_n 1, 1) := dk_27 (dk_at dksX1_alone_2_0 15 rfl rfl)
theorem dX1_alone_2_16 : decode cX1_alone_2 16 = .ok (.aaload, 1) := dk_50 (dk_at dksX1_alone_2_0 16 rfl rfl)
theorem dX1_alone_2_17 : decode cX1_alone_2 17 = .ok (.getfield 223, 3) := dk_180 0 223 (dk_at dksX1_alone_2_0 17 rfl rfl)
theorem dX1_alone_2_20 : decode cX1_alone_2 20 = .ok (.iload_n 3, 1) := dk_29 (dk_at dksX1_alone_2_0 20 rfl rfl)
theorem dX1_alone_2_21 : decode cX1_alone_2 21 = .ok (.iconst 1, 1) := dk_4 (dk_at dksX1_alone_2_0 21 rfl rfl)
theorem dX1_alone_2_22 : decode cX1_alone_2 22 = .ok (.invokevirtual 242, 3) := dk_182 0 242 (dk_at dksX1_alone_2_1 0 rfl rfl)
theorem dX1_alone_2_25 : decode cX1_alone_2 25 = .ok (.aload_n 0, 1) := dk_42 (dk_at dksX1_alone_2_1 3 rfl rfl)
theorem dX1_alone_2_26 : decode cX1_alone_2 26 = .ok (.getfield 22, 3) := dk_180 0 22 (dk_at dksX1_alone_2_1 4 rfl rfl)
theorem dX1_alone_2_29 : decode cX1_alone_2 29 = .ok (.getfield 128, 3) := dk_180 0 128 (dk_at dksX1_alone_2_1 7 rfl rfl)
theorem dX1_alone_2_32 : decode cX1_alone_2 32 = .ok (.iload_n 1, 1) := dk_27 (dk_at dksX1_alone_2_1 10 rfl rfl)
theorem dX1_alone_2_33 : decode cX1_alone_2 33 = .ok (.invokevirtual 164, 3) := dk_182 0 164 (dk_at dksX1_alone_2_1 11 rfl rfl)
theorem dX1_alone_2_36 : decode cX1_alone_2 36 = .ok (.iconst 0, 1) := dk_3 (dk_at dksX1_alone_2_1 14 rfl rfl)
theorem dX1_alone_2_37 : decode cX1_alone_2 37 = .ok (.aload_n 0, 1) := dk_42 (dk_at dksX1_alone_2_1 15 rfl rfl)
theorem dX1_alone_2_38 : decode cX1_alone_2 38 = .ok (.getfield 38, 3) := dk_180 0 38 (dk_at dksX1_alone_2_1 16 rfl rfl)
theorem dX1_alone_2_41 : decode cX1_alone_2 41 = .ok (.getfield 238, 3) := dk_180 0 238 (dk_at dksX1_alone_2_1 19 rfl rfl)
theorem dX1_alone_2_44 : decode cX1_alone_2 44 = .ok (.getfield 247, 3) := dk_180 0 247 (dk_at dksX1_alone_2_2 0 rfl rfl)
theorem dX1_alone_2_47 : decode cX1_alone_2 47 = .ok (.iconst 0, 1) := dk_3 (dk_at dksX1_alone_2_2 3 rfl rfl)
theorem dX1_alone_2_48 : decode cX1_alone_2 48 = .ok (.bipush 6, 2) := dk_16 6 (dk_at dksX1_alone_2_2 4 rfl rfl)
theorem dX1_alone_2_50 : decode cX1_alone_2 50 = .ok (.invokestatic 250, 3) := dk_184 0 250 (dk_at dksX1_alone_2_2 6 rfl rfl)
theorem dX1_alone_2_53 : decode cX1_alone_2 53 = .ok (.aload_n 0, 1) := dk_42 (dk_at dksX1_alone_2_2 9 rfl rfl)
theorem dX1_alone_2_54 : decode cX1_alone_2 54 = .ok (.getfield 38, 3) := dk_180 0 38 (dk_at dksX1_alone_2_2 10 rfl rfl)
theorem dX1_alone_2_57 : decode cX1_alone_2 57 = .ok (.aload_n 0, 1) := dk_42 (dk_at dksX1_alone_2_2 13 rfl rfl)
theorem dX1_alone_2_58 : decode cX1_alone_2 58 = .ok (.getfield 22, 3) := dk_180 0 22 (dk_at dksX1_alone_2_2 14 rfl rfl)
theorem dX1_alone_2_61 : decode cX1_alone_2 61 = .ok (.getfield 107, 3) := dk_180 0 107 (dk_at dksX1_alone_2_2 17 rfl rfl)
theorem dX1_alone_2_64 : decode cX1_alone_2 64 = .ok (.invokevirtual 256, 3) := dk_182 1 0 (dk_at dksX1_alone_2_2 20 rfl rfl)
theorem dX1_alone_2_67 : decode cX1_alone_2 67 = .ok (.lreturn, 1) := dk_173 (dk_at dksX1_alone_2_2 23 rfl rfl)
abbrev cX1_joint : ByteArray := prog_1_method_37_code
def yX1_joint : MethodName := ⟨RX1, "joint", "(I)J"⟩
def dkwX1_joint_6 : List UInt8 := [180, 0, 22, 180, 0, 107, 182, 1, 0, 173]
abbrev dktX1_joint_6 : List UInt8 := dkwX1_joint_6 ++ []
def dkwX1_joint_5 : List UInt8 := [182, 0, 164, 192, 1, 18, 21, 5, 47, 97, 80, 132, 5, 1, 167, 255, 198, 42, 180, 0, 38, 42]
abbrev dktX1_joint_5 : List UInt8 := dkwX1_joint_5 ++ dktX1_joint_6
def dkwX1_joint_4 : List UInt8 := [180, 0, 22, 180, 0, 128, 27, 182, 0, 164, 192, 1, 18, 21, 5, 47, 42, 180, 0, 22, 180, 0, 128, 28]
abbrev dktX1_joint_4 : List UInt8 := dkwX1_joint_4 ++ dktX1_joint_5
def dkwX1_joint_3 : List UInt8 := [3, 54, 5, 21, 5, 16, 6, 162, 0, 57, 42, 180, 0, 38, 180, 0, 238, 180, 0, 247, 21, 5, 42]
abbrev dktX1_joint_3 : List UInt8 := dkwX1_joint_3 ++ dktX1_joint_4
def dkwX1_joint_2 : List UInt8 := [45, 180, 0, 223, 25, 4, 180, 0, 223, 96, 45, 180, 0, 226, 25, 4, 180, 0, 226, 96, 5, 182, 0, 242]
abbrev dktX1_joint_2 : List UInt8 := dkwX1_joint_2 ++ dktX1_joint_3
def dkwX1_joint_1 : List UInt8 := [180, 0, 207, 28, 50, 58, 4, 42, 180, 0, 38, 180, 0, 238, 45, 180, 0, 220, 25, 4, 180, 0, 220, 96]
abbrev dktX1_joint_1 : List UInt8 := dkwX1_joint_1 ++ dktX1_joint_2
def dkwX1_joint_0 : List UInt8 := [42, 180, 0, 22, 180, 0, 229, 27, 46, 61, 42, 180, 0, 22, 180, 0, 207, 27, 50, 78, 42, 180, 0, 22]
abbrev dktX1_joint_0 : List UInt8 := dkwX1_joint_0 ++ dktX1_joint_1
theorem dksX1_joint_0 : cX1_joint.data.toList.drop 0 = dktX1_joint_0 := by decide +kernel
theorem dksX1_joint_1 : cX1_joint.data.toList.drop 24 = dktX1_joint_1 := dk_seg dksX1_joint_0 24 rfl rfl
theorem dksX1_joint_2 : cX1_joint.data.toList.drop 48 = dktX1_joint_2 := dk_seg dksX1_joint_1 24 rfl rfl
theorem dksX1_joint_3 : cX1_joint.data.toList.drop 72 = dktX1_joint_3 := dk_seg dksX1_joint_2 24 rfl rfl
theorem dksX1_joint_4 : cX1_joint.data.toList.drop 95 = dktX1_joint_4 := dk_seg dksX1_joint_3 23 rfl rfl
theorem dksX1_joint_5 : cX1_joint.data.toList.drop 119 = dktX1_joint_5 := dk_seg dksX1_joint_4 24 rfl rfl
theorem dksX1_joint_6 : cX1_joint.data.toList.drop 141 = dktX1_joint_6 := dk_seg dksX1_joint_5 22 rfl rfl
theorem dX1_joint_0 : decode cX1_joint 0 = .ok (.aload_n 0, 1) := dk_42 (dk_at dksX1_joint_0 0 rfl rfl)
theorem dX1_joint_1 : decode cX1_joint 1 = .ok (.getfield 22, 3) := dk_180 0 22 (dk_at dksX1_joint_0 1 rfl rfl)
theorem dX1_joint_4 : decode cX1_joint 4 = .ok (.getfield 229, 3) := dk_180 0 229 (dk_at dksX1_joint_0 4 rfl rfl)
theorem dX1_joint_7 : decode cX1_joint 7 = .ok (.iload_n 1, 1) := dk_27 (dk_at dksX1_joint_0 7 rfl rfl)
theorem dX1_joint_8 : decode cX1_joint 8 = .ok (.iaload, 1) := dk_46 (dk_at dksX1_joint_0 8 rfl rfl)
theorem dX1_joint_9 : decode cX1_joint 9 = .ok (.istore_n 2, 1) := dk_61 (dk_at dksX1_joint_0 9 rfl rfl)
theorem dX1_joint_10 : decode cX1_joint 10 = .ok (.aload_n 0, 1) := dk_42 (dk_at dksX1_joint_0 10 rfl rfl)
theorem dX1_joint_11 : decode cX1_joint 11 = .ok (.getfield 22, 3) := dk_180 0 22 (dk_at dksX1_joint_0 11 rfl rfl)
theorem dX1_joint_14 : decode cX1_joint 14 = .ok (.getfield 207, 3) := dk_180 0 207 (dk_at dksX1_joint_0 14 rfl rfl)
theorem dX1_joint_17 : decode cX1_joint 17 = .ok (.iload_n 1, 1) := dk_27 (dk_at dksX1_joint_0 17 rfl rfl)
theorem dX1_joint_18 : decode cX1_joint 18 = .ok (.aaload, 1) := dk_50 (dk_at dksX1_joint_0 18 rfl rfl)
theorem dX1_joint_19 : decode cX1_joint 19 = .ok (.astore_n 3, 1) := dk_78 (dk_at dksX1_joint_0 19 rfl rfl)
theorem dX1_joint_20 : decode cX1_joint 20 = .ok (.aload_n 0, 1) := dk_42 (dk_at dksX1_joint_0 20 rfl rfl)
theorem dX1_joint_21 : decode cX1_joint 21 = .ok (.getfield 22, 3) := dk_180 0 22 (dk_at dksX1_joint_0 21 rfl rfl)
theorem dX1_joint_24 : decode cX1_joint 24 = .ok (.getfield 207, 3) := dk_180 0 207 (dk_at dksX1_joint_1 0 rfl rfl)
theorem dX1_joint_27 : decode cX1_joint 27 = .ok (.iload_n 2, 1) := dk_28 (dk_at dksX1_joint_1 3 rfl rfl)
theorem dX1_joint_28 : decode cX1_joint 28 = .ok (.aaload, 1) := dk_50 (dk_at dksX1_joint_1 4 rfl rfl)
theorem dX1_joint_29 : decode cX1_joint 29 = .ok (.astore 4, 2) := dk_58 4 (dk_at dksX1_joint_1 5 rfl rfl)
theorem dX1_joint_31 : decode cX1_joint 31 = .ok (.aload_n 0, 1) := dk_42 (dk_at dksX1_joint_1 7 rfl rfl)
theorem dX1_joint_32 : decode cX1_joint 32 = .ok (.getfield 38, 3) := dk_180 0 38 (dk_at dksX1_joint_1 8 rfl rfl)
theorem dX1_joint_35 : decode cX1_joint 35 = .ok (.getfield 238, 3) := dk_180 0 238 (dk_at dksX1_joint_1 11 rfl rfl)
theorem dX1_joint_38 : decode cX1_joint 38 = .ok (.aload_n 3, 1) := dk_45 (dk_at dksX1_joint_1 14 rfl rfl)
theorem dX1_joint_39 : decode cX1_joint 39 = .ok (.getfield 220, 3) := dk_180 0 220 (dk_at dksX1_joint_1 15 rfl rfl)
theorem dX1_joint_42 : decode cX1_joint 42 = .ok (.aload 4, 2) := dk_25 4 (dk_at dksX1_joint_1 18 rfl rfl)
theorem dX1_joint_44 : decode cX1_joint 44 = .ok (.getfield 220, 3) := dk_180 0 220 (dk_at dksX1_joint_1 20 rfl rfl)
theorem dX1_joint_47 : decode cX1_joint 47 = .ok (.iadd, 1) := dk_96 (dk_at dksX1_joint_1 23 rfl rfl)
theorem dX1_joint_48 : decode cX1_joint 48 = .ok (.aload_n 3, 1) := dk_45 (dk_at dksX1_joint_2 0 rfl rfl)
theorem dX1_joint_49 : decode cX1_joint 49 = .ok (.getfield 223, 3) := dk_180 0 223 (dk_at dksX1_joint_2 1 rfl rfl)
theorem dX1_joint_52 : decode cX1_joint 52 = .ok (.aload 4, 2) := dk_25 4 (dk_at dksX1_joint_2 4 rfl rfl)
theorem dX1_joint_54 : decode cX1_joint 54 = .ok (.getfield 223, 3) := dk_180 0 223 (dk_at dksX1_joint_2 6 rfl rfl)
theorem dX1_joint_57 : decode cX1_joint 57 = .ok (.iadd, 1) := dk_96 (dk_at dksX1_joint_2 9 rfl rfl)
theorem dX1_joint_58 : decode cX1_joint 58 = .ok (.aload_n 3, 1) := dk_45 (dk_at dksX1_joint_2 10 rfl rfl)
theorem dX1_joint_59 : decode cX1_joint 59 = .ok (.getfield 226, 3) := dk_180 0 226 (dk_at dksX1_joint_2 11 rfl rfl)
theorem dX1_joint_62 : decode cX1_joint 62 = .ok (.aload 4, 2) := dk_25 4 (dk_at dksX1_joint_2 14 rfl rfl)
theorem dX1_joint_64 : decode cX1_joint 64 = .ok (.getfield 226, 3) := dk_180 0 226 (dk_at dksX1_joint_2 16 rfl rfl)
theorem dX1_joint_67 : decode cX1_joint 67 = .ok (.iadd, 1) := dk_96 (dk_at dksX1_joint_2 19 rfl rfl)
theorem dX1_joint_68 : decode cX1_joint 68 = .ok (.iconst 2, 1) := dk_5 (dk_at dksX1_joint_2 20 rfl rfl)
theorem dX1_joint_69 : decode cX1_joint 69 = .ok (.invokevirtual 242, 3) := dk_182 0 242 (dk_at dksX1_joint_2 21 rfl rfl)
theorem dX1_joint_72 : decode cX1_joint 72 = .ok (.iconst 0, 1) := dk_3 (dk_at dksX1_joint_3 0 rfl rfl)
theorem dX1_joint_73 : decode cX1_joint 73 = .ok (.istore 5, 2) := dk_54 5 (dk_at dksX1_joint_3 1 rfl rfl)
theorem dX1_joint_75 : decode cX1_joint 75 = .ok (.iload 5, 2) := dk_21 5 (dk_at dksX1_joint_3 3 rfl rfl)
theorem dX1_joint_77 : decode cX1_joint 77 = .ok (.bipush 6, 2) := dk_16 6 (dk_at dksX1_joint_3 5 rfl rfl)
theorem dX1_joint_79 : decode cX1_joint 79 = .ok (.if_icmp .ge 57, 3) := dk_162 0 57 (dk_at dksX1_joint_3 7 rfl rfl)
theorem dX1_joint_82 : decode cX1_joint 82 = .ok (.aload_n 0, 1) := dk_42 (dk_at dksX1_joint_3 10 rfl rfl)
theorem dX1_joint_83 : decode cX1_joint 83 = .ok (.getfield 38, 3) := dk_180 0 38 (dk_at dksX1_joint_3 11 rfl rfl)
theorem dX1_joint_86 : decode cX1_joint 86 = .ok (.getfield 238, 3) := dk_180 0 238 (dk_at dksX1_joint_3 14 rfl rfl)
theorem dX1_joint_89 : decode cX1_joint 89 = .ok (.getfield 247, 3) := dk_180 0 247 (dk_at dksX1_joint_3 17 rfl rfl)
theorem dX1_joint_92 : decode cX1_joint 92 = .ok (.iload 5, 2) := dk_21 5 (dk_at dksX1_joint_3 20 rfl rfl)
theorem dX1_joint_94 : decode cX1_joint 94 = .ok (.aload_n 0, 1) := dk_42 (dk_at dksX1_joint_3 22 rfl rfl)
theorem dX1_joint_95 : decode cX1_joint 95 = .ok (.getfield 22, 3) := dk_180 0 22 (dk_at dksX1_joint_4 0 rfl rfl)
theorem dX1_joint_98 : decode cX1_joint 98 = .ok (.getfield 128, 3) := dk_180 0 128 (dk_at dksX1_joint_4 3 rfl rfl)
theorem dX1_joint_101 : decode cX1_joint 101 = .ok (.iload_n 1, 1) := dk_27 (dk_at dksX1_joint_4 6 rfl rfl)
theorem dX1_joint_102 : decode cX1_joint 102 = .ok (.invokevirtual 164, 3) := dk_182 0 164 (dk_at dksX1_joint_4 7 rfl rfl)
theorem dX1_joint_105 : decode cX1_joint 105 = .ok (.checkcast 274, 3) := dk_192 1 18 (dk_at dksX1_joint_4 10 rfl rfl)
theorem dX1_joint_108 : decode cX1_joint 108 = .ok (.iload 5, 2) := dk_21 5 (dk_at dksX1_joint_4 13 rfl rfl)
theorem dX1_joint_110 : decode cX1_joint 110 = .ok (.laload, 1) := dk_47 (dk_at dksX1_joint_4 15 rfl rfl)
theorem dX1_joint_111 : decode cX1_joint 111 = .ok (.aload_n 0, 1) := dk_42 (dk_at dksX1_joint_4 16 rfl rfl)
theorem dX1_joint_112 : decode cX1_joint 112 = .ok (.getfield 22, 3) := dk_180 0 22 (dk_at dksX1_joint_4 17 rfl rfl)
theorem dX1_joint_115 : decode cX1_joint 115 = .ok (.getfield 128, 3) := dk_180 0 128 (dk_at dksX1_joint_4 20 rfl rfl)
theorem dX1_joint_118 : decode cX1_joint 118 = .ok (.iload_n 2, 1) := dk_28 (dk_at dksX1_joint_4 23 rfl rfl)
theorem dX1_joint_119 : decode cX1_joint 119 = .ok (.invokevirtual 164, 3) := dk_182 0 164 (dk_at dksX1_joint_5 0 rfl rfl)
theorem dX1_joint_122 : decode cX1_joint 122 = .ok (.checkcast 274, 3) := dk_192 1 18 (dk_at dksX1_joint_5 3 rfl rfl)
theorem dX1_joint_125 : decode cX1_joint 125 = .ok (.iload 5, 2) := dk_21 5 (dk_at dksX1_joint_5 6 rfl rfl)
theorem dX1_joint_127 : decode cX1_joint 127 = .ok (.laload, 1) := dk_47 (dk_at dksX1_joint_5 8 rfl rfl)
theorem dX1_joint_128 : decode cX1_joint 128 = .ok (.ladd, 1) := dk_97 (dk_at dksX1_joint_5 9 rfl rfl)
theorem dX1_joint_129 : decode cX1_joint 129 = .ok (.lastore, 1) := dk_80 (dk_at dksX1_joint_5 10 rfl rfl)
theorem dX1_joint_130 : decode cX1_joint 130 = .ok (.iinc 5 1, 3) := dk_132 5 1 (dk_at dksX1_joint_5 11 rfl rfl)
theorem dX1_joint_133 : decode cX1_joint 133 = .ok (.goto (-58), 3) := dk_167 255 198 (dk_at dksX1_joint_5 14 rfl rfl)
theorem dX1_joint_136 : decode cX1_joint 136 = .ok (.aload_n 0, 1) := dk_42 (dk_at dksX1_joint_5 17 rfl rfl)
theorem dX1_joint_137 : decode cX1_joint 137 = .ok (.getfield 38, 3) := dk_180 0 38 (dk_at dksX1_joint_5 18 rfl rfl)
theorem dX1_joint_140 : decode cX1_joint 140 = .ok (.aload_n 0, 1) := dk_42 (dk_at dksX1_joint_5 21 rfl rfl)
theorem dX1_joint_141 : decode cX1_joint 141 = .ok (.getfield 22, 3) := dk_180 0 22 (dk_at dksX1_joint_6 0 rfl rfl)
theorem dX1_joint_144 : decode cX1_joint 144 = .ok (.getfield 107, 3) := dk_180 0 107 (dk_at dksX1_joint_6 3 rfl rfl)
theorem dX1_joint_147 : decode cX1_joint 147 = .ok (.invokevirtual 256, 3) := dk_182 1 0 (dk_at dksX1_joint_6 6 rfl rfl)
theorem dX1_joint_150 : decode cX1_joint 150 = .ok (.lreturn, 1) := dk_173 (dk_at dksX1_joint_6 9 rfl rfl)
abbrev cX1_separate : ByteArray := prog_1_method_40_code
def yX1_separate : MethodName := ⟨RX1, "separate", "(I)J"⟩
def dkwX1_separate_0 : List UInt8 := [42, 27, 42, 27, 182, 1, 31, 182, 1, 28, 173]
abbrev dktX1_separate_0 : List UInt8 := dkwX1_separate_0 ++ []
theorem dksX1_separate_0 : cX1_separate.data.toList.drop 0 = dktX1_separate_0 := by decide +kernel
theorem dX1_separate_0 : decode cX1_separate 0 = .ok (.aload_n 0, 1) := dk_42 (dk_at dksX1_separate_0 0 rfl rfl)
theorem dX1_separate_1 : decode cX1_separate 1 = .ok (.iload_n 1, 1) := dk_27 (dk_at dksX1_separate_0 1 rfl rfl)
theorem dX1_separate_2 : decode cX1_separate 2 = .ok (.aload_n 0, 1) := dk_42 (dk_at dksX1_separate_0 2 rfl rfl)
theorem dX1_separate_3 : decode cX1_separate 3 = .ok (.iload_n 1, 1) := dk_27 (dk_at dksX1_separate_0 3 rfl rfl)
theorem dX1_separate_4 : decode cX1_separate 4 = .ok (.invokevirtual 287, 3) := dk_182 1 31 (dk_at dksX1_separate_0 4 rfl rfl)
theorem dX1_separate_7 : decode cX1_separate 7 = .ok (.invokevirtual 284, 3) := dk_182 1 28 (dk_at dksX1_separate_0 7 rfl rfl)
theorem dX1_separate_10 : decode cX1_separate 10 = .ok (.lreturn, 1) := dk_173 (dk_at dksX1_separate_0 10 rfl rfl)
abbrev cX1_bestDivision : ByteArray := prog_1_method_39_code
def yX1_bestDivision : MethodName := ⟨RX1, "bestDivision", "(I)I"⟩
def dkwX1_bestDivision_3 : List UInt8 := [132, 4, 1, 167, 255, 223, 29, 172]
abbrev dktX1_bestDivision_3 : List UInt8 := dkwX1_bestDivision_3 ++ []
def dkwX1_bestDivision_2 : List UInt8 := [21, 4, 182, 1, 28, 42, 27, 29, 182, 1, 28, 148, 156, 0, 8, 21, 4, 167, 0, 4, 29, 62]
abbrev dktX1_bestDivision_2 : List UInt8 := dkwX1_bestDivision_2 ++ dktX1_bestDivision_3
def dkwX1_bestDivision_1 : List UInt8 := [180, 0, 229, 27, 46, 50, 180, 0, 226, 96, 61, 3, 62, 4, 54, 4, 21, 4, 28, 163, 0, 33, 42, 27]
abbrev dktX1_bestDivision_1 : List UInt8 := dkwX1_bestDivision_1 ++ dktX1_bestDivision_2
def dkwX1_bestDivision_0 : List UInt8 := [42, 180, 0, 22, 180, 0, 207, 27, 50, 180, 0, 226, 42, 180, 0, 22, 180, 0, 207, 42, 180, 0, 22]
abbrev dktX1_bestDivision_0 : List UInt8 := dkwX1_bestDivision_0 ++ dktX1_bestDivision_1
theorem dksX1_bestDivision_0 : cX1_bestDivision.data.toList.drop 0 = dktX1_bestDivision_0 := by decide +kernel
theorem dksX1_bestDivision_1 : cX1_bestDivision.data.toList.drop 23 = dktX1_bestDivision_1 := dk_seg dksX1_bestDivision_0 23 rfl rfl
theorem dksX1_bestDivision_2 : cX1_bestDivision.data.toList.drop 47 = dktX1_bestDivision_2 := dk_seg dksX1_bestDivision_1 24 rfl rfl
theorem dksX1_bestDivision_3 : cX1_bestDivision.data.toList.drop 69 = dktX1_bestDivision_3 := dk_seg dksX1_bestDivision_2 22 rfl rfl
theorem dX1_bestDivision_0 : decode cX1_bestDivision 0 = .ok (.aload_n 0, 1) := dk_42 (dk_at dksX1_bestDivision_0 0 rfl rfl)
theorem dX1_bestDivision_1 : decode cX1_bestDivision 1 = .ok (.getfield 22, 3) := dk_180 0 22 (dk_at dksX1_bestDivision_0 1 rfl rfl)
theorem dX1_bestDivision_4 : decode cX1_bestDivision 4 = .ok (.getfield 207, 3) := dk_180 0 207 (dk_at dksX1_bestDivision_0 4 rfl rfl)
theorem dX1_bestDivision_7 : decode cX1_bestDivision 7 = .ok (.iload_n 1, 1) := dk_27 (dk_at dksX1_bestDivision_0 7 rfl rfl)
theorem dX1_bestDivision_8 : decode cX1_bestDivision 8 = .ok (.aaload, 1) := dk_50 (dk_at dksX1_bestDivision_0 8 rfl rfl)
theorem dX1_bestDivision_9 : decode cX1_bestDivision 9 = .ok (.getfield 226, 3) := dk_180 0 226 (dk_at dksX1_bestDivision_0 9 rfl rfl)
theorem dX1_bestDivision_12 : decode cX1_bestDivision 12 = .ok (.aload_n 0, 1) := dk_42 (dk_at dksX1_bestDivision_0 12 rfl rfl)
theorem dX1_bestDivision_13 : decode cX1_bestDivision 13 = .ok (.getfield 22, 3) := dk_180 0 22 (dk_at dksX1_bestDivision_0 13 rfl rfl)
theorem dX1_bestDivision_16 : decode cX1_bestDivision 16 = .ok (.getfield 207, 3) := dk_180 0 207 (dk_at dksX1_bestDivision_0 16 rfl rfl)
theorem dX1_bestDivision_19 : decode cX1_bestDivision 19 = .ok (.aload_n 0, 1) := dk_42 (dk_at dksX1_bestDivision_0 19 rfl rfl)
theorem dX1_bestDivision_20 : decode cX1_bestDivision 20 = .ok (.getfield 22, 3) := dk_180 0 22 (dk_at dksX1_bestDivision_0 20 rfl rfl)
theorem dX1_bestDivision_23 : decode cX1_bestDivision 23 = .ok (.getfield 229, 3) := dk_180 0 229 (dk_at dksX1_bestDivision_1 0 rfl rfl)
theorem dX1_bestDivision_26 : decode cX1_bestDivision 26 = .ok (.iload_n 1, 1) := dk_27 (dk_at dksX1_bestDivision_1 3 rfl rfl)
theorem dX1_bestDivision_27 : decode cX1_bestDivision 27 = .ok (.iaload, 1) := dk_46 (dk_at dksX1_bestDivision_1 4 rfl rfl)
theorem dX1_bestDivision_28 : decode cX1_bestDivision 28 = .ok (.aaload, 1) := dk_50 (dk_at dksX1_bestDivision_1 5 rfl rfl)
theorem dX1_bestDivision_29 : decode cX1_bestDivision 29 = .ok (.getfield 226, 3) := dk_180 0 226 (dk_at dksX1_bestDivision_1 6 rfl rfl)
theorem dX1_bestDivision_32 : decode cX1_bestDivision 32 = .ok (.iadd, 1) := dk_96 (dk_at dksX1_bestDivision_1 9 rfl rfl)
theorem dX1_bestDivision_33 : decode cX1_bestDivision 33 = .ok (.istore_n 2, 1) := dk_61 (dk_at dksX1_bestDivision_1 10 rfl rfl)
theorem dX1_bestDivision_34 : decode cX1_bestDivision 34 = .ok (.iconst 0, 1) := dk_3 (dk_at dksX1_bestDivision_1 11 rfl rfl)
theorem dX1_bestDivision_35 : decode cX1_bestDivision 35 = .ok (.istore_n 3, 1) := dk_62 (dk_at dksX1_bestDivision_1 12 rfl rfl)
theorem dX1_bestDivision_36 : decode cX1_bestDivision 36 = .ok (.iconst 1, 1) := dk_4 (dk_at dksX1_bestDivision_1 13 rfl rfl)
theorem dX1_bestDivision_37 : decode cX1_bestDivision 37 = .ok (.istore 4, 2) := dk_54 4 (dk_at dksX1_bestDivision_1 14 rfl rfl)
theorem dX1_bestDivision_39 : decode cX1_bestDivision 39 = .ok (.iload 4, 2) := dk_21 4 (dk_at dksX1_bestDivision_1 16 rfl rfl)
theorem dX1_bestDivision_41 : decode cX1_bestDivision 41 = .ok (.iload_n 2, 1) := dk_28 (dk_at dksX1_bestDivision_1 18 rfl rfl)
theorem dX1_bestDivision_42 : decode cX1_bestDivision 42 = .ok (.if_icmp .gt 33, 3) := dk_163 0 33 (dk_at dksX1_bestDivision_1 19 rfl rfl)
theorem dX1_bestDivision_45 : decode cX1_bestDivision 45 = .ok (.aload_n 0, 1) := dk_42 (dk_at dksX1_bestDivision_1 22 rfl rfl)
theorem dX1_bestDivision_46 : decode cX1_bestDivision 46 = .ok (.iload_n 1, 1) := dk_27 (dk_at dksX1_bestDivision_1 23 rfl rfl)
theorem dX1_bestDivision_47 : decode cX1_bestDivision 47 = .ok (.iload 4, 2) := dk_21 4 (dk_at dksX1_bestDivision_2 0 rfl rfl)
theorem dX1_bestDivision_49 : decode cX1_bestDivision 49 = .ok (.invokevirtual 284, 3) := dk_182 1 28 (dk_at dksX1_bestDivision_2 2 rfl rfl)
theorem dX1_bestDivision_52 : decode cX1_bestDivision 52 = .ok (.aload_n 0, 1) := dk_42 (dk_at dksX1_bestDivision_2 5 rfl rfl)
theorem dX1_bestDivision_53 : decode cX1_bestDivision 53 = .ok (.iload_n 1, 1) := dk_27 (dk_at dksX1_bestDivision_2 6 rfl rfl)
theorem dX1_bestDivision_54 : decode cX1_bestDivision 54 = .ok (.iload_n 3, 1) := dk_29 (dk_at dksX1_bestDivision_2 7 rfl rfl)
theorem dX1_bestDivision_55 : decode cX1_bestDivision 55 = .ok (.invokevirtual 284, 3) := dk_182 1 28 (dk_at dksX1_bestDivision_2 8 rfl rfl)
theorem dX1_bestDivision_58 : decode cX1_bestDivision 58 = .ok (.lcmp, 1) := dk_148 (dk_at dksX1_bestDivision_2 11 rfl rfl)
theorem dX1_bestDivision_59 : decode cX1_bestDivision 59 = .ok (.ifCond .ge 8, 3) := dk_156 0 8 (dk_at dksX1_bestDivision_2 12 rfl rfl)
theorem dX1_bestDivision_62 : decode cX1_bestDivision 62 = .ok (.iload 4, 2) := dk_21 4 (dk_at dksX1_bestDivision_2 15 rfl rfl)
theorem dX1_bestDivision_64 : decode cX1_bestDivision 64 = .ok (.goto 4, 3) := dk_167 0 4 (dk_at dksX1_bestDivision_2 17 rfl rfl)
theorem dX1_bestDivision_67 : decode cX1_bestDivision 67 = .ok (.iload_n 3, 1) := dk_29 (dk_at dksX1_bestDivision_2 20 rfl rfl)
theorem dX1_bestDivision_68 : decode cX1_bestDivision 68 = .ok (.istore_n 3, 1) := dk_62 (dk_at dksX1_bestDivision_2 21 rfl rfl)
theorem dX1_bestDivision_69 : decode cX1_bestDivision 69 = .ok (.iinc 4 1, 3) := dk_132 4 1 (dk_at dksX1_bestDivision_3 0 rfl rfl)
theorem dX1_bestDivision_72 : decode cX1_bestDivision 72 = .ok (.goto (-33), 3) := dk_167 255 223 (dk_at dksX1_bestDivision_3 3 rfl rfl)
theorem dX1_bestDivision_75 : decode cX1_bestDivision 75 = .ok (.iload_n 3, 1) := dk_29 (dk_at dksX1_bestDivision_3 6 rfl rfl)
theorem dX1_bestDivision_76 : decode cX1_bestDivision 76 = .ok (.ireturn, 1) := dk_172 (dk_at dksX1_bestDivision_3 7 rfl rfl)
abbrev cX1_divided : ByteArray := prog_1_method_38_code
def yX1_divided : MethodName := ⟨RX1, "divided", "(II)J"⟩
def dkwX1_divided_3 : List UInt8 := [180, 0, 207, 21, 4, 50, 180, 0, 220, 21, 5, 28, 100, 182, 1, 4, 97, 173]
abbrev dktX1_divided_3 : List UInt8 := dkwX1_divided_3 ++ []
def dkwX1_divided_2 : List UInt8 := [180, 0, 22, 180, 0, 207, 29, 50, 180, 0, 220, 28, 182, 1, 4, 42, 21, 4, 42, 180, 0, 22]
abbrev dktX1_divided_2 : List UInt8 := dkwX1_divided_2 ++ dktX1_divided_3
def dkwX1_divided_1 : List UInt8 := [29, 50, 180, 0, 226, 42, 180, 0, 22, 180, 0, 207, 21, 4, 50, 180, 0, 226, 96, 54, 5, 42, 29, 42]
abbrev dktX1_divided_1 : List UInt8 := dkwX1_divided_1 ++ dktX1_divided_2
def dkwX1_divided_0 : List UInt8 := [42, 27, 182, 1, 25, 62, 42, 180, 0, 22, 180, 0, 229, 29, 46, 54, 4, 42, 180, 0, 22, 180, 0, 207]
abbrev dktX1_divided_0 : List UInt8 := dkwX1_divided_0 ++ dktX1_divided_1
theorem dksX1_divided_0 : cX1_divided.data.toList.drop 0 = dktX1_divided_0 := by decide +kernel
theorem dksX1_divided_1 : cX1_divided.data.toList.drop 24 = dktX1_divided_1 := dk_seg dksX1_divided_0 24 rfl rfl
theorem dksX1_divided_2 : cX1_divided.data.toList.drop 48 = dktX1_divided_2 := dk_seg dksX1_divided_1 24 rfl rfl
theorem dksX1_divided_3 : cX1_divided.data.toList.drop 70 = dktX1_divided_3 := dk_seg dksX1_divided_2 22 rfl rfl
theorem dX1_divided_0 : decode cX1_divided 0 = .ok (.aload_n 0, 1) := dk_42 (dk_at dksX1_divided_0 0 rfl rfl)
theorem dX1_divided_1 : decode cX1_divided 1 = .ok (.iload_n 1, 1) := dk_27 (dk_at dksX1_divided_0 1 rfl rfl)
theorem dX1_divided_2 : decode cX1_divided 2 = .ok (.invokevirtual 281, 3) := dk_182 1 25 (dk_at dksX1_divided_0 2 rfl rfl)
theorem dX1_divided_5 : decode cX1_divided 5 = .ok (.istore_n 3, 1) := dk_62 (dk_at dksX1_divided_0 5 rfl rfl)
theorem dX1_divided_6 : decode cX1_divided 6 = .ok (.aload_n 0, 1) := dk_42 (dk_at dksX1_divided_0 6 rfl rfl)
theorem dX1_divided_7 : decode cX1_divided 7 = .ok (.getfield 22, 3) := dk_180 0 22 (dk_at dksX1_divided_0 7 rfl rfl)
theorem dX1_divided_10 : decode cX1_divided 10 = .ok (.getfield 229, 3) := dk_180 0 229 (dk_at dksX1_divided_0 10 rfl rfl)
theorem dX1_divided_13 : decode cX1_divided 13 = .ok (.iload_n 3, 1) := dk_29 (dk_at dksX1_divided_0 13 rfl rfl)
theorem dX1_divided_14 : decode cX1_divided 14 = .ok (.iaload, 1) := dk_46 (dk_at dksX1_divided_0 14 rfl rfl)
theorem dX1_divided_15 : decode cX1_divided 15 = .ok (.istore 4, 2) := dk_54 4 (dk_at dksX1_divided_0 15 rfl rfl)
theorem dX1_divided_17 : decode cX1_divided 17 = .ok (.aload_n 0, 1) := dk_42 (dk_at dksX1_divided_0 17 rfl rfl)
theorem dX1_divided_18 : decode cX1_divided 18 = .ok (.getfield 22, 3) := dk_180 0 22 (dk_at dksX1_divided_0 18 rfl rfl)
theorem dX1_divided_21 : decode cX1_divided 21 = .ok (.getfield 207, 3) := dk_180 0 207 (dk_at dksX1_divided_0 21 rfl rfl)
theorem dX1_divided_24 : decode cX1_divided 24 = .ok (.iload_n 3, 1) := dk_29 (dk_at dksX1_divided_1 0 rfl rfl)
theorem dX1_divided_25 : decode cX1_divided 25 = .ok (.aaload, 1) := dk_50 (dk_at dksX1_divided_1 1 rfl rfl)
theorem dX1_divided_26 : decode cX1_divided 26 = .ok (.getfield 226, 3) := dk_180 0 226 (dk_at dksX1_divided_1 2 rfl rfl)
theorem dX1_divided_29 : decode cX1_divided 29 = .ok (.aload_n 0, 1) := dk_42 (dk_at dksX1_divided_1 5 rfl rfl)
theorem dX1_divided_30 : decode cX1_divided 30 = .ok (.getfield 22, 3) := dk_180 0 22 (dk_at dksX1_divided_1 6 rfl rfl)
theorem dX1_divided_33 : decode cX1_divided 33 = .ok (.getfield 207, 3) := dk_180 0 207 (dk_at dksX1_divided_1 9 rfl rfl)
theorem dX1_divided_36 : decode cX1_divided 36 = .ok (.iload 4, 2) := dk_21 4 (dk_at dksX1_divided_1 12 rfl rfl)
theorem dX1_divided_38 : decode cX1_divided 38 = .ok (.aaload, 1) := dk_50 (dk_at dksX1_divided_1 14 rfl rfl)
theorem dX1_divided_39 : decode cX1_divided 39 = .ok (.getfield 226, 3) := dk_180 0 226 (dk_at dksX1_divided_1 15 rfl rfl)
theorem dX1_divided_42 : decode cX1_divided 42 = .ok (.iadd, 1) := dk_96 (dk_at dksX1_divided_1 18 rfl rfl)
theorem dX1_divided_43 : decode cX1_divided 43 = .ok (.istore 5, 2) := dk_54 5 (dk_at dksX1_divided_1 19 rfl rfl)
theorem dX1_divided_45 : decode cX1_divided 45 = .ok (.aload_n 0, 1) := dk_42 (dk_at dksX1_divided_1 21 rfl rfl)
theorem dX1_divided_46 : decode cX1_divided 46 = .ok (.iload_n 3, 1) := dk_29 (dk_at dksX1_divided_1 22 rfl rfl)
theorem dX1_divided_47 : decode cX1_divided 47 = .ok (.aload_n 0, 1) := dk_42 (dk_at dksX1_divided_1 23 rfl rfl)
theorem dX1_divided_48 : decode cX1_divided 48 = .ok (.getfield 22, 3) := dk_180 0 22 (dk_at dksX1_divided_2 0 rfl rfl)
theorem dX1_divided_51 : decode cX1_divided 51 = .ok (.getfield 207, 3) := dk_180 0 207 (dk_at dksX1_divided_2 3 rfl rfl)
theorem dX1_divided_54 : decode cX1_divided 54 = .ok (.iload_n 3, 1) := dk_29 (dk_at dksX1_divided_2 6 rfl rfl)
theorem dX1_divided_55 : decode cX1_divided 55 = .ok (.aaload, 1) := dk_50 (dk_at dksX1_divided_2 7 rfl rfl)
theorem dX1_divided_56 : decode cX1_divided 56 = .ok (.getfield 220, 3) := dk_180 0 220 (dk_at dksX1_divided_2 8 rfl rfl)
theorem dX1_divided_59 : decode cX1_divided 59 = .ok (.iload_n 2, 1) := dk_28 (dk_at dksX1_divided_2 11 rfl rfl)
theorem dX1_divided_60 : decode cX1_divided 60 = .ok (.invokevirtual 260, 3) := dk_182 1 4 (dk_at dksX1_divided_2 12 rfl rfl)
theorem dX1_divided_63 : decode cX1_divided 63 = .ok (.aload_n 0, 1) := dk_42 (dk_at dksX1_divided_2 15 rfl rfl)
theorem dX1_divided_64 : decode cX1_divided 64 = .ok (.iload 4, 2) := dk_21 4 (dk_at dksX1_divided_2 16 rfl rfl)
theorem dX1_divided_66 : decode cX1_divided 66 = .ok (.aload_n 0, 1) := dk_42 (dk_at dksX1_divided_2 18 rfl rfl)
theorem dX1_divided_67 : decode cX1_divided 67 = .ok (.getfield 22, 3) := dk_180 0 22 (dk_at dksX1_divided_2 19 rfl rfl)
theorem dX1_divided_70 : decode cX1_divided 70 = .ok (.getfield 207, 3) := dk_180 0 207 (dk_at dksX1_divided_3 0 rfl rfl)
theorem dX1_divided_73 : decode cX1_divided 73 = .ok (.iload 4, 2) := dk_21 4 (dk_at dksX1_divided_3 3 rfl rfl)
theorem dX1_divided_75 : decode cX1_divided 75 = .ok (.aaload, 1) := dk_50 (dk_at dksX1_divided_3 5 rfl rfl)
theorem dX1_divided_76 : decode cX1_divided 76 = .ok (.getfield 220, 3) := dk_180 0 220 (dk_at dksX1_divided_3 6 rfl rfl)
theorem dX1_divided_79 : decode cX1_divided 79 = .ok (.iload 5, 2) := dk_21 5 (dk_at dksX1_divided_3 9 rfl rfl)
theorem dX1_divided_81 : decode cX1_divided 81 = .ok (.iload_n 2, 1) := dk_28 (dk_at dksX1_divided_3 11 rfl rfl)
theorem dX1_divided_82 : decode cX1_divided 82 = .ok (.isub, 1) := dk_100 (dk_at dksX1_divided_3 12 rfl rfl)
theorem dX1_divided_83 : decode cX1_divided 83 = .ok (.invokevirtual 260, 3) := dk_182 1 4 (dk_at dksX1_divided_3 13 rfl rfl)
theorem dX1_divided_86 : decode cX1_divided 86 = .ok (.ladd, 1) := dk_97 (dk_at dksX1_divided_3 16 rfl rfl)
theorem dX1_divided_87 : decode cX1_divided 87 = .ok (.lreturn, 1) := dk_173 (dk_at dksX1_divided_3 17 rfl rfl)
abbrev cX1_firstOf : ByteArray := prog_1_method_36_code
def yX1_firstOf : MethodName := ⟨RX1, "firstOf", "(I)I"⟩
def dkwX1_firstOf_0 : List UInt8 := [27, 42, 180, 0, 22, 180, 0, 229, 27, 46, 184, 1, 19, 172]
abbrev dktX1_firstOf_0 : List UInt8 := dkwX1_firstOf_0 ++ []
theorem dksX1_firstOf_0 : cX1_firstOf.data.toList.drop 0 = dktX1_firstOf_0 := by decide +kernel
theorem dX1_firstOf_0 : decode cX1_firstOf 0 = .ok (.iload_n 1, 1) := dk_27 (dk_at dksX1_firstOf_0 0 rfl rfl)
theorem dX1_firstOf_1 : decode cX1_firstOf 1 = .ok (.aload_n 0, 1) := dk_42 (dk_at dksX1_firstOf_0 1 rfl rfl)
theorem dX1_firstOf_2 : decode cX1_firstOf 2 = .ok (.getfield 22, 3) := dk_180 0 22 (dk_at dksX1_firstOf_0 2 rfl rfl)
theorem dX1_firstOf_5 : decode cX1_firstOf 5 = .ok (.getfield 229, 3) := dk_180 0 229 (dk_at dksX1_firstOf_0 5 rfl rfl)
theorem dX1_firstOf_8 : decode cX1_firstOf 8 = .ok (.iload_n 1, 1) := dk_27 (dk_at dksX1_firstOf_0 8 rfl rfl)
theorem dX1_firstOf_9 : decode cX1_firstOf 9 = .ok (.iaload, 1) := dk_46 (dk_at dksX1_firstOf_0 9 rfl rfl)
theorem dX1_firstOf_10 : decode cX1_firstOf 10 = .ok (.invokestatic 275, 3) := dk_184 1 19 (dk_at dksX1_firstOf_0 10 rfl rfl)
theorem dX1_firstOf_13 : decode cX1_firstOf 13 = .ok (.ireturn, 1) := dk_172 (dk_at dksX1_firstOf_0 13 rfl rfl)
abbrev cX1_closeYear : ByteArray := prog_1_method_51_code
def yX1_closeYear : MethodName := ⟨RX1, "closeYear", "()I"⟩
def dkwX1_closeYear_3 : List UInt8 := [167, 255, 195, 43, 89, 180, 1, 64, 4, 96, 181, 1, 64, 42, 43, 182, 0, 54, 87, 43, 180, 1, 64, 172]
abbrev dktX1_closeYear_3 : List UInt8 := dkwX1_closeYear_3 ++ []
def dkwX1_closeYear_2 : List UInt8 := [167, 0, 20, 42, 180, 0, 22, 28, 182, 1, 50, 153, 0, 9, 42, 28, 43, 182, 1, 60, 132, 2, 1]
abbrev dktX1_closeYear_2 : List UInt8 := dkwX1_closeYear_2 ++ dktX1_closeYear_3
def dkwX1_closeYear_1 : List UInt8 := [46, 2, 160, 0, 25, 42, 28, 182, 1, 8, 88, 43, 180, 0, 128, 28, 42, 182, 1, 56, 182, 0, 131, 87]
abbrev dktX1_closeYear_1 : List UInt8 := dkwX1_closeYear_1 ++ dktX1_closeYear_2
def dkwX1_closeYear_0 : List UInt8 := [42, 180, 0, 22, 182, 0, 50, 76, 3, 61, 28, 16, 6, 162, 0, 61, 42, 180, 0, 22, 180, 0, 229, 28]
abbrev dktX1_closeYear_0 : List UInt8 := dkwX1_closeYear_0 ++ dktX1_closeYear_1
theorem dksX1_closeYear_0 : cX1_closeYear.data.toList.drop 0 = dktX1_closeYear_0 := by decide +kernel
theorem dksX1_closeYear_1 : cX1_closeYear.data.toList.drop 24 = dktX1_closeYear_1 := dk_seg dksX1_closeYear_0 24 rfl rfl
theorem dksX1_closeYear_2 : cX1_closeYear.data.toList.drop 48 = dktX1_closeYear_2 := dk_seg dksX1_closeYear_1 24 rfl rfl
theorem dksX1_closeYear_3 : cX1_closeYear.data.toList.drop 71 = dktX1_closeYear_3 := dk_seg dksX1_closeYear_2 23 rfl rfl
theorem dX1_closeYear_0 : decode cX1_closeYear 0 = .ok (.aload_n 0, 1) := dk_42 (dk_at dksX1_closeYear_0 0 rfl rfl)
theorem dX1_closeYear_1 : decode cX1_closeYear 1 = .ok (.getfield 22, 3) := dk_180 0 22 (dk_at dksX1_closeYear_0 1 rfl rfl)
theorem dX1_closeYear_4 : decode cX1_closeYear 4 = .ok (.invokevirtual 50, 3) := dk_182 0 50 (dk_at dksX1_closeYear_0 4 rfl rfl)
theorem dX1_closeYear_7 : decode cX1_closeYear 7 = .ok (.astore_n 1, 1) := dk_76 (dk_at dksX1_closeYear_0 7 rfl rfl)
theorem dX1_closeYear_8 : decode cX1_closeYear 8 = .ok (.iconst 0, 1) := dk_3 (dk_at dksX1_closeYear_0 8 rfl rfl)
theorem dX1_closeYear_9 : decode cX1_closeYear 9 = .ok (.istore_n 2, 1) := dk_61 (dk_at dksX1_closeYear_0 9 rfl rfl)
theorem dX1_closeYear_10 : decode cX1_closeYear 10 = .ok (.iload_n 2, 1) := dk_28 (dk_at dksX1_closeYear_0 10 rfl rfl)
theorem dX1_closeYear_11 : decode cX1_closeYear 11 = .ok (.bipush 6, 2) := dk_16 6 (dk_at dksX1_closeYear_0 11 rfl rfl)
theorem dX1_closeYear_13 : decode cX1_closeYear 13 = .ok (.if_icmp .ge 61, 3) := dk_162 0 61 (dk_at dksX1_closeYear_0 13 rfl rfl)
theorem dX1_closeYear_16 : decode cX1_closeYear 16 = .ok (.aload_n 0, 1) := dk_42 (dk_at dksX1_closeYear_0 16 rfl rfl)
theorem dX1_closeYear_17 : decode cX1_closeYear 17 = .ok (.getfield 22, 3) := dk_180 0 22 (dk_at dksX1_closeYear_0 17 rfl rfl)
theorem dX1_closeYear_20 : decode cX1_closeYear 20 = .ok (.getfield 229, 3) := dk_180 0 229 (dk_at dksX1_closeYear_0 20 rfl rfl)
theorem dX1_closeYear_23 : decode cX1_closeYear 23 = .ok (.iload_n 2, 1) := dk_28 (dk_at dksX1_closeYear_0 23 rfl rfl)
theorem dX1_closeYear_24 : decode cX1_closeYear 24 = .ok (.iaload, 1) := dk_46 (dk_at dksX1_closeYear_1 0 rfl rfl)
theorem dX1_closeYear_25 : decode cX1_closeYear 25 = .ok (.iconst (-1), 1) := dk_2 (dk_at dksX1_closeYear_1 1 rfl rfl)
theorem dX1_closeYear_26 : decode cX1_closeYear 26 = .ok (.if_icmp .ne 25, 3) := dk_160 0 25 (dk_at dksX1_closeYear_1 2 rfl rfl)
theorem dX1_closeYear_29 : decode cX1_closeYear 29 = .ok (.aload_n 0, 1) := dk_42 (dk_at dksX1_closeYear_1 5 rfl rfl)
theorem dX1_closeYear_30 : decode cX1_closeYear 30 = .ok (.iload_n 2, 1) := dk_28 (dk_at dksX1_closeYear_1 6 rfl rfl)
theorem dX1_closeYear_31 : decode cX1_closeYear 31 = .ok (.invokevirtual 264, 3) := dk_182 1 8 (dk_at dksX1_closeYear_1 7 rfl rfl)
theorem dX1_closeYear_34 : decode cX1_closeYear 34 = .ok (.pop2, 1) := dk_88 (dk_at dksX1_closeYear_1 10 rfl rfl)
theorem dX1_closeYear_35 : decode cX1_closeYear 35 = .ok (.aload_n 1, 1) := dk_43 (dk_at dksX1_closeYear_1 11 rfl rfl)
theorem dX1_closeYear_36 : decode cX1_closeYear 36 = .ok (.getfield 128, 3) := dk_180 0 128 (dk_at dksX1_closeYear_1 12 rfl rfl)
theorem dX1_closeYear_39 : decode cX1_closeYear 39 = .ok (.iload_n 2, 1) := dk_28 (dk_at dksX1_closeYear_1 15 rfl rfl)
theorem dX1_closeYear_40 : decode cX1_closeYear 40 = .ok (.aload_n 0, 1) := dk_42 (dk_at dksX1_closeYear_1 16 rfl rfl)
theorem dX1_closeYear_41 : decode cX1_closeYear 41 = .ok (.invokevirtual 312, 3) := dk_182 1 56 (dk_at dksX1_closeYear_1 17 rfl rfl)
theorem dX1_closeYear_44 : decode cX1_closeYear 44 = .ok (.invokevirtual 131, 3) := dk_182 0 131 (dk_at dksX1_closeYear_1 20 rfl rfl)
theorem dX1_closeYear_47 : decode cX1_closeYear 47 = .ok (.pop, 1) := dk_87 (dk_at dksX1_closeYear_1 23 rfl rfl)
theorem dX1_closeYear_48 : decode cX1_closeYear 48 = .ok (.goto 20, 3) := dk_167 0 20 (dk_at dksX1_closeYear_2 0 rfl rfl)
theorem dX1_closeYear_51 : decode cX1_closeYear 51 = .ok (.aload_n 0, 1) := dk_42 (dk_at dksX1_closeYear_2 3 rfl rfl)
theorem dX1_closeYear_52 : decode cX1_closeYear 52 = .ok (.getfield 22, 3) := dk_180 0 22 (dk_at dksX1_closeYear_2 4 rfl rfl)
theorem dX1_closeYear_55 : decode cX1_closeYear 55 = .ok (.iload_n 2, 1) := dk_28 (dk_at dksX1_closeYear_2 7 rfl rfl)
theorem dX1_closeYear_56 : decode cX1_closeYear 56 = .ok (.invokevirtual 306, 3) := dk_182 1 50 (dk_at dksX1_closeYear_2 8 rfl rfl)
theorem dX1_closeYear_59 : decode cX1_closeYear 59 = .ok (.ifCond .eq 9, 3) := dk_153 0 9 (dk_at dksX1_closeYear_2 11 rfl rfl)
theorem dX1_closeYear_62 : decode cX1_closeYear 62 = .ok (.aload_n 0, 1) := dk_42 (dk_at dksX1_closeYear_2 14 rfl rfl)
theorem dX1_closeYear_63 : decode cX1_closeYear 63 = .ok (.iload_n 2, 1) := dk_28 (dk_at dksX1_closeYear_2 15 rfl rfl)
theorem dX1_closeYear_64 : decode cX1_closeYear 64 = .ok (.aload_n 1, 1) := dk_43 (dk_at dksX1_closeYear_2 16 rfl rfl)
theorem dX1_closeYear_65 : decode cX1_closeYear 65 = .ok (.invokevirtual 316, 3) := dk_182 1 60 (dk_at dksX1_closeYear_2 17 rfl rfl)
theorem dX1_closeYear_68 : decode cX1_closeYear 68 = .ok (.iinc 2 1, 3) := dk_132 2 1 (dk_at dksX1_closeYear_2 20 rfl rfl)
theorem dX1_closeYear_71 : decode cX1_closeYear 71 = .ok (.goto (-61), 3) := dk_167 255 195 (dk_at dksX1_closeYear_3 0 rfl rfl)
theorem dX1_closeYear_74 : decode cX1_closeYear 74 = .ok (.aload_n 1, 1) := dk_43 (dk_at dksX1_closeYear_3 3 rfl rfl)
theorem dX1_closeYear_75 : decode cX1_closeYear 75 = .ok (.dup, 1) := dk_89 (dk_at dksX1_closeYear_3 4 rfl rfl)
theorem dX1_closeYear_76 : decode cX1_closeYear 76 = .ok (.getfield 320, 3) := dk_180 1 64 (dk_at dksX1_closeYear_3 5 rfl rfl)
theorem dX1_closeYear_79 : decode cX1_closeYear 79 = .ok (.iconst 1, 1) := dk_4 (dk_at dksX1_closeYear_3 8 rfl rfl)
theorem dX1_closeYear_80 : decode cX1_closeYear 80 = .ok (.iadd, 1) := dk_96 (dk_at dksX1_closeYear_3 9 rfl rfl)
theorem dX1_closeYear_81 : decode cX1_closeYear 81 = .ok (.putfield 320, 3) := dk_181 1 64 (dk_at dksX1_closeYear_3 10 rfl rfl)
theorem dX1_closeYear_84 : decode cX1_closeYear 84 = .ok (.aload_n 0, 1) := dk_42 (dk_at dksX1_closeYear_3 13 rfl rfl)
theorem dX1_closeYear_85 : decode cX1_closeYear 85 = .ok (.aload_n 1, 1) := dk_43 (dk_at dksX1_closeYear_3 14 rfl rfl)
theorem dX1_closeYear_86 : decode cX1_closeYear 86 = .ok (.invokevirtual 54, 3) := dk_182 0 54 (dk_at dksX1_closeYear_3 15 rfl rfl)
theorem dX1_closeYear_89 : decode cX1_closeYear 89 = .ok (.pop, 1) := dk_87 (dk_at dksX1_closeYear_3 18 rfl rfl)
theorem dX1_closeYear_90 : decode cX1_closeYear 90 = .ok (.aload_n 1, 1) := dk_43 (dk_at dksX1_closeYear_3 19 rfl rfl)
theorem dX1_closeYear_91 : decode cX1_closeYear 91 = .ok (.getfield 320, 3) := dk_180 1 64 (dk_at dksX1_closeYear_3 20 rfl rfl)
theorem dX1_closeYear_94 : decode cX1_closeYear 94 = .ok (.ireturn, 1) := dk_172 (dk_at dksX1_closeYear_3 23 rfl rfl)
abbrev cX1_keptRow : ByteArray := prog_1_method_49_code
def yX1_keptRow : MethodName := ⟨RX1, "keptRow", "()[J"⟩
def dkwX1_keptRow_1 : List UInt8 := [180, 0, 120, 182, 0, 124, 184, 0, 250, 43, 176]
abbrev dktX1_keptRow_1 : List UInt8 := dkwX1_keptRow_1 ++ []
def dkwX1_keptRow_0 : List UInt8 := [16, 6, 188, 11, 76, 42, 180, 0, 38, 180, 1, 53, 3, 43, 3, 42, 180, 0, 22, 180, 0, 107]
abbrev dktX1_keptRow_0 : List UInt8 := dkwX1_keptRow_0 ++ dktX1_keptRow_1
theorem dksX1_keptRow_0 : cX1_keptRow.data.toList.drop 0 = dktX1_keptRow_0 := by decide +kernel
theorem dksX1_keptRow_1 : cX1_keptRow.data.toList.drop 22 = dktX1_keptRow_1 := dk_seg dksX1_keptRow_0 22 rfl rfl
theorem dX1_keptRow_0 : decode cX1_keptRow 0 = .ok (.bipush 6, 2) := dk_16 6 (dk_at dksX1_keptRow_0 0 rfl rfl)
theorem dX1_keptRow_2 : decode cX1_keptRow 2 = .ok (.newarray .long, 2) := dk_188_11 (dk_at dksX1_keptRow_0 2 rfl rfl)
theorem dX1_keptRow_4 : decode cX1_keptRow 4 = .ok (.astore_n 1, 1) := dk_76 (dk_at dksX1_keptRow_0 4 rfl rfl)
theorem dX1_keptRow_5 : decode cX1_keptRow 5 = .ok (.aload_n 0, 1) := dk_42 (dk_at dksX1_keptRow_0 5 rfl rfl)
theorem dX1_keptRow_6 : decode cX1_keptRow 6 = .ok (.getfield 38, 3) := dk_180 0 38 (dk_at dksX1_keptRow_0 6 rfl rfl)
theorem dX1_keptRow_9 : decode cX1_keptRow 9 = .ok (.getfield 309, 3) := dk_180 1 53 (dk_at dksX1_keptRow_0 9 rfl rfl)
theorem dX1_keptRow_12 : decode cX1_keptRow 12 = .ok (.iconst 0, 1) := dk_3 (dk_at dksX1_keptRow_0 12 rfl rfl)
theorem dX1_keptRow_13 : decode cX1_keptRow 13 = .ok (.aload_n 1, 1) := dk_43 (dk_at dksX1_keptRow_0 13 rfl rfl)
theorem dX1_keptRow_14 : decode cX1_keptRow 14 = .ok (.iconst 0, 1) := dk_3 (dk_at dksX1_keptRow_0 14 rfl rfl)
theorem dX1_keptRow_15 : decode cX1_keptRow 15 = .ok (.aload_n 0, 1) := dk_42 (dk_at dksX1_keptRow_0 15 rfl rfl)
theorem dX1_keptRow_16 : decode cX1_keptRow 16 = .ok (.getfield 22, 3) := dk_180 0 22 (dk_at dksX1_keptRow_0 16 rfl rfl)
theorem dX1_keptRow_19 : decode cX1_keptRow 19 = .ok (.getfield 107, 3) := dk_180 0 107 (dk_at dksX1_keptRow_0 19 rfl rfl)
theorem dX1_keptRow_22 : decode cX1_keptRow 22 = .ok (.getfield 120, 3) := dk_180 0 120 (dk_at dksX1_keptRow_1 0 rfl rfl)
theorem dX1_keptRow_25 : decode cX1_keptRow 25 = .ok (.invokevirtual 124, 3) := dk_182 0 124 (dk_at dksX1_keptRow_1 3 rfl rfl)
theorem dX1_keptRow_28 : decode cX1_keptRow 28 = .ok (.invokestatic 250, 3) := dk_184 0 250 (dk_at dksX1_keptRow_1 6 rfl rfl)
theorem dX1_keptRow_31 : decode cX1_keptRow 31 = .ok (.aload_n 1, 1) := dk_43 (dk_at dksX1_keptRow_1 9 rfl rfl)
theorem dX1_keptRow_32 : decode cX1_keptRow 32 = .ok (.areturn, 1) := dk_176 (dk_at dksX1_keptRow_1 10 rfl rfl)
abbrev cX1_closeCouple : ByteArray := prog_1_method_50_code
def yX1_closeCouple : MethodName := ⟨RX1, "closeCouple", "(ILTaxWorkbench$World;)V"⟩
def dkwX1_closeCouple_7 : List UInt8 := [182, 0, 131, 87, 177]
abbrev dktX1_closeCouple_7 : List UInt8 := dkwX1_closeCouple_7 ++ []
def dkwX1_closeCouple_6 : List UInt8 := [50, 180, 0, 220, 21, 6, 21, 5, 100, 182, 1, 4, 88, 44, 180, 0, 128, 21, 4, 42, 182, 1, 56]
abbrev dktX1_closeCouple_6 : List UInt8 := dkwX1_closeCouple_6 ++ dktX1_closeCouple_7
def dkwX1_closeCouple_5 : List UInt8 := [180, 0, 128, 29, 42, 182, 1, 56, 182, 0, 131, 87, 42, 21, 4, 42, 180, 0, 22, 180, 0, 207, 21, 4]
abbrev dktX1_closeCouple_5 : List UInt8 := dkwX1_closeCouple_5 ++ dktX1_closeCouple_6
def dkwX1_closeCouple_4 : List UInt8 := [96, 54, 6, 42, 29, 42, 180, 0, 22, 180, 0, 207, 29, 50, 180, 0, 220, 21, 5, 182, 1, 4, 88, 44]
abbrev dktX1_closeCouple_4 : List UInt8 := dkwX1_closeCouple_4 ++ dktX1_closeCouple_5
def dkwX1_closeCouple_3 : List UInt8 := [180, 0, 22, 180, 0, 207, 29, 50, 180, 0, 226, 42, 180, 0, 22, 180, 0, 207, 21, 4, 50, 180, 0, 226]
abbrev dktX1_closeCouple_3 : List UInt8 := dkwX1_closeCouple_3 ++ dktX1_closeCouple_4
def dkwX1_closeCouple_2 : List UInt8 := [180, 0, 128, 21, 4, 16, 6, 188, 11, 182, 0, 131, 87, 177, 42, 29, 182, 1, 31, 54, 5, 42]
abbrev dktX1_closeCouple_2 : List UInt8 := dkwX1_closeCouple_2 ++ dktX1_closeCouple_3
def dkwX1_closeCouple_1 : List UInt8 := [153, 0, 37, 42, 29, 182, 1, 34, 88, 44, 180, 0, 128, 29, 42, 182, 1, 56, 182, 0, 131, 87, 44]
abbrev dktX1_closeCouple_1 : List UInt8 := dkwX1_closeCouple_1 ++ dktX1_closeCouple_2
def dkwX1_closeCouple_0 : List UInt8 := [42, 27, 182, 1, 25, 62, 42, 180, 0, 22, 180, 0, 229, 29, 46, 54, 4, 42, 29, 182, 1, 43]
abbrev dktX1_closeCouple_0 : List UInt8 := dkwX1_closeCouple_0 ++ dktX1_closeCouple_1
theorem dksX1_closeCouple_0 : cX1_closeCouple.data.toList.drop 0 = dktX1_closeCouple_0 := by decide +kernel
theorem dksX1_closeCouple_1 : cX1_closeCouple.data.toList.drop 22 = dktX1_closeCouple_1 := dk_seg dksX1_closeCouple_0 22 rfl rfl
theorem dksX1_closeCouple_2 : cX1_closeCouple.data.toList.drop 45 = dktX1_closeCouple_2 := dk_seg dksX1_closeCouple_1 23 rfl rfl
theorem dksX1_closeCouple_3 : cX1_closeCouple.data.toList.drop 67 = dktX1_closeCouple_3 := dk_seg dksX1_closeCouple_2 22 rfl rfl
theorem dksX1_closeCouple_4 : cX1_closeCouple.data.toList.drop 91 = dktX1_closeCouple_4 := dk_seg dksX1_closeCouple_3 24 rfl rfl
theorem dksX1_closeCouple_5 : cX1_closeCouple.data.toList.drop 115 = dktX1_closeCouple_5 := dk_seg dksX1_closeCouple_4 24 rfl rfl
theorem dksX1_closeCouple_6 : cX1_closeCouple.data.toList.drop 139 = dktX1_closeCouple_6 := dk_seg dksX1_closeCouple_5 24 rfl rfl
theorem dksX1_closeCouple_7 : cX1_closeCouple.data.toList.drop 162 = dktX1_closeCouple_7 := dk_seg dksX1_closeCouple_6 23 rfl rfl
theorem dX1_closeCouple_0 : decode cX1_closeCouple 0 = .ok (.aload_n 0, 1) := dk_42 (dk_at dksX1_closeCouple_0 0 rfl rfl)
theorem dX1_closeCouple_1 : decode cX1_closeCouple 1 = .ok (.iload_n 1, 1) := dk_27 (dk_at dksX1_closeCouple_0 1 rfl rfl)
theorem dX1_closeCouple_2 : decode cX1_closeCouple 2 = .ok (.invokevirtual 281, 3) := dk_182 1 25 (dk_at dksX1_closeCouple_0 2 rfl rfl)
theorem dX1_closeCouple_5 : decode cX1_closeCouple 5 = .ok (.istore_n 3, 1) := dk_62 (dk_at dksX1_closeCouple_0 5 rfl rfl)
theorem dX1_closeCouple_6 : decode cX1_closeCouple 6 = .ok (.aload_n 0, 1) := dk_42 (dk_at dksX1_closeCouple_0 6 rfl rfl)
theorem dX1_closeCouple_7 : decode cX1_closeCouple 7 = .ok (.getfield 22, 3) := dk_180 0 22 (dk_at dksX1_closeCouple_0 7 rfl rfl)
theorem dX1_closeCouple_10 : decode cX1_closeCouple 10 = .ok (.getfield 229, 3) := dk_180 0 229 (dk_at dksX1_closeCouple_0 10 rfl rfl)
theorem dX1_closeCouple_13 : decode cX1_closeCouple 13 = .ok (.iload_n 3, 1) := dk_29 (dk_at dksX1_closeCouple_0 13 rfl rfl)
theorem dX1_closeCouple_14 : decode cX1_closeCouple 14 = .ok (.iaload, 1) := dk_46 (dk_at dksX1_closeCouple_0 14 rfl rfl)
theorem dX1_closeCouple_15 : decode cX1_closeCouple 15 = .ok (.istore 4, 2) := dk_54 4 (dk_at dksX1_closeCouple_0 15 rfl rfl)
theorem dX1_closeCouple_17 : decode cX1_closeCouple 17 = .ok (.aload_n 0, 1) := dk_42 (dk_at dksX1_closeCouple_0 17 rfl rfl)
theorem dX1_closeCouple_18 : decode cX1_closeCouple 18 = .ok (.iload_n 3, 1) := dk_29 (dk_at dksX1_closeCouple_0 18 rfl rfl)
theorem dX1_closeCouple_19 : decode cX1_closeCouple 19 = .ok (.invokevirtual 299, 3) := dk_182 1 43 (dk_at dksX1_closeCouple_0 19 rfl rfl)
theorem dX1_closeCouple_22 : decode cX1_closeCouple 22 = .ok (.ifCond .eq 37, 3) := dk_153 0 37 (dk_at dksX1_closeCouple_1 0 rfl rfl)
theorem dX1_closeCouple_25 : decode cX1_closeCouple 25 = .ok (.aload_n 0, 1) := dk_42 (dk_at dksX1_closeCouple_1 3 rfl rfl)
theorem dX1_closeCouple_26 : decode cX1_closeCouple 26 = .ok (.iload_n 3, 1) := dk_29 (dk_at dksX1_closeCouple_1 4 rfl rfl)
theorem dX1_closeCouple_27 : decode cX1_closeCouple 27 = .ok (.invokevirtual 290, 3) := dk_182 1 34 (dk_at dksX1_closeCouple_1 5 rfl rfl)
theorem dX1_closeCouple_30 : decode cX1_closeCouple 30 = .ok (.pop2, 1) := dk_88 (dk_at dksX1_closeCouple_1 8 rfl rfl)
theorem dX1_closeCouple_31 : decode cX1_closeCouple 31 = .ok (.aload_n 2, 1) := dk_44 (dk_at dksX1_closeCouple_1 9 rfl rfl)
theorem dX1_closeCouple_32 : decode cX1_closeCouple 32 = .ok (.getfield 128, 3) := dk_180 0 128 (dk_at dksX1_closeCouple_1 10 rfl rfl)
theorem dX1_closeCouple_35 : decode cX1_closeCouple 35 = .ok (.iload_n 3, 1) := dk_29 (dk_at dksX1_closeCouple_1 13 rfl rfl)
theorem dX1_closeCouple_36 : decode cX1_closeCouple 36 = .ok (.aload_n 0, 1) := dk_42 (dk_at dksX1_closeCouple_1 14 rfl rfl)
theorem dX1_closeCouple_37 : decode cX1_closeCouple 37 = .ok (.invokevirtual 312, 3) := dk_182 1 56 (dk_at dksX1_closeCouple_1 15 rfl rfl)
theorem dX1_closeCouple_40 : decode cX1_closeCouple 40 = .ok (.invokevirtual 131, 3) := dk_182 0 131 (dk_at dksX1_closeCouple_1 18 rfl rfl)
theorem dX1_closeCouple_43 : decode cX1_closeCouple 43 = .ok (.pop, 1) := dk_87 (dk_at dksX1_closeCouple_1 21 rfl rfl)
theorem dX1_closeCouple_44 : decode cX1_closeCouple 44 = .ok (.aload_n 2, 1) := dk_44 (dk_at dksX1_closeCouple_1 22 rfl rfl)
theorem dX1_closeCouple_45 : decode cX1_closeCouple 45 = .ok (.getfield 128, 3) := dk_180 0 128 (dk_at dksX1_closeCouple_2 0 rfl rfl)
theorem dX1_closeCouple_48 : decode cX1_closeCouple 48 = .ok (.iload 4, 2) := dk_21 4 (dk_at dksX1_closeCouple_2 3 rfl rfl)
theorem dX1_closeCouple_50 : decode cX1_closeCouple 50 = .ok (.bipush 6, 2) := dk_16 6 (dk_at dksX1_closeCouple_2 5 rfl rfl)
theorem dX1_closeCouple_52 : decode cX1_closeCouple 52 = .ok (.newarray .long, 2) := dk_188_11 (dk_at dksX1_closeCouple_2 7 rfl rfl)
theorem dX1_closeCouple_54 : decode cX1_closeCouple 54 = .ok (.invokevirtual 131, 3) := dk_182 0 131 (dk_at dksX1_closeCouple_2 9 rfl rfl)
theorem dX1_closeCouple_57 : decode cX1_closeCouple 57 = .ok (.pop, 1) := dk_87 (dk_at dksX1_closeCouple_2 12 rfl rfl)
theorem dX1_closeCouple_58 : decode cX1_closeCouple 58 = .ok (.return_, 1) := dk_177 (dk_at dksX1_closeCouple_2 13 rfl rfl)
theorem dX1_closeCouple_59 : decode cX1_closeCouple 59 = .ok (.aload_n 0, 1) := dk_42 (dk_at dksX1_closeCouple_2 14 rfl rfl)
theorem dX1_closeCouple_60 : decode cX1_closeCouple 60 = .ok (.iload_n 3, 1) := dk_29 (dk_at dksX1_closeCouple_2 15 rfl rfl)
theorem dX1_closeCouple_61 : decode cX1_closeCouple 61 = .ok (.invokevirtual 287, 3) := dk_182 1 31 (dk_at dksX1_closeCouple_2 16 rfl rfl)
theorem dX1_closeCouple_64 : decode cX1_closeCouple 64 = .ok (.istore 5, 2) := dk_54 5 (dk_at dksX1_closeCouple_2 19 rfl rfl)
theorem dX1_closeCouple_66 : decode cX1_closeCouple 66 = .ok (.aload_n 0, 1) := dk_42 (dk_at dksX1_closeCouple_2 21 rfl rfl)
theorem dX1_closeCouple_67 : decode cX1_closeCouple 67 = .ok (.getfield 22, 3) := dk_180 0 22 (dk_at dksX1_closeCouple_3 0 rfl rfl)
theorem dX1_closeCouple_70 : decode cX1_closeCouple 70 = .ok (.getfield 207, 3) := dk_180 0 207 (dk_at dksX1_closeCouple_3 3 rfl rfl)
theorem dX1_closeCouple_73 : decode cX1_closeCouple 73 = .ok (.iload_n 3, 1) := dk_29 (dk_at dksX1_closeCouple_3 6 rfl rfl)
theorem dX1_closeCouple_74 : decode cX1_closeCouple 74 = .ok (.aaload, 1) := dk_50 (dk_at dksX1_closeCouple_3 7 rfl rfl)
theorem dX1_closeCouple_75 : decode cX1_closeCouple 75 = .ok (.getfield 226, 3) := dk_180 0 226 (dk_at dksX1_closeCouple_3 8 rfl rfl)
theorem dX1_closeCouple_78 : decode cX1_closeCouple 78 = .ok (.aload_n 0, 1) := dk_42 (dk_at dksX1_closeCouple_3 11 rfl rfl)
theorem dX1_closeCouple_79 : decode cX1_closeCouple 79 = .ok (.getfield 22, 3) := dk_180 0 22 (dk_at dksX1_closeCouple_3 12 rfl rfl)
theorem dX1_closeCouple_82 : decode cX1_closeCouple 82 = .ok (.getfield 207, 3) := dk_180 0 207 (dk_at dksX1_closeCouple_3 15 rfl rfl)
theorem dX1_closeCouple_85 : decode cX1_closeCouple 85 = .ok (.iload 4, 2) := dk_21 4 (dk_at dksX1_closeCouple_3 18 rfl rfl)
theorem dX1_closeCouple_87 : decode cX1_closeCouple 87 = .ok (.aaload, 1) := dk_50 (dk_at dksX1_closeCouple_3 20 rfl rfl)
theorem dX1_closeCouple_88 : decode cX1_closeCouple 88 = .ok (.getfield 226, 3) := dk_180 0 226 (dk_at dksX1_closeCouple_3 21 rfl rfl)
theorem dX1_closeCouple_91 : decode cX1_closeCouple 91 = .ok (.iadd, 1) := dk_96 (dk_at dksX1_closeCouple_4 0 rfl rfl)
theorem dX1_closeCouple_92 : decode cX1_closeCouple 92 = .ok (.istore 6, 2) := dk_54 6 (dk_at dksX1_closeCouple_4 1 rfl rfl)
theorem dX1_closeCouple_94 : decode cX1_closeCouple 94 = .ok (.aload_n 0, 1) := dk_42 (dk_at dksX1_closeCouple_4 3 rfl rfl)
theorem dX1_closeCouple_95 : decode cX1_closeCouple 95 = .ok (.iload_n 3, 1) := dk_29 (dk_at dksX1_closeCouple_4 4 rfl rfl)
theorem dX1_closeCouple_96 : decode cX1_closeCouple 96 = .ok (.aload_n 0, 1) := dk_42 (dk_at dksX1_closeCouple_4 5 rfl rfl)
theorem dX1_closeCouple_97 : decode cX1_closeCouple 97 = .ok (.getfield 22, 3) := dk_180 0 22 (dk_at dksX1_closeCouple_4 6 rfl rfl)
theorem dX1_closeCouple_100 : decode cX1_closeCouple 100 = .ok (.getfield 207, 3) := dk_180 0 207 (dk_at dksX1_closeCouple_4 9 rfl rfl)
theorem dX1_closeCouple_103 : decode cX1_closeCouple 103 = .ok (.iload_n 3, 1) := dk_29 (dk_at dksX1_closeCouple_4 12 rfl rfl)
theorem dX1_closeCouple_104 : decode cX1_closeCouple 104 = .ok (.aaload, 1) := dk_50 (dk_at dksX1_closeCouple_4 13 rfl rfl)
theorem dX1_closeCouple_105 : decode cX1_closeCouple 105 = .ok (.getfield 220, 3) := dk_180 0 220 (dk_at dksX1_closeCouple_4 14 rfl rfl)
theorem dX1_closeCouple_108 : decode cX1_closeCouple 108 = .ok (.iload 5, 2) := dk_21 5 (dk_at dksX1_closeCouple_4 17 rfl rfl)
theorem dX1_closeCouple_110 : decode cX1_closeCouple 110 = .ok (.invokevirtual 260, 3) := dk_182 1 4 (dk_at dksX1_closeCouple_4 19 rfl rfl)
theorem dX1_closeCouple_113 : decode cX1_closeCouple 113 = .ok (.pop2, 1) := dk_88 (dk_at dksX1_closeCouple_4 22 rfl rfl)
theorem dX1_closeCouple_114 : decode cX1_closeCouple 114 = .ok (.aload_n 2, 1) := dk_44 (dk_at dksX1_closeCouple_4 23 rfl rfl)
theorem dX1_closeCouple_115 : decode cX1_closeCouple 115 = .ok (.getfield 128, 3) := dk_180 0 128 (dk_at dksX1_closeCouple_5 0 rfl rfl)
theorem dX1_closeCouple_118 : decode cX1_closeCouple 118 = .ok (.iload_n 3, 1) := dk_29 (dk_at dksX1_closeCouple_5 3 rfl rfl)
theorem dX1_closeCouple_119 : decode cX1_closeCouple 119 = .ok (.aload_n 0, 1) := dk_42 (dk_at dksX1_closeCouple_5 4 rfl rfl)
theorem dX1_closeCouple_120 : decode cX1_closeCouple 120 = .ok (.invokevirtual 312, 3) := dk_182 1 56 (dk_at dksX1_closeCouple_5 5 rfl rfl)
theorem dX1_closeCouple_123 : decode cX1_closeCouple 123 = .ok (.invokevirtual 131, 3) := dk_182 0 131 (dk_at dksX1_closeCouple_5 8 rfl rfl)
theorem dX1_closeCouple_126 : decode cX1_closeCouple 126 = .ok (.pop, 1) := dk_87 (dk_at dksX1_closeCouple_5 11 rfl rfl)
theorem dX1_closeCouple_127 : decode cX1_closeCouple 127 = .ok (.aload_n 0, 1) := dk_42 (dk_at dksX1_closeCouple_5 12 rfl rfl)
theorem dX1_closeCouple_128 : decode cX1_closeCouple 128 = .ok (.iload 4, 2) := dk_21 4 (dk_at dksX1_closeCouple_5 13 rfl rfl)
theorem dX1_closeCouple_130 : decode cX1_closeCouple 130 = .ok (.aload_n 0, 1) := dk_42 (dk_at dksX1_closeCouple_5 15 rfl rfl)
theorem dX1_closeCouple_131 : decode cX1_closeCouple 131 = .ok (.getfield 22, 3) := dk_180 0 22 (dk_at dksX1_closeCouple_5 16 rfl rfl)
theorem dX1_closeCouple_134 : decode cX1_closeCouple 134 = .ok (.getfield 207, 3) := dk_180 0 207 (dk_at dksX1_closeCouple_5 19 rfl rfl)
theorem dX1_closeCouple_137 : decode cX1_closeCouple 137 = .ok (.iload 4, 2) := dk_21 4 (dk_at dksX1_closeCouple_5 22 rfl rfl)
theorem dX1_closeCouple_139 : decode cX1_closeCouple 139 = .ok (.aaload, 1) := dk_50 (dk_at dksX1_closeCouple_6 0 rfl rfl)
theorem dX1_closeCouple_140 : decode cX1_closeCouple 140 = .ok (.getfield 220, 3) := dk_180 0 220 (dk_at dksX1_closeCouple_6 1 rfl rfl)
theorem dX1_closeCouple_143 : decode cX1_closeCouple 143 = .ok (.iload 6, 2) := dk_21 6 (dk_at dksX1_closeCouple_6 4 rfl rfl)
theorem dX1_closeCouple_145 : decode cX1_closeCouple 145 = .ok (.iload 5, 2) := dk_21 5 (dk_at dksX1_closeCouple_6 6 rfl rfl)
theorem dX1_closeCouple_147 : decode cX1_closeCouple 147 = .ok (.isub, 1) := dk_100 (dk_at dksX1_closeCouple_6 8 rfl rfl)
theorem dX1_closeCouple_148 : decode cX1_closeCouple 148 = .ok (.invokevirtual 260, 3) := dk_182 1 4 (dk_at dksX1_closeCouple_6 9 rfl rfl)
theorem dX1_closeCouple_151 : decode cX1_closeCouple 151 = .ok (.pop2, 1) := dk_88 (dk_at dksX1_closeCouple_6 12 rfl rfl)
theorem dX1_closeCouple_152 : decode cX1_closeCouple 152 = .ok (.aload_n 2, 1) := dk_44 (dk_at dksX1_closeCouple_6 13 rfl rfl)
theorem dX1_closeCouple_153 : decode cX1_closeCouple 153 = .ok (.getfield 128, 3) := dk_180 0 128 (dk_at dksX1_closeCouple_6 14 rfl rfl)
theorem dX1_closeCouple_156 : decode cX1_closeCouple 156 = .ok (.iload 4, 2) := dk_21 4 (dk_at dksX1_closeCouple_6 17 rfl rfl)
theorem dX1_closeCouple_158 : decode cX1_closeCouple 158 = .ok (.aload_n 0, 1) := dk_42 (dk_at dksX1_closeCouple_6 19 rfl rfl)
theorem dX1_closeCouple_159 : decode cX1_closeCouple 159 = .ok (.invokevirtual 312, 3) := dk_182 1 56 (dk_at dksX1_closeCouple_6 20 rfl rfl)
theorem dX1_closeCouple_162 : decode cX1_closeCouple 162 = .ok (.invokevirtual 131, 3) := dk_182 0 131 (dk_at dksX1_closeCouple_7 0 rfl rfl)
theorem dX1_closeCouple_165 : decode cX1_closeCouple 165 = .ok (.pop, 1) := dk_87 (dk_at dksX1_closeCouple_7 3 rfl rfl)
theorem dX1_closeCouple_166 : decode cX1_closeCouple 166 = .ok (.return_, 1) := dk_177 (dk_at dksX1_closeCouple_7 4 rfl rfl)
abbrev cX1_isJoint : ByteArray := prog_1_method_41_code
def yX1_isJoint : MethodName := ⟨RX1, "isJoint", "(I)Z"⟩
def dkwX1_isJoint_0 : List UInt8 := [42, 27, 182, 1, 34, 42, 27, 182, 1, 37, 148, 156, 0, 7, 4, 167, 0, 4, 3, 172]
abbrev dktX1_isJoint_0 : List UInt8 := dkwX1_isJoint_0 ++ []
theorem dksX1_isJoint_0 : cX1_isJoint.data.toList.drop 0 = dktX1_isJoint_0 := by decide +kernel
theorem dX1_isJoint_0 : decode cX1_isJoint 0 = .ok (.aload_n 0, 1) := dk_42 (dk_at dksX1_isJoint_0 0 rfl rfl)
theorem dX1_isJoint_1 : decode cX1_isJoint 1 = .ok (.iload_n 1, 1) := dk_27 (dk_at dksX1_isJoint_0 1 rfl rfl)
theorem dX1_isJoint_2 : decode cX1_isJoint 2 = .ok (.invokevirtual 290, 3) := dk_182 1 34 (dk_at dksX1_isJoint_0 2 rfl rfl)
theorem dX1_isJoint_5 : decode cX1_isJoint 5 = .ok (.aload_n 0, 1) := dk_42 (dk_at dksX1_isJoint_0 5 rfl rfl)
theorem dX1_isJoint_6 : decode cX1_isJoint 6 = .ok (.iload_n 1, 1) := dk_27 (dk_at dksX1_isJoint_0 6 rfl rfl)
theorem dX1_isJoint_7 : decode cX1_isJoint 7 = .ok (.invokevirtual 293, 3) := dk_182 1 37 (dk_at dksX1_isJoint_0 7 rfl rfl)
theorem dX1_isJoint_10 : decode cX1_isJoint 10 = .ok (.lcmp, 1) := dk_148 (dk_at dksX1_isJoint_0 10 rfl rfl)
theorem dX1_isJoint_11 : decode cX1_isJoint 11 = .ok (.ifCond .ge 7, 3) := dk_156 0 7 (dk_at dksX1_isJoint_0 11 rfl rfl)
theorem dX1_isJoint_14 : decode cX1_isJoint 14 = .ok (.iconst 1, 1) := dk_4 (dk_at dksX1_isJoint_0 14 rfl rfl)
theorem dX1_isJoint_15 : decode cX1_isJoint 15 = .ok (.goto 4, 3) := dk_167 0 4 (dk_at dksX1_isJoint_0 15 rfl rfl)
theorem dX1_isJoint_18 : decode cX1_isJoint 18 = .ok (.iconst 0, 1) := dk_3 (dk_at dksX1_isJoint_0 18 rfl rfl)
theorem dX1_isJoint_19 : decode cX1_isJoint 19 = .ok (.ireturn, 1) := dk_172 (dk_at dksX1_isJoint_0 19 rfl rfl)
abbrev cX1_years : ByteArray := prog_1_method_52_code
def yX1_years : MethodName := ⟨RX1, "years", "()I"⟩
def dkwX1_years_0 : List UInt8 := [42, 180, 0, 22, 180, 1, 64, 172]
abbrev dktX1_years_0 : List UInt8 := dkwX1_years_0 ++ []
theorem dksX1_years_0 : cX1_years.data.toList.drop 0 = dktX1_years_0 := by decide +kernel
theorem dX1_years_0 : decode cX1_years 0 = .ok (.aload_n 0, 1) := dk_42 (dk_at dksX1_years_0 0 rfl rfl)
theorem dX1_years_1 : decode cX1_years 1 = .ok (.getfield 22, 3) := dk_180 0 22 (dk_at dksX1_years_0 1 rfl rfl)
theorem dX1_years_4 : decode cX1_years 4 = .ok (.getfield 320, 3) := dk_180 1 64 (dk_at dksX1_years_0 4 rfl rfl)
theorem dX1_years_7 : decode cX1_years 7 = .ok (.ireturn, 1) := dk_172 (dk_at dksX1_years_0 7 rfl rfl)
abbrev cX1_averageDependents : ByteArray := prog_1_method_64_code
def yX1_averageDependents : MethodName := ⟨RX1, "averageDependents", "()F"⟩
def dkwX1_averageDependents_1 : List UInt8 := [60, 132, 2, 1, 167, 255, 232, 27, 134, 19, 1, 111, 110, 174]
abbrev dktX1_averageDependents_1 : List UInt8 := dkwX1_averageDependents_1 ++ []
def dkwX1_averageDependents_0 : List UInt8 := [3, 60, 3, 61, 28, 16, 6, 162, 0, 24, 27, 42, 180, 0, 22, 180, 0, 207, 28, 50, 180, 0, 226, 96]
abbrev dktX1_averageDependents_0 : List UInt8 := dkwX1_averageDependents_0 ++ dktX1_averageDependents_1
theorem dksX1_averageDependents_0 : cX1_averageDependents.data.toList.drop 0 = dktX1_averageDependents_0 := by decide +kernel
theorem dksX1_averageDependents_1 : cX1_averageDependents.data.toList.drop 24 = dktX1_averageDependents_1 := dk_seg dksX1_averageDependents_0 24 rfl rfl
theorem dX1_averageDependents_0 : decode cX1_averageDependents 0 = .ok (.iconst 0, 1) := dk_3 (dk_at dksX1_averageDependents_0 0 rfl rfl)
theorem dX1_averageDependents_1 : decode cX1_averageDependents 1 = .ok (.istore_n 1, 1) := dk_60 (dk_at dksX1_averageDependents_0 1 rfl rfl)
theorem dX1_averageDependents_2 : decode cX1_averageDependents 2 = .ok (.iconst 0, 1) := dk_3 (dk_at dksX1_averageDependents_0 2 rfl rfl)
theorem dX1_averageDependents_3 : decode cX1_averageDependents 3 = .ok (.istore_n 2, 1) := dk_61 (dk_at dksX1_averageDependents_0 3 rfl rfl)
theorem dX1_averageDependents_4 : decode cX1_averageDependents 4 = .ok (.iload_n 2, 1) := dk_28 (dk_at dksX1_averageDependents_0 4 rfl rfl)
theorem dX1_averageDependents_5 : decode cX1_averageDependents 5 = .ok (.bipush 6, 2) := dk_16 6 (dk_at dksX1_averageDependents_0 5 rfl rfl)
theorem dX1_averageDependents_7 : decode cX1_averageDependents 7 = .ok (.if_icmp .ge 24, 3) := dk_162 0 24 (dk_at dksX1_averageDependents_0 7 rfl rfl)
theorem dX1_averageDependents_10 : decode cX1_averageDependents 10 = .ok (.iload_n 1, 1) := dk_27 (dk_at dksX1_averageDependents_0 10 rfl rfl)
theorem dX1_averageDependents_11 : decode cX1_averageDependents 11 = .ok (.aload_n 0, 1) := dk_42 (dk_at dksX1_averageDependents_0 11 rfl rfl)
theorem dX1_averageDependents_12 : decode cX1_averageDependents 12 = .ok (.getfield 22, 3) := dk_180 0 22 (dk_at dksX1_averageDependents_0 12 rfl rfl)
theorem dX1_averageDependents_15 : decode cX1_averageDependents 15 = .ok (.getfield 207, 3) := dk_180 0 207 (dk_at dksX1_averageDependents_0 15 rfl rfl)
theorem dX1_averageDependents_18 : decode cX1_averageDependents 18 = .ok (.iload_n 2, 1) := dk_28 (dk_at dksX1_averageDependents_0 18 rfl rfl)
theorem dX1_averageDependents_19 : decode cX1_averageDependents 19 = .ok (.aaload, 1) := dk_50 (dk_at dksX1_averageDependents_0 19 rfl rfl)
theorem dX1_averageDependents_20 : decode cX1_averageDependents 20 = .ok (.getfield 226, 3) := dk_180 0 226 (dk_at dksX1_averageDependents_0 20 rfl rfl)
theorem dX1_averageDependents_23 : decode cX1_averageDependents 23 = .ok (.iadd, 1) := dk_96 (dk_at dksX1_averageDependents_0 23 rfl rfl)
theorem dX1_averageDependents_24 : decode cX1_averageDependents 24 = .ok (.istore_n 1, 1) := dk_60 (dk_at dksX1_averageDependents_1 0 rfl rfl)
theorem dX1_averageDependents_25 : decode cX1_averageDependents 25 = .ok (.iinc 2 1, 3) := dk_132 2 1 (dk_at dksX1_averageDependents_1 1 rfl rfl)
theorem dX1_averageDependents_28 : decode cX1_averageDependents 28 = .ok (.goto (-24), 3) := dk_167 255 232 (dk_at dksX1_averageDependents_1 4 rfl rfl)
theorem dX1_averageDependents_31 : decode cX1_averageDependents 31 = .ok (.iload_n 1, 1) := dk_27 (dk_at dksX1_averageDependents_1 7 rfl rfl)
theorem dX1_averageDependents_32 : decode cX1_averageDependents 32 = .ok (.i2f, 1) := dk_134 (dk_at dksX1_averageDependents_1 8 rfl rfl)
theorem dX1_averageDependents_33 : decode cX1_averageDependents 33 = .ok (.ldc_w 367, 3) := dk_19 1 111 (dk_at dksX1_averageDependents_1 9 rfl rfl)
theorem dX1_averageDependents_36 : decode cX1_averageDependents 36 = .ok (.fdiv, 1) := dk_110 (dk_at dksX1_averageDependents_1 12 rfl rfl)
theorem dX1_averageDependents_37 : decode cX1_averageDependents 37 = .ok (.freturn, 1) := dk_174 (dk_at dksX1_averageDependents_1 13 rfl rfl)
abbrev cX1_save : ByteArray := prog_1_method_66_code
def yX1_save : MethodName := ⟨RX1, "save", "()V"⟩
def dkwX1_save_0 : List UInt8 := [42, 42, 180, 0, 22, 181, 1, 118, 177]
abbrev dktX1_save_0 : List UInt8 := dkwX1_save_0 ++ []
theorem dksX1_save_0 : cX1_save.data.toList.drop 0 = dktX1_save_0 := by decide +kernel
theorem dX1_save_0 : decode cX1_save 0 = .ok (.aload_n 0, 1) := dk_42 (dk_at dksX1_save_0 0 rfl rfl)
theorem dX1_save_1 : decode cX1_save 1 = .ok (.aload_n 0, 1) := dk_42 (dk_at dksX1_save_0 1 rfl rfl)
theorem dX1_save_2 : decode cX1_save 2 = .ok (.getfield 22, 3) := dk_180 0 22 (dk_at dksX1_save_0 2 rfl rfl)
theorem dX1_save_5 : decode cX1_save 5 = .ok (.putfield 374, 3) := dk_181 1 118 (dk_at dksX1_save_0 5 rfl rfl)
theorem dX1_save_8 : decode cX1_save 8 = .ok (.return_, 1) := dk_177 (dk_at dksX1_save_0 8 rfl rfl)
abbrev cX1_appendCharacter : ByteArray := prog_1_method_9_code
def yX1_appendCharacter : MethodName := ⟨RX1, "appendCharacter", "(I)I"⟩
def dkwX1_appendCharacter_2 : List UInt8 := [181, 0, 78, 42, 180, 0, 78, 172]
abbrev dktX1_appendCharacter_2 : List UInt8 := dkwX1_appendCharacter_2 ++ []
def dkwX1_appendCharacter_1 : List UInt8 := [3, 184, 0, 81, 42, 180, 0, 42, 42, 180, 0, 78, 27, 146, 85, 42, 89, 180, 0, 78, 4, 96]
abbrev dktX1_appendCharacter_1 : List UInt8 := dkwX1_appendCharacter_1 ++ dktX1_appendCharacter_2
def dkwX1_appendCharacter_0 : List UInt8 := [27, 16, 33, 16, 126, 184, 0, 70, 184, 0, 74, 42, 180, 0, 78, 16, 80, 162, 0, 7, 4, 167, 0, 4]
abbrev dktX1_appendCharacter_0 : List UInt8 := dkwX1_appendCharacter_0 ++ dktX1_appendCharacter_1
theorem dksX1_appendCharacter_0 : cX1_appendCharacter.data.toList.drop 0 = dktX1_appendCharacter_0 := by decide +kernel
theorem dksX1_appendCharacter_1 : cX1_appendCharacter.data.toList.drop 24 = dktX1_appendCharacter_1 := dk_seg dksX1_appendCharacter_0 24 rfl rfl
theorem dksX1_appendCharacter_2 : cX1_appendCharacter.data.toList.drop 46 = dktX1_appendCharacter_2 := dk_seg dksX1_appendCharacter_1 22 rfl rfl
theorem dX1_appendCharacter_0 : decode cX1_appendCharacter 0 = .ok (.iload_n 1, 1) := dk_27 (dk_at dksX1_appendCharacter_0 0 rfl rfl)
theorem dX1_appendCharacter_1 : decode cX1_appendCharacter 1 = .ok (.bipush 33, 2) := dk_16 33 (dk_at dksX1_appendCharacter_0 1 rfl rfl)
theorem dX1_appendCharacter_3 : decode cX1_appendCharacter 3 = .ok (.bipush 126, 2) := dk_16 126 (dk_at dksX1_appendCharacter_0 3 rfl rfl)
theorem dX1_appendCharacter_5 : decode cX1_appendCharacter 5 = .ok (.invokestatic 70, 3) := dk_184 0 70 (dk_at dksX1_appendCharacter_0 5 rfl rfl)
theorem dX1_appendCharacter_8 : decode cX1_appendCharacter 8 = .ok (.invokestatic 74, 3) := dk_184 0 74 (dk_at dksX1_appendCharacter_0 8 rfl rfl)
theorem dX1_appendCharacter_11 : decode cX1_appendCharacter 11 = .ok (.aload_n 0, 1) := dk_42 (dk_at dksX1_appendCharacter_0 11 rfl rfl)
theorem dX1_appendCharacter_12 : decode cX1_appendCharacter 12 = .ok (.getfield 78, 3) := dk_180 0 78 (dk_at dksX1_appendCharacter_0 12 rfl rfl)
theorem dX1_appendCharacter_15 : decode cX1_appendCharacter 15 = .ok (.bipush 80, 2) := dk_16 80 (dk_at dksX1_appendCharacter_0 15 rfl rfl)
theorem dX1_appendCharacter_17 : decode cX1_appendCharacter 17 = .ok (.if_icmp .ge 7, 3) := dk_162 0 7 (dk_at dksX1_appendCharacter_0 17 rfl rfl)
theorem dX1_appendCharacter_20 : decode cX1_appendCharacter 20 = .ok (.iconst 1, 1) := dk_4 (dk_at dksX1_appendCharacter_0 20 rfl rfl)
theorem dX1_appendCharacter_21 : decode cX1_appendCharacter 21 = .ok (.goto 4, 3) := dk_167 0 4 (dk_at dksX1_appendCharacter_0 21 rfl rfl)
theorem dX1_appendCharacter_24 : decode cX1_appendCharacter 24 = .ok (.iconst 0, 1) := dk_3 (dk_at dksX1_appendCharacter_1 0 rfl rfl)
theorem dX1_appendCharacter_25 : decode cX1_appendCharacter 25 = .ok (.invokestatic 81, 3) := dk_184 0 81 (dk_at dksX1_appendCharacter_1 1 rfl rfl)
theorem dX1_appendCharacter_28 : decode cX1_appendCharacter 28 = .ok (.aload_n 0, 1) := dk_42 (dk_at dksX1_appendCharacter_1 4 rfl rfl)
theorem dX1_appendCharacter_29 : decode cX1_appendCharacter 29 = .ok (.getfield 42, 3) := dk_180 0 42 (dk_at dksX1_appendCharacter_1 5 rfl rfl)
theorem dX1_appendCharacter_32 : decode cX1_appendCharacter 32 = .ok (.aload_n 0, 1) := dk_42 (dk_at dksX1_appendCharacter_1 8 rfl rfl)
theorem dX1_appendCharacter_33 : decode cX1_appendCharacter 33 = .ok (.getfield 78, 3) := dk_180 0 78 (dk_at dksX1_appendCharacter_1 9 rfl rfl)
theorem dX1_appendCharacter_36 : decode cX1_appendCharacter 36 = .ok (.iload_n 1, 1) := dk_27 (dk_at dksX1_appendCharacter_1 12 rfl rfl)
theorem dX1_appendCharacter_37 : decode cX1_appendCharacter 37 = .ok (.i2c, 1) := dk_146 (dk_at dksX1_appendCharacter_1 13 rfl rfl)
theorem dX1_appendCharacter_38 : decode cX1_appendCharacter 38 = .ok (.castore, 1) := dk_85 (dk_at dksX1_appendCharacter_1 14 rfl rfl)
theorem dX1_appendCharacter_39 : decode cX1_appendCharacter 39 = .ok (.aload_n 0, 1) := dk_42 (dk_at dksX1_appendCharacter_1 15 rfl rfl)
theorem dX1_appendCharacter_40 : decode cX1_appendCharacter 40 = .ok (.dup, 1) := dk_89 (dk_at dksX1_appendCharacter_1 16 rfl rfl)
theorem dX1_appendCharacter_41 : decode cX1_appendCharacter 41 = .ok (.getfield 78, 3) := dk_180 0 78 (dk_at dksX1_appendCharacter_1 17 rfl rfl)
theorem dX1_appendCharacter_44 : decode cX1_appendCharacter 44 = .ok (.iconst 1, 1) := dk_4 (dk_at dksX1_appendCharacter_1 20 rfl rfl)
theorem dX1_appendCharacter_45 : decode cX1_appendCharacter 45 = .ok (.iadd, 1) := dk_96 (dk_at dksX1_appendCharacter_1 21 rfl rfl)
theorem dX1_appendCharacter_46 : decode cX1_appendCharacter 46 = .ok (.putfield 78, 3) := dk_181 0 78 (dk_at dksX1_appendCharacter_2 0 rfl rfl)
theorem dX1_appendCharacter_49 : decode cX1_appendCharacter 49 = .ok (.aload_n 0, 1) := dk_42 (dk_at dksX1_appendCharacter_2 3 rfl rfl)
theorem dX1_appendCharacter_50 : decode cX1_appendCharacter 50 = .ok (.getfield 78, 3) := dk_180 0 78 (dk_at dksX1_appendCharacter_2 4 rfl rfl)
theorem dX1_appendCharacter_53 : decode cX1_appendCharacter 53 = .ok (.ireturn, 1) := dk_172 (dk_at dksX1_appendCharacter_2 7 rfl rfl)
abbrev cX1_isBetween : ByteArray := prog_1_method_1_code
def yX1_isBetween : MethodName := ⟨RX1, "isBetween", "(III)Z"⟩
def dkwX1_isBetween_0 : List UInt8 := [26, 27, 161, 0, 12, 26, 28, 163, 0, 7, 4, 167, 0, 4, 3, 172]
abbrev dktX1_isBetween_0 : List UInt8 := dkwX1_isBetween_0 ++ []
theorem dksX1_isBetween_0 : cX1_isBetween.data.toList.drop 0 = dktX1_isBetween_0 := by decide +kernel
theorem dX1_isBetween_0 : decode cX1_isBetween 0 = .ok (.iload_n 0, 1) := dk_26 (dk_at dksX1_isBetween_0 0 rfl rfl)
theorem dX1_isBetween_1 : decode cX1_isBetween 1 = .ok (.iload_n 1, 1) := dk_27 (dk_at dksX1_isBetween_0 1 rfl rfl)
theorem dX1_isBetween_2 : decode cX1_isBetween 2 = .ok (.if_icmp .lt 12, 3) := dk_161 0 12 (dk_at dksX1_isBetween_0 2 rfl rfl)
theorem dX1_isBetween_5 : decode cX1_isBetween 5 = .ok (.iload_n 0, 1) := dk_26 (dk_at dksX1_isBetween_0 5 rfl rfl)
theorem dX1_isBetween_6 : decode cX1_isBetween 6 = .ok (.iload_n 2, 1) := dk_28 (dk_at dksX1_isBetween_0 6 rfl rfl)
theorem dX1_isBetween_7 : decode cX1_isBetween 7 = .ok (.if_icmp .gt 7, 3) := dk_163 0 7 (dk_at dksX1_isBetween_0 7 rfl rfl)
theorem dX1_isBetween_10 : decode cX1_isBetween 10 = .ok (.iconst 1, 1) := dk_4 (dk_at dksX1_isBetween_0 10 rfl rfl)
theorem dX1_isBetween_11 : decode cX1_isBetween 11 = .ok (.goto 4, 3) := dk_167 0 4 (dk_at dksX1_isBetween_0 11 rfl rfl)
theorem dX1_isBetween_14 : decode cX1_isBetween 14 = .ok (.iconst 0, 1) := dk_3 (dk_at dksX1_isBetween_0 14 rfl rfl)
theorem dX1_isBetween_15 : decode cX1_isBetween 15 = .ok (.ireturn, 1) := dk_172 (dk_at dksX1_isBetween_0 15 rfl rfl)
abbrev cX1_requireArgument : ByteArray := prog_1_method_2_code
def yX1_requireArgument : MethodName := ⟨RX1, "requireArgument", "(Z)V"⟩
def dkwX1_requireArgument_0 : List UInt8 := [26, 154, 0, 11, 187, 0, 1, 89, 183, 0, 3, 191, 177]
abbrev dktX1_requireArgument_0 : List UInt8 := dkwX1_requireArgument_0 ++ []
theorem dksX1_requireArgument_0 : cX1_requireArgument.data.toList.drop 0 = dktX1_requireArgument_0 := by decide +kernel
theorem dX1_requireArgument_0 : decode cX1_requireArgument 0 = .ok (.iload_n 0, 1) := dk_26 (dk_at dksX1_requireArgument_0 0 rfl rfl)
theorem dX1_requireArgument_1 : decode cX1_requireArgument 1 = .ok (.ifCond .ne 11, 3) := dk_154 0 11 (dk_at dksX1_requireArgument_0 1 rfl rfl)
theorem dX1_requireArgument_4 : decode cX1_requireArgument 4 = .ok (.new 1, 3) := dk_187 0 1 (dk_at dksX1_requireArgument_0 4 rfl rfl)
theorem dX1_requireArgument_7 : decode cX1_requireArgument 7 = .ok (.dup, 1) := dk_89 (dk_at dksX1_requireArgument_0 7 rfl rfl)
theorem dX1_requireArgument_8 : decode cX1_requireArgument 8 = .ok (.invokespecial 3, 3) := dk_183 0 3 (dk_at dksX1_requireArgument_0 8 rfl rfl)
theorem dX1_requireArgument_11 : decode cX1_requireArgument 11 = .ok (.athrow, 1) := dk_191 (dk_at dksX1_requireArgument_0 11 rfl rfl)
theorem dX1_requireArgument_12 : decode cX1_requireArgument 12 = .ok (.return_, 1) := dk_177 (dk_at dksX1_requireArgument_0 12 rfl rfl)
abbrev cX1_requireState : ByteArray := prog_1_method_3_code
def yX1_requireState : MethodName := ⟨RX1, "requireState", "(Z)V"⟩
def dkwX1_requireState_0 : List UInt8 := [26, 154, 0, 11, 187, 0, 7, 89, 183, 0, 9, 191, 177]
abbrev dktX1_requireState_0 : List UInt8 := dkwX1_requireState_0 ++ []
theorem dksX1_requireState_0 : cX1_requireState.data.toList.drop 0 = dktX1_requireState_0 := by decide +kernel
theorem dX1_requireState_0 : decode cX1_requireState 0 = .ok (.iload_n 0, 1) := dk_26 (dk_at dksX1_requireState_0 0 rfl rfl)
theorem dX1_requireState_1 : decode cX1_requireState 1 = .ok (.ifCond .ne 11, 3) := dk_154 0 11 (dk_at dksX1_requireState_0 1 rfl rfl)
theorem dX1_requireState_4 : decode cX1_requireState 4 = .ok (.new 7, 3) := dk_187 0 7 (dk_at dksX1_requireState_0 4 rfl rfl)
theorem dX1_requireState_7 : decode cX1_requireState 7 = .ok (.dup, 1) := dk_89 (dk_at dksX1_requireState_0 7 rfl rfl)
theorem dX1_requireState_8 : decode cX1_requireState 8 = .ok (.invokespecial 9, 3) := dk_183 0 9 (dk_at dksX1_requireState_0 8 rfl rfl)
theorem dX1_requireState_11 : decode cX1_requireState 11 = .ok (.athrow, 1) := dk_191 (dk_at dksX1_requireState_0 11 rfl rfl)
theorem dX1_requireState_12 : decode cX1_requireState 12 = .ok (.return_, 1) := dk_177 (dk_at dksX1_requireState_0 12 rfl rfl)
abbrev cX1_addRules : ByteArray := prog_1_method_10_code
def yX1_addRules : MethodName := ⟨RX1, "addRules", "()I"⟩
def dkwX1_addRules_3 : List UInt8 := [180, 0, 108, 172]
abbrev dktX1_addRules_3 : List UInt8 := dkwX1_addRules_3 ++ []
def dkwX1_addRules_2 : List UInt8 := [181, 0, 78, 45, 191, 43, 182, 0, 97, 184, 0, 81, 42, 182, 0, 101, 43, 180, 0, 103, 181, 0, 107, 43]
abbrev dktX1_addRules_2 : List UInt8 := dkwX1_addRules_2 ++ dktX1_addRules_3
def dkwX1_addRules_1 : List UInt8 := [167, 0, 28, 77, 42, 44, 180, 0, 94, 181, 0, 46, 187, 0, 1, 89, 183, 0, 3, 191, 78, 42, 3]
abbrev dktX1_addRules_1 : List UInt8 := dkwX1_addRules_1 ++ dktX1_addRules_2
def dkwX1_addRules_0 : List UInt8 := [187, 0, 84, 89, 42, 183, 0, 86, 76, 43, 182, 0, 89, 42, 2, 181, 0, 46, 42, 3, 181, 0, 78]
abbrev dktX1_addRules_0 : List UInt8 := dkwX1_addRules_0 ++ dktX1_addRules_1
theorem dksX1_addRules_0 : cX1_addRules.data.toList.drop 0 = dktX1_addRules_0 := by decide +kernel
theorem dksX1_addRules_1 : cX1_addRules.data.toList.drop 23 = dktX1_addRules_1 := dk_seg dksX1_addRules_0 23 rfl rfl
theorem dksX1_addRules_2 : cX1_addRules.data.toList.drop 46 = dktX1_addRules_2 := dk_seg dksX1_addRules_1 23 rfl rfl
theorem dksX1_addRules_3 : cX1_addRules.data.toList.drop 70 = dktX1_addRules_3 := dk_seg dksX1_addRules_2 24 rfl rfl
theorem dX1_addRules_0 : decode cX1_addRules 0 = .ok (.new 84, 3) := dk_187 0 84 (dk_at dksX1_addRules_0 0 rfl rfl)
theorem dX1_addRules_3 : decode cX1_addRules 3 = .ok (.dup, 1) := dk_89 (dk_at dksX1_addRules_0 3 rfl rfl)
theorem dX1_addRules_4 : decode cX1_addRules 4 = .ok (.aload_n 0, 1) := dk_42 (dk_at dksX1_addRules_0 4 rfl rfl)
theorem dX1_addRules_5 : decode cX1_addRules 5 = .ok (.invokespecial 86, 3) := dk_183 0 86 (dk_at dksX1_addRules_0 5 rfl rfl)
theorem dX1_addRules_8 : decode cX1_addRules 8 = .ok (.astore_n 1, 1) := dk_76 (dk_at dksX1_addRules_0 8 rfl rfl)
theorem dX1_addRules_9 : decode cX1_addRules 9 = .ok (.aload_n 1, 1) := dk_43 (dk_at dksX1_addRules_0 9 rfl rfl)
theorem dX1_addRules_10 : decode cX1_addRules 10 = .ok (.invokevirtual 89, 3) := dk_182 0 89 (dk_at dksX1_addRules_0 10 rfl rfl)
theorem dX1_addRules_13 : decode cX1_addRules 13 = .ok (.aload_n 0, 1) := dk_42 (dk_at dksX1_addRules_0 13 rfl rfl)
theorem dX1_addRules_14 : decode cX1_addRules 14 = .ok (.iconst (-1), 1) := dk_2 (dk_at dksX1_addRules_0 14 rfl rfl)
theorem dX1_addRules_15 : decode cX1_addRules 15 = .ok (.putfield 46, 3) := dk_181 0 46 (dk_at dksX1_addRules_0 15 rfl rfl)
theorem dX1_addRules_18 : decode cX1_addRules 18 = .ok (.aload_n 0, 1) := dk_42 (dk_at dksX1_addRules_0 18 rfl rfl)
theorem dX1_addRules_19 : decode cX1_addRules 19 = .ok (.iconst 0, 1) := dk_3 (dk_at dksX1_addRules_0 19 rfl rfl)
theorem dX1_addRules_20 : decode cX1_addRules 20 = .ok (.putfield 78, 3) := dk_181 0 78 (dk_at dksX1_addRules_0 20 rfl rfl)
theorem dX1_addRules_23 : decode cX1_addRules 23 = .ok (.goto 28, 3) := dk_167 0 28 (dk_at dksX1_addRules_1 0 rfl rfl)
theorem dX1_addRules_26 : decode cX1_addRules 26 = .ok (.astore_n 2, 1) := dk_77 (dk_at dksX1_addRules_1 3 rfl rfl)
theorem dX1_addRules_27 : decode cX1_addRules 27 = .ok (.aload_n 0, 1) := dk_42 (dk_at dksX1_addRules_1 4 rfl rfl)
theorem dX1_addRules_28 : decode cX1_addRules 28 = .ok (.aload_n 2, 1) := dk_44 (dk_at dksX1_addRules_1 5 rfl rfl)
theorem dX1_addRules_29 : decode cX1_addRules 29 = .ok (.getfield 94, 3) := dk_180 0 94 (dk_at dksX1_addRules_1 6 rfl rfl)
theorem dX1_addRules_32 : decode cX1_addRules 32 = .ok (.putfield 46, 3) := dk_181 0 46 (dk_at dksX1_addRules_1 9 rfl rfl)
theorem dX1_addRules_35 : decode cX1_addRules 35 = .ok (.new 1, 3) := dk_187 0 1 (dk_at dksX1_addRules_1 12 rfl rfl)
theorem dX1_addRules_38 : decode cX1_addRules 38 = .ok (.dup, 1) := dk_89 (dk_at dksX1_addRules_1 15 rfl rfl)
theorem dX1_addRules_39 : decode cX1_addRules 39 = .ok (.invokespecial 3, 3) := dk_183 0 3 (dk_at dksX1_addRules_1 16 rfl rfl)
theorem dX1_addRules_42 : decode cX1_addRules 42 = .ok (.athrow, 1) := dk_191 (dk_at dksX1_addRules_1 19 rfl rfl)
theorem dX1_addRules_43 : decode cX1_addRules 43 = .ok (.astore_n 3, 1) := dk_78 (dk_at dksX1_addRules_1 20 rfl rfl)
theorem dX1_addRules_44 : decode cX1_addRules 44 = .ok (.aload_n 0, 1) := dk_42 (dk_at dksX1_addRules_1 21 rfl rfl)
theorem dX1_addRules_45 : decode cX1_addRules 45 = .ok (.iconst 0, 1) := dk_3 (dk_at dksX1_addRules_1 22 rfl rfl)
theorem dX1_addRules_46 : decode cX1_addRules 46 = .ok (.putfield 78, 3) := dk_181 0 78 (dk_at dksX1_addRules_2 0 rfl rfl)
theorem dX1_addRules_49 : decode cX1_addRules 49 = .ok (.aload_n 3, 1) := dk_45 (dk_at dksX1_addRules_2 3 rfl rfl)
theorem dX1_addRules_50 : decode cX1_addRules 50 = .ok (.athrow, 1) := dk_191 (dk_at dksX1_addRules_2 4 rfl rfl)
theorem dX1_addRules_51 : decode cX1_addRules 51 = .ok (.aload_n 1, 1) := dk_43 (dk_at dksX1_addRules_2 5 rfl rfl)
theorem dX1_addRules_52 : decode cX1_addRules 52 = .ok (.invokevirtual 97, 3) := dk_182 0 97 (dk_at dksX1_addRules_2 6 rfl rfl)
theorem dX1_addRules_55 : decode cX1_addRules 55 = .ok (.invokestatic 81, 3) := dk_184 0 81 (dk_at dksX1_addRules_2 9 rfl rfl)
theorem dX1_addRules_58 : decode cX1_addRules 58 = .ok (.aload_n 0, 1) := dk_42 (dk_at dksX1_addRules_2 12 rfl rfl)
theorem dX1_addRules_59 : decode cX1_addRules 59 = .ok (.invokevirtual 101, 3) := dk_182 0 101 (dk_at dksX1_addRules_2 13 rfl rfl)
theorem dX1_addRules_62 : decode cX1_addRules 62 = .ok (.aload_n 1, 1) := dk_43 (dk_at dksX1_addRules_2 16 rfl rfl)
theorem dX1_addRules_63 : decode cX1_addRules 63 = .ok (.getfield 103, 3) := dk_180 0 103 (dk_at dksX1_addRules_2 17 rfl rfl)
theorem dX1_addRules_66 : decode cX1_addRules 66 = .ok (.putfield 107, 3) := dk_181 0 107 (dk_at dksX1_addRules_2 20 rfl rfl)
theorem dX1_addRules_69 : decode cX1_addRules 69 = .ok (.aload_n 1, 1) := dk_43 (dk_at dksX1_addRules_2 23 rfl rfl)
theorem dX1_addRules_70 : decode cX1_addRules 70 = .ok (.getfield 108, 3) := dk_180 0 108 (dk_at dksX1_addRules_3 0 rfl rfl)
theorem dX1_addRules_73 : decode cX1_addRules 73 = .ok (.ireturn, 1) := dk_172 (dk_at dksX1_addRules_3 3 rfl rfl)
abbrev cX1_bracket : ByteArray := prog_1_method_14_code
def yX1_bracket : MethodName := ⟨RX1, "bracket", "(II)I"⟩
def dkwX1_bracket_3 : List UInt8 := [172]
abbrev dktX1_bracket_3 : List UInt8 := dkwX1_bracket_3 ++ []
def dkwX1_bracket_2 : List UInt8 := [185, 0, 145, 2, 0, 192, 0, 149, 78, 28, 154, 0, 10, 45, 180, 0, 151, 167, 0, 7, 45, 180, 0, 154]
abbrev dktX1_bracket_2 : List UInt8 := dkwX1_bracket_2 ++ dktX1_bracket_3
def dkwX1_bracket_1 : List UInt8 := [184, 0, 142, 28, 3, 4, 184, 0, 70, 184, 0, 74, 42, 180, 0, 22, 180, 0, 107, 180, 0, 135, 27]
abbrev dktX1_bracket_1 : List UInt8 := dkwX1_bracket_1 ++ dktX1_bracket_2
def dkwX1_bracket_0 : List UInt8 := [27, 3, 42, 180, 0, 22, 180, 0, 107, 180, 0, 135, 185, 0, 139, 1, 0, 4, 100, 184, 0, 70]
abbrev dktX1_bracket_0 : List UInt8 := dkwX1_bracket_0 ++ dktX1_bracket_1
theorem dksX1_bracket_0 : cX1_bracket.data.toList.drop 0 = dktX1_bracket_0 := by decide +kernel
theorem dksX1_bracket_1 : cX1_bracket.data.toList.drop 22 = dktX1_bracket_1 := dk_seg dksX1_bracket_0 22 rfl rfl
theorem dksX1_bracket_2 : cX1_bracket.data.toList.drop 45 = dktX1_bracket_2 := dk_seg dksX1_bracket_1 23 rfl rfl
theorem dksX1_bracket_3 : cX1_bracket.data.toList.drop 69 = dktX1_bracket_3 := dk_seg dksX1_bracket_2 24 rfl rfl
theorem dX1_bracket_0 : decode cX1_bracket 0 = .ok (.iload_n 1, 1) := dk_27 (dk_at dksX1_bracket_0 0 rfl rfl)
theorem dX1_bracket_1 : decode cX1_bracket 1 = .ok (.iconst 0, 1) := dk_3 (dk_at dksX1_bracket_0 1 rfl rfl)
theorem dX1_bracket_2 : decode cX1_bracket 2 = .ok (.aload_n 0, 1) := dk_42 (dk_at dksX1_bracket_0 2 rfl rfl)
theorem dX1_bracket_3 : decode cX1_bracket 3 = .ok (.getfield 22, 3) := dk_180 0 22 (dk_at dksX1_bracket_0 3 rfl rfl)
theorem dX1_bracket_6 : decode cX1_bracket 6 = .ok (.getfield 107, 3) := dk_180 0 107 (dk_at dksX1_bracket_0 6 rfl rfl)
theorem dX1_bracket_9 : decode cX1_bracket 9 = .ok (.getfield 135, 3) := dk_180 0 135 (dk_at dksX1_bracket_0 9 rfl rfl)
theorem dX1_bracket_12 : decode cX1_bracket 12 = .ok (.invokeinterface 139 1, 5) := by decide +kernel
theorem dX1_bracket_17 : decode cX1_bracket 17 = .ok (.iconst 1, 1) := dk_4 (dk_at dksX1_bracket_0 17 rfl rfl)
theorem dX1_bracket_18 : decode cX1_bracket 18 = .ok (.isub, 1) := dk_100 (dk_at dksX1_bracket_0 18 rfl rfl)
theorem dX1_bracket_19 : decode cX1_bracket 19 = .ok (.invokestatic 70, 3) := dk_184 0 70 (dk_at dksX1_bracket_0 19 rfl rfl)
theorem dX1_bracket_22 : decode cX1_bracket 22 = .ok (.invokestatic 142, 3) := dk_184 0 142 (dk_at dksX1_bracket_1 0 rfl rfl)
theorem dX1_bracket_25 : decode cX1_bracket 25 = .ok (.iload_n 2, 1) := dk_28 (dk_at dksX1_bracket_1 3 rfl rfl)
theorem dX1_bracket_26 : decode cX1_bracket 26 = .ok (.iconst 0, 1) := dk_3 (dk_at dksX1_bracket_1 4 rfl rfl)
theorem dX1_bracket_27 : decode cX1_bracket 27 = .ok (.iconst 1, 1) := dk_4 (dk_at dksX1_bracket_1 5 rfl rfl)
theorem dX1_bracket_28 : decode cX1_bracket 28 = .ok (.invokestatic 70, 3) := dk_184 0 70 (dk_at dksX1_bracket_1 6 rfl rfl)
theorem dX1_bracket_31 : decode cX1_bracket 31 = .ok (.invokestatic 74, 3) := dk_184 0 74 (dk_at dksX1_bracket_1 9 rfl rfl)
theorem dX1_bracket_34 : decode cX1_bracket 34 = .ok (.aload_n 0, 1) := dk_42 (dk_at dksX1_bracket_1 12 rfl rfl)
theorem dX1_bracket_35 : decode cX1_bracket 35 = .ok (.getfield 22, 3) := dk_180 0 22 (dk_at dksX1_bracket_1 13 rfl rfl)
theorem dX1_bracket_38 : decode cX1_bracket 38 = .ok (.getfield 107, 3) := dk_180 0 107 (dk_at dksX1_bracket_1 16 rfl rfl)
theorem dX1_bracket_41 : decode cX1_bracket 41 = .ok (.getfield 135, 3) := dk_180 0 135 (dk_at dksX1_bracket_1 19 rfl rfl)
theorem dX1_bracket_44 : decode cX1_bracket 44 = .ok (.iload_n 1, 1) := dk_27 (dk_at dksX1_bracket_1 22 rfl rfl)
theorem dX1_bracket_45 : decode cX1_bracket 45 = .ok (.invokeinterface 145 2, 5) := by decide +kernel
theorem dX1_bracket_50 : decode cX1_bracket 50 = .ok (.checkcast 149, 3) := dk_192 0 149 (dk_at dksX1_bracket_2 5 rfl rfl)
theorem dX1_bracket_53 : decode cX1_bracket 53 = .ok (.astore_n 3, 1) := dk_78 (dk_at dksX1_bracket_2 8 rfl rfl)
theorem dX1_bracket_54 : decode cX1_bracket 54 = .ok (.iload_n 2, 1) := dk_28 (dk_at dksX1_bracket_2 9 rfl rfl)
theorem dX1_bracket_55 : decode cX1_bracket 55 = .ok (.ifCond .ne 10, 3) := dk_154 0 10 (dk_at dksX1_bracket_2 10 rfl rfl)
theorem dX1_bracket_58 : decode cX1_bracket 58 = .ok (.aload_n 3, 1) := dk_45 (dk_at dksX1_bracket_2 13 rfl rfl)
theorem dX1_bracket_59 : decode cX1_bracket 59 = .ok (.getfield 151, 3) := dk_180 0 151 (dk_at dksX1_bracket_2 14 rfl rfl)
theorem dX1_bracket_62 : decode cX1_bracket 62 = .ok (.goto 7, 3) := dk_167 0 7 (dk_at dksX1_bracket_2 17 rfl rfl)
theorem dX1_bracket_65 : decode cX1_bracket 65 = .ok (.aload_n 3, 1) := dk_45 (dk_at dksX1_bracket_2 20 rfl rfl)
theorem dX1_bracket_66 : decode cX1_bracket 66 = .ok (.getfield 154, 3) := dk_180 0 154 (dk_at dksX1_bracket_2 21 rfl rfl)
theorem dX1_bracket_69 : decode cX1_bracket 69 = .ok (.ireturn, 1) := dk_172 (dk_at dksX1_bracket_3 0 rfl rfl)
abbrev cX1_requireIndex : ByteArray := prog_1_method_4_code
def yX1_requireIndex : MethodName := ⟨RX1, "requireIndex", "(Z)V"⟩
def dkwX1_requireIndex_0 : List UInt8 := [26, 154, 0, 11, 187, 0, 10, 89, 183, 0, 12, 191, 177]
abbrev dktX1_requireIndex_0 : List UInt8 := dkwX1_requireIndex_0 ++ []
theorem dksX1_requireIndex_0 : cX1_requireIndex.data.toList.drop 0 = dktX1_requireIndex_0 := by decide +kernel
theorem dX1_requireIndex_0 : decode cX1_requireIndex 0 = .ok (.iload_n 0, 1) := dk_26 (dk_at dksX1_requireIndex_0 0 rfl rfl)
theorem dX1_requireIndex_1 : decode cX1_requireIndex 1 = .ok (.ifCond .ne 11, 3) := dk_154 0 11 (dk_at dksX1_requireIndex_0 1 rfl rfl)
theorem dX1_requireIndex_4 : decode cX1_requireIndex 4 = .ok (.new 10, 3) := dk_187 0 10 (dk_at dksX1_requireIndex_0 4 rfl rfl)
theorem dX1_requireIndex_7 : decode cX1_requireIndex 7 = .ok (.dup, 1) := dk_89 (dk_at dksX1_requireIndex_0 7 rfl rfl)
theorem dX1_requireIndex_8 : decode cX1_requireIndex 8 = .ok (.invokespecial 12, 3) := dk_183 0 12 (dk_at dksX1_requireIndex_0 8 rfl rfl)
theorem dX1_requireIndex_11 : decode cX1_requireIndex 11 = .ok (.athrow, 1) := dk_191 (dk_at dksX1_requireIndex_0 11 rfl rfl)
theorem dX1_requireIndex_12 : decode cX1_requireIndex 12 = .ok (.return_, 1) := dk_177 (dk_at dksX1_requireIndex_0 12 rfl rfl)
abbrev cX1_allowance : ByteArray := prog_1_method_15_code
def yX1_allowance : MethodName := ⟨RX1, "allowance", "(I)I"⟩
def dkwX1_allowance_1 : List UInt8 := [27, 46, 167, 0, 17, 42, 180, 0, 22, 180, 0, 107, 180, 0, 161, 27, 6, 100, 46, 172]
abbrev dktX1_allowance_1 : List UInt8 := dkwX1_allowance_1 ++ []
def dkwX1_allowance_0 : List UInt8 := [27, 3, 7, 184, 0, 70, 184, 0, 74, 27, 6, 162, 0, 18, 42, 180, 0, 22, 180, 0, 107, 180, 0, 157]
abbrev dktX1_allowance_0 : List UInt8 := dkwX1_allowance_0 ++ dktX1_allowance_1
theorem dksX1_allowance_0 : cX1_allowance.data.toList.drop 0 = dktX1_allowance_0 := by decide +kernel
theorem dksX1_allowance_1 : cX1_allowance.data.toList.drop 24 = dktX1_allowance_1 := dk_seg dksX1_allowance_0 24 rfl rfl
theorem dX1_allowance_0 : decode cX1_allowance 0 = .ok (.iload_n 1, 1) := dk_27 (dk_at dksX1_allowance_0 0 rfl rfl)
theorem dX1_allowance_1 : decode cX1_allowance 1 = .ok (.iconst 0, 1) := dk_3 (dk_at dksX1_allowance_0 1 rfl rfl)
theorem dX1_allowance_2 : decode cX1_allowance 2 = .ok (.iconst 4, 1) := dk_7 (dk_at dksX1_allowance_0 2 rfl rfl)
theorem dX1_allowance_3 : decode cX1_allowance 3 = .ok (.invokestatic 70, 3) := dk_184 0 70 (dk_at dksX1_allowance_0 3 rfl rfl)
theorem dX1_allowance_6 : decode cX1_allowance 6 = .ok (.invokestatic 74, 3) := dk_184 0 74 (dk_at dksX1_allowance_0 6 rfl rfl)
theorem dX1_allowance_9 : decode cX1_allowance 9 = .ok (.iload_n 1, 1) := dk_27 (dk_at dksX1_allowance_0 9 rfl rfl)
theorem dX1_allowance_10 : decode cX1_allowance 10 = .ok (.iconst 3, 1) := dk_6 (dk_at dksX1_allowance_0 10 rfl rfl)
theorem dX1_allowance_11 : decode cX1_allowance 11 = .ok (.if_icmp .ge 18, 3) := dk_162 0 18 (dk_at dksX1_allowance_0 11 rfl rfl)
theorem dX1_allowance_14 : decode cX1_allowance 14 = .ok (.aload_n 0, 1) := dk_42 (dk_at dksX1_allowance_0 14 rfl rfl)
theorem dX1_allowance_15 : decode cX1_allowance 15 = .ok (.getfield 22, 3) := dk_180 0 22 (dk_at dksX1_allowance_0 15 rfl rfl)
theorem dX1_allowance_18 : decode cX1_allowance 18 = .ok (.getfield 107, 3) := dk_180 0 107 (dk_at dksX1_allowance_0 18 rfl rfl)
theorem dX1_allowance_21 : decode cX1_allowance 21 = .ok (.getfield 157, 3) := dk_180 0 157 (dk_at dksX1_allowance_0 21 rfl rfl)
theorem dX1_allowance_24 : decode cX1_allowance 24 = .ok (.iload_n 1, 1) := dk_27 (dk_at dksX1_allowance_1 0 rfl rfl)
theorem dX1_allowance_25 : decode cX1_allowance 25 = .ok (.iaload, 1) := dk_46 (dk_at dksX1_allowance_1 1 rfl rfl)
theorem dX1_allowance_26 : decode cX1_allowance 26 = .ok (.goto 17, 3) := dk_167 0 17 (dk_at dksX1_allowance_1 2 rfl rfl)
theorem dX1_allowance_29 : decode cX1_allowance 29 = .ok (.aload_n 0, 1) := dk_42 (dk_at dksX1_allowance_1 5 rfl rfl)
theorem dX1_allowance_30 : decode cX1_allowance 30 = .ok (.getfield 22, 3) := dk_180 0 22 (dk_at dksX1_allowance_1 6 rfl rfl)
theorem dX1_allowance_33 : decode cX1_allowance 33 = .ok (.getfield 107, 3) := dk_180 0 107 (dk_at dksX1_allowance_1 9 rfl rfl)
theorem dX1_allowance_36 : decode cX1_allowance 36 = .ok (.getfield 161, 3) := dk_180 0 161 (dk_at dksX1_allowance_1 12 rfl rfl)
theorem dX1_allowance_39 : decode cX1_allowance 39 = .ok (.iload_n 1, 1) := dk_27 (dk_at dksX1_allowance_1 15 rfl rfl)
theorem dX1_allowance_40 : decode cX1_allowance 40 = .ok (.iconst 3, 1) := dk_6 (dk_at dksX1_allowance_1 16 rfl rfl)
theorem dX1_allowance_41 : decode cX1_allowance 41 = .ok (.isub, 1) := dk_100 (dk_at dksX1_allowance_1 17 rfl rfl)
theorem dX1_allowance_42 : decode cX1_allowance 42 = .ok (.iaload, 1) := dk_46 (dk_at dksX1_allowance_1 18 rfl rfl)
theorem dX1_allowance_43 : decode cX1_allowance 43 = .ok (.ireturn, 1) := dk_172 (dk_at dksX1_allowance_1 19 rfl rfl)
abbrev cX1_charge : ByteArray := prog_1_method_17_code
def yX1_charge : MethodName := ⟨RX1, "charge", "(II)I"⟩
def dkwX1_charge_2 : List UInt8 := [192, 0, 165, 78, 28, 154, 0, 10, 45, 180, 0, 167, 167, 0, 7, 45, 180, 0, 168, 172]
abbrev dktX1_charge_2 : List UInt8 := dkwX1_charge_2 ++ []
def dkwX1_charge_1 : List UInt8 := [3, 4, 184, 0, 70, 184, 0, 74, 42, 180, 0, 22, 180, 0, 107, 180, 0, 111, 27, 182, 0, 164]
abbrev dktX1_charge_1 : List UInt8 := dkwX1_charge_1 ++ dktX1_charge_2
def dkwX1_charge_0 : List UInt8 := [27, 3, 42, 180, 0, 22, 180, 0, 107, 180, 0, 111, 182, 0, 117, 4, 100, 184, 0, 70, 184, 0, 142, 28]
abbrev dktX1_charge_0 : List UInt8 := dkwX1_charge_0 ++ dktX1_charge_1
theorem dksX1_charge_0 : cX1_charge.data.toList.drop 0 = dktX1_charge_0 := by decide +kernel
theorem dksX1_charge_1 : cX1_charge.data.toList.drop 24 = dktX1_charge_1 := dk_seg dksX1_charge_0 24 rfl rfl
theorem dksX1_charge_2 : cX1_charge.data.toList.drop 46 = dktX1_charge_2 := dk_seg dksX1_charge_1 22 rfl rfl
theorem dX1_charge_0 : decode cX1_charge 0 = .ok (.iload_n 1, 1) := dk_27 (dk_at dksX1_charge_0 0 rfl rfl)
theorem dX1_charge_1 : decode cX1_charge 1 = .ok (.iconst 0, 1) := dk_3 (dk_at dksX1_charge_0 1 rfl rfl)
theorem dX1_charge_2 : decode cX1_charge 2 = .ok (.aload_n 0, 1) := dk_42 (dk_at dksX1_charge_0 2 rfl rfl)
theorem dX1_charge_3 : decode cX1_charge 3 = .ok (.getfield 22, 3) := dk_180 0 22 (dk_at dksX1_charge_0 3 rfl rfl)
theorem dX1_charge_6 : decode cX1_charge 6 = .ok (.getfield 107, 3) := dk_180 0 107 (dk_at dksX1_charge_0 6 rfl rfl)
theorem dX1_charge_9 : decode cX1_charge 9 = .ok (.getfield 111, 3) := dk_180 0 111 (dk_at dksX1_charge_0 9 rfl rfl)
theorem dX1_charge_12 : decode cX1_charge 12 = .ok (.invokevirtual 117, 3) := dk_182 0 117 (dk_at dksX1_charge_0 12 rfl rfl)
theorem dX1_charge_15 : decode cX1_charge 15 = .ok (.iconst 1, 1) := dk_4 (dk_at dksX1_charge_0 15 rfl rfl)
theorem dX1_charge_16 : decode cX1_charge 16 = .ok (.isub, 1) := dk_100 (dk_at dksX1_charge_0 16 rfl rfl)
theorem dX1_charge_17 : decode cX1_charge 17 = .ok (.invokestatic 70, 3) := dk_184 0 70 (dk_at dksX1_charge_0 17 rfl rfl)
theorem dX1_charge_20 : decode cX1_charge 20 = .ok (.invokestatic 142, 3) := dk_184 0 142 (dk_at dksX1_charge_0 20 rfl rfl)
theorem dX1_charge_23 : decode cX1_charge 23 = .ok (.iload_n 2, 1) := dk_28 (dk_at dksX1_charge_0 23 rfl rfl)
theorem dX1_charge_24 : decode cX1_charge 24 = .ok (.iconst 0, 1) := dk_3 (dk_at dksX1_charge_1 0 rfl rfl)
theorem dX1_charge_25 : decode cX1_charge 25 = .ok (.iconst 1, 1) := dk_4 (dk_at dksX1_charge_1 1 rfl rfl)
theorem dX1_charge_26 : decode cX1_charge 26 = .ok (.invokestatic 70, 3) := dk_184 0 70 (dk_at dksX1_charge_1 2 rfl rfl)
theorem dX1_charge_29 : decode cX1_charge 29 = .ok (.invokestatic 74, 3) := dk_184 0 74 (dk_at dksX1_charge_1 5 rfl rfl)
theorem dX1_charge_32 : decode cX1_charge 32 = .ok (.aload_n 0, 1) := dk_42 (dk_at dksX1_charge_1 8 rfl rfl)
theorem dX1_charge_33 : decode cX1_charge 33 = .ok (.getfield 22, 3) := dk_180 0 22 (dk_at dksX1_charge_1 9 rfl rfl)
theorem dX1_charge_36 : decode cX1_charge 36 = .ok (.getfield 107, 3) := dk_180 0 107 (dk_at dksX1_charge_1 12 rfl rfl)
theorem dX1_charge_39 : decode cX1_charge 39 = .ok (.getfield 111, 3) := dk_180 0 111 (dk_at dksX1_charge_1 15 rfl rfl)
theorem dX1_charge_42 : decode cX1_charge 42 = .ok (.iload_n 1, 1) := dk_27 (dk_at dksX1_charge_1 18 rfl rfl)
theorem dX1_charge_43 : decode cX1_charge 43 = .ok (.invokevirtual 164, 3) := dk_182 0 164 (dk_at dksX1_charge_1 19 rfl rfl)
theorem dX1_charge_46 : decode cX1_charge 46 = .ok (.checkcast 165, 3) := dk_192 0 165 (dk_at dksX1_charge_2 0 rfl rfl)
theorem dX1_charge_49 : decode cX1_charge 49 = .ok (.astore_n 3, 1) := dk_78 (dk_at dksX1_charge_2 3 rfl rfl)
theorem dX1_charge_50 : decode cX1_charge 50 = .ok (.iload_n 2, 1) := dk_28 (dk_at dksX1_charge_2 4 rfl rfl)
theorem dX1_charge_51 : decode cX1_charge 51 = .ok (.ifCond .ne 10, 3) := dk_154 0 10 (dk_at dksX1_charge_2 5 rfl rfl)
theorem dX1_charge_54 : decode cX1_charge 54 = .ok (.aload_n 3, 1) := dk_45 (dk_at dksX1_charge_2 8 rfl rfl)
theorem dX1_charge_55 : decode cX1_charge 55 = .ok (.getfield 167, 3) := dk_180 0 167 (dk_at dksX1_charge_2 9 rfl rfl)
theorem dX1_charge_58 : decode cX1_charge 58 = .ok (.goto 7, 3) := dk_167 0 7 (dk_at dksX1_charge_2 12 rfl rfl)
theorem dX1_charge_61 : decode cX1_charge 61 = .ok (.aload_n 3, 1) := dk_45 (dk_at dksX1_charge_2 15 rfl rfl)
theorem dX1_charge_62 : decode cX1_charge 62 = .ok (.getfield 168, 3) := dk_180 0 168 (dk_at dksX1_charge_2 16 rfl rfl)
theorem dX1_charge_65 : decode cX1_charge 65 = .ok (.ireturn, 1) := dk_172 (dk_at dksX1_charge_2 19 rfl rfl)
abbrev cX1_credit : ByteArray := prog_1_method_20_code
def yX1_credit : MethodName := ⟨RX1, "credit", "(II)I"⟩
def dkwX1_credit_1 : List UInt8 := [27, 182, 0, 175, 192, 0, 176, 28, 182, 0, 178, 172]
abbrev dktX1_credit_1 : List UInt8 := dkwX1_credit_1 ++ []
def dkwX1_credit_0 : List UInt8 := [42, 27, 182, 0, 171, 28, 3, 8, 184, 0, 70, 184, 0, 74, 42, 180, 0, 22, 180, 0, 107, 180, 0, 120]
abbrev dktX1_credit_0 : List UInt8 := dkwX1_credit_0 ++ dktX1_credit_1
theorem dksX1_credit_0 : cX1_credit.data.toList.drop 0 = dktX1_credit_0 := by decide +kernel
theorem dksX1_credit_1 : cX1_credit.data.toList.drop 24 = dktX1_credit_1 := dk_seg dksX1_credit_0 24 rfl rfl
theorem dX1_credit_0 : decode cX1_credit 0 = .ok (.aload_n 0, 1) := dk_42 (dk_at dksX1_credit_0 0 rfl rfl)
theorem dX1_credit_1 : decode cX1_credit 1 = .ok (.iload_n 1, 1) := dk_27 (dk_at dksX1_credit_0 1 rfl rfl)
theorem dX1_credit_2 : decode cX1_credit 2 = .ok (.invokevirtual 171, 3) := dk_182 0 171 (dk_at dksX1_credit_0 2 rfl rfl)
theorem dX1_credit_5 : decode cX1_credit 5 = .ok (.iload_n 2, 1) := dk_28 (dk_at dksX1_credit_0 5 rfl rfl)
theorem dX1_credit_6 : decode cX1_credit 6 = .ok (.iconst 0, 1) := dk_3 (dk_at dksX1_credit_0 6 rfl rfl)
theorem dX1_credit_7 : decode cX1_credit 7 = .ok (.iconst 5, 1) := dk_8 (dk_at dksX1_credit_0 7 rfl rfl)
theorem dX1_credit_8 : decode cX1_credit 8 = .ok (.invokestatic 70, 3) := dk_184 0 70 (dk_at dksX1_credit_0 8 rfl rfl)
theorem dX1_credit_11 : decode cX1_credit 11 = .ok (.invokestatic 74, 3) := dk_184 0 74 (dk_at dksX1_credit_0 11 rfl rfl)
theorem dX1_credit_14 : decode cX1_credit 14 = .ok (.aload_n 0, 1) := dk_42 (dk_at dksX1_credit_0 14 rfl rfl)
theorem dX1_credit_15 : decode cX1_credit 15 = .ok (.getfield 22, 3) := dk_180 0 22 (dk_at dksX1_credit_0 15 rfl rfl)
theorem dX1_credit_18 : decode cX1_credit 18 = .ok (.getfield 107, 3) := dk_180 0 107 (dk_at dksX1_credit_0 18 rfl rfl)
theorem dX1_credit_21 : decode cX1_credit 21 = .ok (.getfield 120, 3) := dk_180 0 120 (dk_at dksX1_credit_0 21 rfl rfl)
theorem dX1_credit_24 : decode cX1_credit 24 = .ok (.iload_n 1, 1) := dk_27 (dk_at dksX1_credit_1 0 rfl rfl)
theorem dX1_credit_25 : decode cX1_credit 25 = .ok (.invokevirtual 175, 3) := dk_182 0 175 (dk_at dksX1_credit_1 1 rfl rfl)
theorem dX1_credit_28 : decode cX1_credit 28 = .ok (.checkcast 176, 3) := dk_192 0 176 (dk_at dksX1_credit_1 4 rfl rfl)
theorem dX1_credit_31 : decode cX1_credit 31 = .ok (.iload_n 2, 1) := dk_28 (dk_at dksX1_credit_1 7 rfl rfl)
theorem dX1_credit_32 : decode cX1_credit 32 = .ok (.invokevirtual 178, 3) := dk_182 0 178 (dk_at dksX1_credit_1 8 rfl rfl)
theorem dX1_credit_35 : decode cX1_credit 35 = .ok (.ireturn, 1) := dk_172 (dk_at dksX1_credit_1 11 rfl rfl)
abbrev cX1_requireCredit : ByteArray := prog_1_method_19_code
def yX1_requireCredit : MethodName := ⟨RX1, "requireCredit", "(I)V"⟩
def dkwX1_requireCredit_0 : List UInt8 := [27, 3, 42, 180, 0, 22, 180, 0, 107, 180, 0, 120, 182, 0, 124, 4, 100, 184, 0, 70, 184, 0, 142, 177]
abbrev dktX1_requireCredit_0 : List UInt8 := dkwX1_requireCredit_0 ++ []
theorem dksX1_requireCredit_0 : cX1_requireCredit.data.toList.drop 0 = dktX1_requireCredit_0 := by decide +kernel
theorem dX1_requireCredit_0 : decode cX1_requireCredit 0 = .ok (.iload_n 1, 1) := dk_27 (dk_at dksX1_requireCredit_0 0 rfl rfl)
theorem dX1_requireCredit_1 : decode cX1_requireCredit 1 = .ok (.iconst 0, 1) := dk_3 (dk_at dksX1_requireCredit_0 1 rfl rfl)
theorem dX1_requireCredit_2 : decode cX1_requireCredit 2 = .ok (.aload_n 0, 1) := dk_42 (dk_at dksX1_requireCredit_0 2 rfl rfl)
theorem dX1_requireCredit_3 : decode cX1_requireCredit 3 = .ok (.getfield 22, 3) := dk_180 0 22 (dk_at dksX1_requireCredit_0 3 rfl rfl)
theorem dX1_requireCredit_6 : decode cX1_requireCredit 6 = .ok (.getfield 107, 3) := dk_180 0 107 (dk_at dksX1_requireCredit_0 6 rfl rfl)
theorem dX1_requireCredit_9 : decode cX1_requireCredit 9 = .ok (.getfield 120, 3) := dk_180 0 120 (dk_at dksX1_requireCredit_0 9 rfl rfl)
theorem dX1_requireCredit_12 : decode cX1_requireCredit 12 = .ok (.invokevirtual 124, 3) := dk_182 0 124 (dk_at dksX1_requireCredit_0 12 rfl rfl)
theorem dX1_requireCredit_15 : decode cX1_requireCredit 15 = .ok (.iconst 1, 1) := dk_4 (dk_at dksX1_requireCredit_0 15 rfl rfl)
theorem dX1_requireCredit_16 : decode cX1_requireCredit 16 = .ok (.isub, 1) := dk_100 (dk_at dksX1_requireCredit_0 16 rfl rfl)
theorem dX1_requireCredit_17 : decode cX1_requireCredit 17 = .ok (.invokestatic 70, 3) := dk_184 0 70 (dk_at dksX1_requireCredit_0 17 rfl rfl)
theorem dX1_requireCredit_20 : decode cX1_requireCredit 20 = .ok (.invokestatic 142, 3) := dk_184 0 142 (dk_at dksX1_requireCredit_0 20 rfl rfl)
theorem dX1_requireCredit_23 : decode cX1_requireCredit 23 = .ok (.return_, 1) := dk_177 (dk_at dksX1_requireCredit_0 23 rfl rfl)
abbrev cX1_removeCredit : ByteArray := prog_1_method_21_code
def yX1_removeCredit : MethodName := ⟨RX1, "removeCredit", "(I)I"⟩
def dkwX1_removeCredit_2 : List UInt8 := [185, 0, 191, 1, 0, 44, 27, 182, 0, 194, 44, 180, 0, 107, 180, 0, 120, 182, 0, 124, 172]
abbrev dktX1_removeCredit_2 : List UInt8 := dkwX1_removeCredit_2 ++ []
def dkwX1_removeCredit_1 : List UInt8 := [21, 4, 27, 163, 0, 16, 45, 185, 0, 186, 1, 0, 87, 132, 4, 1, 167, 255, 240, 45]
abbrev dktX1_removeCredit_1 : List UInt8 := dkwX1_removeCredit_1 ++ dktX1_removeCredit_2
def dkwX1_removeCredit_0 : List UInt8 := [42, 27, 182, 0, 171, 42, 182, 0, 101, 77, 44, 180, 0, 107, 180, 0, 120, 182, 0, 182, 78, 3, 54, 4]
abbrev dktX1_removeCredit_0 : List UInt8 := dkwX1_removeCredit_0 ++ dktX1_removeCredit_1
theorem dksX1_removeCredit_0 : cX1_removeCredit.data.toList.drop 0 = dktX1_removeCredit_0 := by decide +kernel
theorem dksX1_removeCredit_1 : cX1_removeCredit.data.toList.drop 24 = dktX1_removeCredit_1 := dk_seg dksX1_removeCredit_0 24 rfl rfl
theorem dksX1_removeCredit_2 : cX1_removeCredit.data.toList.drop 44 = dktX1_removeCredit_2 := dk_seg dksX1_removeCredit_1 20 rfl rfl
theorem dX1_removeCredit_0 : decode cX1_removeCredit 0 = .ok (.aload_n 0, 1) := dk_42 (dk_at dksX1_removeCredit_0 0 rfl rfl)
theorem dX1_removeCredit_1 : decode cX1_removeCredit 1 = .ok (.iload_n 1, 1) := dk_27 (dk_at dksX1_removeCredit_0 1 rfl rfl)
theorem dX1_removeCredit_2 : decode cX1_removeCredit 2 = .ok (.invokevirtual 171, 3) := dk_182 0 171 (dk_at dksX1_removeCredit_0 2 rfl rfl)
theorem dX1_removeCredit_5 : decode cX1_removeCredit 5 = .ok (.aload_n 0, 1) := dk_42 (dk_at dksX1_removeCredit_0 5 rfl rfl)
theorem dX1_removeCredit_6 : decode cX1_removeCredit 6 = .ok (.invokevirtual 101, 3) := dk_182 0 101 (dk_at dksX1_removeCredit_0 6 rfl rfl)
theorem dX1_removeCredit_9 : decode cX1_removeCredit 9 = .ok (.astore_n 2, 1) := dk_77 (dk_at dksX1_removeCredit_0 9 rfl rfl)
theorem dX1_removeCredit_10 : decode cX1_removeCredit 10 = .ok (.aload_n 2, 1) := dk_44 (dk_at dksX1_removeCredit_0 10 rfl rfl)
theorem dX1_removeCredit_11 : decode cX1_removeCredit 11 = .ok (.getfield 107, 3) := dk_180 0 107 (dk_at dksX1_removeCredit_0 11 rfl rfl)
theorem dX1_removeCredit_14 : decode cX1_removeCredit 14 = .ok (.getfield 120, 3) := dk_180 0 120 (dk_at dksX1_removeCredit_0 14 rfl rfl)
theorem dX1_removeCredit_17 : decode cX1_removeCredit 17 = .ok (.invokevirtual 182, 3) := dk_182 0 182 (dk_at dksX1_removeCredit_0 17 rfl rfl)
theorem dX1_removeCredit_20 : decode cX1_removeCredit 20 = .ok (.astore_n 3, 1) := dk_78 (dk_at dksX1_removeCredit_0 20 rfl rfl)
theorem dX1_removeCredit_21 : decode cX1_removeCredit 21 = .ok (.iconst 0, 1) := dk_3 (dk_at dksX1_removeCredit_0 21 rfl rfl)
theorem dX1_removeCredit_22 : decode cX1_removeCredit 22 = .ok (.istore 4, 2) := dk_54 4 (dk_at dksX1_removeCredit_0 22 rfl rfl)
theorem dX1_removeCredit_24 : decode cX1_removeCredit 24 = .ok (.iload 4, 2) := dk_21 4 (dk_at dksX1_removeCredit_1 0 rfl rfl)
theorem dX1_removeCredit_26 : decode cX1_removeCredit 26 = .ok (.iload_n 1, 1) := dk_27 (dk_at dksX1_removeCredit_1 2 rfl rfl)
theorem dX1_removeCredit_27 : decode cX1_removeCredit 27 = .ok (.if_icmp .gt 16, 3) := dk_163 0 16 (dk_at dksX1_removeCredit_1 3 rfl rfl)
theorem dX1_removeCredit_30 : decode cX1_removeCredit 30 = .ok (.aload_n 3, 1) := dk_45 (dk_at dksX1_removeCredit_1 6 rfl rfl)
theorem dX1_removeCredit_31 : decode cX1_removeCredit 31 = .ok (.invokeinterface 186 1, 5) := by decide +kernel
theorem dX1_removeCredit_36 : decode cX1_removeCredit 36 = .ok (.pop, 1) := dk_87 (dk_at dksX1_removeCredit_1 12 rfl rfl)
theorem dX1_removeCredit_37 : decode cX1_removeCredit 37 = .ok (.iinc 4 1, 3) := dk_132 4 1 (dk_at dksX1_removeCredit_1 13 rfl rfl)
theorem dX1_removeCredit_40 : decode cX1_removeCredit 40 = .ok (.goto (-16), 3) := dk_167 255 240 (dk_at dksX1_removeCredit_1 16 rfl rfl)
theorem dX1_removeCredit_43 : decode cX1_removeCredit 43 = .ok (.aload_n 3, 1) := dk_45 (dk_at dksX1_removeCredit_1 19 rfl rfl)
theorem dX1_removeCredit_44 : decode cX1_removeCredit 44 = .ok (.invokeinterface 191 1, 5) := by decide +kernel
theorem dX1_removeCredit_49 : decode cX1_removeCredit 49 = .ok (.aload_n 2, 1) := dk_44 (dk_at dksX1_removeCredit_2 5 rfl rfl)
theorem dX1_removeCredit_50 : decode cX1_removeCredit 50 = .ok (.iload_n 1, 1) := dk_27 (dk_at dksX1_removeCredit_2 6 rfl rfl)
theorem dX1_removeCredit_51 : decode cX1_removeCredit 51 = .ok (.invokevirtual 194, 3) := dk_182 0 194 (dk_at dksX1_removeCredit_2 7 rfl rfl)
theorem dX1_removeCredit_54 : decode cX1_removeCredit 54 = .ok (.aload_n 2, 1) := dk_44 (dk_at dksX1_removeCredit_2 10 rfl rfl)
theorem dX1_removeCredit_55 : decode cX1_removeCredit 55 = .ok (.getfield 107, 3) := dk_180 0 107 (dk_at dksX1_removeCredit_2 11 rfl rfl)
theorem dX1_removeCredit_58 : decode cX1_removeCredit 58 = .ok (.getfield 120, 3) := dk_180 0 120 (dk_at dksX1_removeCredit_2 14 rfl rfl)
theorem dX1_removeCredit_61 : decode cX1_removeCredit 61 = .ok (.invokevirtual 124, 3) := dk_182 0 124 (dk_at dksX1_removeCredit_2 17 rfl rfl)
theorem dX1_removeCredit_64 : decode cX1_removeCredit 64 = .ok (.ireturn, 1) := dk_172 (dk_at dksX1_removeCredit_2 20 rfl rfl)
abbrev cX1_moveCredit : ByteArray := prog_1_method_22_code
def yX1_moveCredit : MethodName := ⟨RX1, "moveCredit", "(II)V"⟩
def dkwX1_moveCredit_1 : List UInt8 := [180, 0, 107, 180, 0, 120, 27, 182, 0, 197, 192, 0, 176, 182, 0, 199, 45, 27, 28, 182, 0, 203, 177]
abbrev dktX1_moveCredit_1 : List UInt8 := dkwX1_moveCredit_1 ++ []
def dkwX1_moveCredit_0 : List UInt8 := [42, 27, 182, 0, 171, 42, 28, 182, 0, 171, 42, 182, 0, 101, 78, 45, 180, 0, 107, 180, 0, 120, 28, 45]
abbrev dktX1_moveCredit_0 : List UInt8 := dkwX1_moveCredit_0 ++ dktX1_moveCredit_1
theorem dksX1_moveCredit_0 : cX1_moveCredit.data.toList.drop 0 = dktX1_moveCredit_0 := by decide +kernel
theorem dksX1_moveCredit_1 : cX1_moveCredit.data.toList.drop 24 = dktX1_moveCredit_1 := dk_seg dksX1_moveCredit_0 24 rfl rfl
theorem dX1_moveCredit_0 : decode cX1_moveCredit 0 = .ok (.aload_n 0, 1) := dk_42 (dk_at dksX1_moveCredit_0 0 rfl rfl)
theorem dX1_moveCredit_1 : decode cX1_moveCredit 1 = .ok (.iload_n 1, 1) := dk_27 (dk_at dksX1_moveCredit_0 1 rfl rfl)
theorem dX1_moveCredit_2 : decode cX1_moveCredit 2 = .ok (.invokevirtual 171, 3) := dk_182 0 171 (dk_at dksX1_moveCredit_0 2 rfl rfl)
theorem dX1_moveCredit_5 : decode cX1_moveCredit 5 = .ok (.aload_n 0, 1) := dk_42 (dk_at dksX1_moveCredit_0 5 rfl rfl)
theorem dX1_moveCredit_6 : decode cX1_moveCredit 6 = .ok (.iload_n 2, 1) := dk_28 (dk_at dksX1_moveCredit_0 6 rfl rfl)
theorem dX1_moveCredit_7 : decode cX1_moveCredit 7 = .ok (.invokevirtual 171, 3) := dk_182 0 171 (dk_at dksX1_moveCredit_0 7 rfl rfl)
theorem dX1_moveCredit_10 : decode cX1_moveCredit 10 = .ok (.aload_n 0, 1) := dk_42 (dk_at dksX1_moveCredit_0 10 rfl rfl)
theorem dX1_moveCredit_11 : decode cX1_moveCredit 11 = .ok (.invokevirtual 101, 3) := dk_182 0 101 (dk_at dksX1_moveCredit_0 11 rfl rfl)
theorem dX1_moveCredit_14 : decode cX1_moveCredit 14 = .ok (.astore_n 3, 1) := dk_78 (dk_at dksX1_moveCredit_0 14 rfl rfl)
theorem dX1_moveCredit_15 : decode cX1_moveCredit 15 = .ok (.aload_n 3, 1) := dk_45 (dk_at dksX1_moveCredit_0 15 rfl rfl)
theorem dX1_moveCredit_16 : decode cX1_moveCredit 16 = .ok (.getfield 107, 3) := dk_180 0 107 (dk_at dksX1_moveCredit_0 16 rfl rfl)
theorem dX1_moveCredit_19 : decode cX1_moveCredit 19 = .ok (.getfield 120, 3) := dk_180 0 120 (dk_at dksX1_moveCredit_0 19 rfl rfl)
theorem dX1_moveCredit_22 : decode cX1_moveCredit 22 = .ok (.iload_n 2, 1) := dk_28 (dk_at dksX1_moveCredit_0 22 rfl rfl)
theorem dX1_moveCredit_23 : decode cX1_moveCredit 23 = .ok (.aload_n 3, 1) := dk_45 (dk_at dksX1_moveCredit_0 23 rfl rfl)
theorem dX1_moveCredit_24 : decode cX1_moveCredit 24 = .ok (.getfield 107, 3) := dk_180 0 107 (dk_at dksX1_moveCredit_1 0 rfl rfl)
theorem dX1_moveCredit_27 : decode cX1_moveCredit 27 = .ok (.getfield 120, 3) := dk_180 0 120 (dk_at dksX1_moveCredit_1 3 rfl rfl)
theorem dX1_moveCredit_30 : decode cX1_moveCredit 30 = .ok (.iload_n 1, 1) := dk_27 (dk_at dksX1_moveCredit_1 6 rfl rfl)
theorem dX1_moveCredit_31 : decode cX1_moveCredit 31 = .ok (.invokevirtual 197, 3) := dk_182 0 197 (dk_at dksX1_moveCredit_1 7 rfl rfl)
theorem dX1_moveCredit_34 : decode cX1_moveCredit 34 = .ok (.checkcast 176, 3) := dk_192 0 176 (dk_at dksX1_moveCredit_1 10 rfl rfl)
theorem dX1_moveCredit_37 : decode cX1_moveCredit 37 = .ok (.invokevirtual 199, 3) := dk_182 0 199 (dk_at dksX1_moveCredit_1 13 rfl rfl)
theorem dX1_moveCredit_40 : decode cX1_moveCredit 40 = .ok (.aload_n 3, 1) := dk_45 (dk_at dksX1_moveCredit_1 16 rfl rfl)
theorem dX1_moveCredit_41 : decode cX1_moveCredit 41 = .ok (.iload_n 1, 1) := dk_27 (dk_at dksX1_moveCredit_1 17 rfl rfl)
theorem dX1_moveCredit_42 : decode cX1_moveCredit 42 = .ok (.iload_n 2, 1) := dk_28 (dk_at dksX1_moveCredit_1 18 rfl rfl)
theorem dX1_moveCredit_43 : decode cX1_moveCredit 43 = .ok (.invokevirtual 203, 3) := dk_182 0 203 (dk_at dksX1_moveCredit_1 19 rfl rfl)
theorem dX1_moveCredit_46 : decode cX1_moveCredit 46 = .ok (.return_, 1) := dk_177 (dk_at dksX1_moveCredit_1 22 rfl rfl)
abbrev cX1_setPerson : ByteArray := prog_1_method_24_code
def yX1_setPerson : MethodName := ⟨RX1, "setPerson", "(IIII)V"⟩
def dkwX1_setPerson_2 : List UInt8 := [184, 0, 74, 42, 182, 0, 101, 180, 0, 207, 27, 187, 0, 215, 89, 28, 29, 21, 4, 183, 0, 217, 83, 177]
abbrev dktX1_setPerson_2 : List UInt8 := dkwX1_setPerson_2 ++ []
def dkwX1_setPerson_1 : List UInt8 := [184, 0, 70, 153, 0, 18, 21, 4, 3, 16, 9, 184, 0, 70, 153, 0, 7, 4, 167, 0, 4, 3]
abbrev dktX1_setPerson_1 : List UInt8 := dkwX1_setPerson_1 ++ dktX1_setPerson_2
def dkwX1_setPerson_0 : List UInt8 := [42, 27, 182, 0, 211, 87, 28, 3, 17, 39, 15, 184, 0, 70, 153, 0, 29, 29, 3, 17, 39, 15]
abbrev dktX1_setPerson_0 : List UInt8 := dkwX1_setPerson_0 ++ dktX1_setPerson_1
theorem dksX1_setPerson_0 : cX1_setPerson.data.toList.drop 0 = dktX1_setPerson_0 := by decide +kernel
theorem dksX1_setPerson_1 : cX1_setPerson.data.toList.drop 22 = dktX1_setPerson_1 := dk_seg dksX1_setPerson_0 22 rfl rfl
theorem dksX1_setPerson_2 : cX1_setPerson.data.toList.drop 44 = dktX1_setPerson_2 := dk_seg dksX1_setPerson_1 22 rfl rfl
theorem dX1_setPerson_0 : decode cX1_setPerson 0 = .ok (.aload_n 0, 1) := dk_42 (dk_at dksX1_setPerson_0 0 rfl rfl)
theorem dX1_setPerson_1 : decode cX1_setPerson 1 = .ok (.iload_n 1, 1) := dk_27 (dk_at dksX1_setPerson_0 1 rfl rfl)
theorem dX1_setPerson_2 : decode cX1_setPerson 2 = .ok (.invokevirtual 211, 3) := dk_182 0 211 (dk_at dksX1_setPerson_0 2 rfl rfl)
theorem dX1_setPerson_5 : decode cX1_setPerson 5 = .ok (.pop, 1) := dk_87 (dk_at dksX1_setPerson_0 5 rfl rfl)
theorem dX1_setPerson_6 : decode cX1_setPerson 6 = .ok (.iload_n 2, 1) := dk_28 (dk_at dksX1_setPerson_0 6 rfl rfl)
theorem dX1_setPerson_7 : decode cX1_setPerson 7 = .ok (.iconst 0, 1) := dk_3 (dk_at dksX1_setPerson_0 7 rfl rfl)
theorem dX1_setPerson_8 : decode cX1_setPerson 8 = .ok (.sipush 9999, 3) := dk_17 39 15 (dk_at dksX1_setPerson_0 8 rfl rfl)
theorem dX1_setPerson_11 : decode cX1_setPerson 11 = .ok (.invokestatic 70, 3) := dk_184 0 70 (dk_at dksX1_setPerson_0 11 rfl rfl)
theorem dX1_setPerson_14 : decode cX1_setPerson 14 = .ok (.ifCond .eq 29, 3) := dk_153 0 29 (dk_at dksX1_setPerson_0 14 rfl rfl)
theorem dX1_setPerson_17 : decode cX1_setPerson 17 = .ok (.iload_n 3, 1) := dk_29 (dk_at dksX1_setPerson_0 17 rfl rfl)
theorem dX1_setPerson_18 : decode cX1_setPerson 18 = .ok (.iconst 0, 1) := dk_3 (dk_at dksX1_setPerson_0 18 rfl rfl)
theorem dX1_setPerson_19 : decode cX1_setPerson 19 = .ok (.sipush 9999, 3) := dk_17 39 15 (dk_at dksX1_setPerson_0 19 rfl rfl)
theorem dX1_setPerson_22 : decode cX1_setPerson 22 = .ok (.invokestatic 70, 3) := dk_184 0 70 (dk_at dksX1_setPerson_1 0 rfl rfl)
theorem dX1_setPerson_25 : decode cX1_setPerson 25 = .ok (.ifCond .eq 18, 3) := dk_153 0 18 (dk_at dksX1_setPerson_1 3 rfl rfl)
theorem dX1_setPerson_28 : decode cX1_setPerson 28 = .ok (.iload 4, 2) := dk_21 4 (dk_at dksX1_setPerson_1 6 rfl rfl)
theorem dX1_setPerson_30 : decode cX1_setPerson 30 = .ok (.iconst 0, 1) := dk_3 (dk_at dksX1_setPerson_1 8 rfl rfl)
theorem dX1_setPerson_31 : decode cX1_setPerson 31 = .ok (.bipush 9, 2) := dk_16 9 (dk_at dksX1_setPerson_1 9 rfl rfl)
theorem dX1_setPerson_33 : decode cX1_setPerson 33 = .ok (.invokestatic 70, 3) := dk_184 0 70 (dk_at dksX1_setPerson_1 11 rfl rfl)
theorem dX1_setPerson_36 : decode cX1_setPerson 36 = .ok (.ifCond .eq 7, 3) := dk_153 0 7 (dk_at dksX1_setPerson_1 14 rfl rfl)
theorem dX1_setPerson_39 : decode cX1_setPerson 39 = .ok (.iconst 1, 1) := dk_4 (dk_at dksX1_setPerson_1 17 rfl rfl)
theorem dX1_setPerson_40 : decode cX1_setPerson 40 = .ok (.goto 4, 3) := dk_167 0 4 (dk_at dksX1_setPerson_1 18 rfl rfl)
theorem dX1_setPerson_43 : decode cX1_setPerson 43 = .ok (.iconst 0, 1) := dk_3 (dk_at dksX1_setPerson_1 21 rfl rfl)
theorem dX1_setPerson_44 : decode cX1_setPerson 44 = .ok (.invokestatic 74, 3) := dk_184 0 74 (dk_at dksX1_setPerson_2 0 rfl rfl)
theorem dX1_setPerson_47 : decode cX1_setPerson 47 = .ok (.aload_n 0, 1) := dk_42 (dk_at dksX1_setPerson_2 3 rfl rfl)
theorem dX1_setPerson_48 : decode cX1_setPerson 48 = .ok (.invokevirtual 101, 3) := dk_182 0 101 (dk_at dksX1_setPerson_2 4 rfl rfl)
theorem dX1_setPerson_51 : decode cX1_setPerson 51 = .ok (.getfield 207, 3) := dk_180 0 207 (dk_at dksX1_setPerson_2 7 rfl rfl)
theorem dX1_setPerson_54 : decode cX1_setPerson 54 = .ok (.iload_n 1, 1) := dk_27 (dk_at dksX1_setPerson_2 10 rfl rfl)
theorem dX1_setPerson_55 : decode cX1_setPerson 55 = .ok (.new 215, 3) := dk_187 0 215 (dk_at dksX1_setPerson_2 11 rfl rfl)
theorem dX1_setPerson_58 : decode cX1_setPerson 58 = .ok (.dup, 1) := dk_89 (dk_at dksX1_setPerson_2 14 rfl rfl)
theorem dX1_setPerson_59 : decode cX1_setPerson 59 = .ok (.iload_n 2, 1) := dk_28 (dk_at dksX1_setPerson_2 15 rfl rfl)
theorem dX1_setPerson_60 : decode cX1_setPerson 60 = .ok (.iload_n 3, 1) := dk_29 (dk_at dksX1_setPerson_2 16 rfl rfl)
theorem dX1_setPerson_61 : decode cX1_setPerson 61 = .ok (.iload 4, 2) := dk_21 4 (dk_at dksX1_setPerson_2 17 rfl rfl)
theorem dX1_setPerson_63 : decode cX1_setPerson 63 = .ok (.invokespecial 217, 3) := dk_183 0 217 (dk_at dksX1_setPerson_2 19 rfl rfl)
theorem dX1_setPerson_66 : decode cX1_setPerson 66 = .ok (.aastore, 1) := dk_83 (dk_at dksX1_setPerson_2 22 rfl rfl)
theorem dX1_setPerson_67 : decode cX1_setPerson 67 = .ok (.return_, 1) := dk_177 (dk_at dksX1_setPerson_2 23 rfl rfl)
abbrev cX1_person : ByteArray := prog_1_method_23_code
def yX1_person : MethodName := ⟨RX1, "person", "(I)LTaxWorkbench$Person;"⟩
def dkwX1_person_0 : List UInt8 := [27, 3, 8, 184, 0, 70, 184, 0, 142, 42, 180, 0, 22, 180, 0, 207, 27, 50, 176]
abbrev dktX1_person_0 : List UInt8 := dkwX1_person_0 ++ []
theorem dksX1_person_0 : cX1_person.data.toList.drop 0 = dktX1_person_0 := by decide +kernel
theorem dX1_person_0 : decode cX1_person 0 = .ok (.iload_n 1, 1) := dk_27 (dk_at dksX1_person_0 0 rfl rfl)
theorem dX1_person_1 : decode cX1_person 1 = .ok (.iconst 0, 1) := dk_3 (dk_at dksX1_person_0 1 rfl rfl)
theorem dX1_person_2 : decode cX1_person 2 = .ok (.iconst 5, 1) := dk_8 (dk_at dksX1_person_0 2 rfl rfl)
theorem dX1_person_3 : decode cX1_person 3 = .ok (.invokestatic 70, 3) := dk_184 0 70 (dk_at dksX1_person_0 3 rfl rfl)
theorem dX1_person_6 : decode cX1_person 6 = .ok (.invokestatic 142, 3) := dk_184 0 142 (dk_at dksX1_person_0 6 rfl rfl)
theorem dX1_person_9 : decode cX1_person 9 = .ok (.aload_n 0, 1) := dk_42 (dk_at dksX1_person_0 9 rfl rfl)
theorem dX1_person_10 : decode cX1_person 10 = .ok (.getfield 22, 3) := dk_180 0 22 (dk_at dksX1_person_0 10 rfl rfl)
theorem dX1_person_13 : decode cX1_person 13 = .ok (.getfield 207, 3) := dk_180 0 207 (dk_at dksX1_person_0 13 rfl rfl)
theorem dX1_person_16 : decode cX1_person 16 = .ok (.iload_n 1, 1) := dk_27 (dk_at dksX1_person_0 16 rfl rfl)
theorem dX1_person_17 : decode cX1_person 17 = .ok (.aaload, 1) := dk_50 (dk_at dksX1_person_0 17 rfl rfl)
theorem dX1_person_18 : decode cX1_person 18 = .ok (.areturn, 1) := dk_176 (dk_at dksX1_person_0 18 rfl rfl)
abbrev cX1_personData : ByteArray := prog_1_method_25_code
def yX1_personData : MethodName := ⟨RX1, "personData", "(II)I"⟩
def dkwX1_personData_1 : List UInt8 := [167, 0, 19, 28, 4, 160, 0, 10, 45, 180, 0, 223, 167, 0, 7, 45, 180, 0, 226, 172]
abbrev dktX1_personData_1 : List UInt8 := dkwX1_personData_1 ++ []
def dkwX1_personData_0 : List UInt8 := [42, 27, 182, 0, 211, 78, 28, 3, 5, 184, 0, 70, 184, 0, 74, 28, 154, 0, 10, 45, 180, 0, 220]
abbrev dktX1_personData_0 : List UInt8 := dkwX1_personData_0 ++ dktX1_personData_1
theorem dksX1_personData_0 : cX1_personData.data.toList.drop 0 = dktX1_personData_0 := by decide +kernel
theorem dksX1_personData_1 : cX1_personData.data.toList.drop 23 = dktX1_personData_1 := dk_seg dksX1_personData_0 23 rfl rfl
theorem dX1_personData_0 : decode cX1_personData 0 = .ok (.aload_n 0, 1) := dk_42 (dk_at dksX1_personData_0 0 rfl rfl)
theorem dX1_personData_1 : decode cX1_personData 1 = .ok (.iload_n 1, 1) := dk_27 (dk_at dksX1_personData_0 1 rfl rfl)
theorem dX1_personData_2 : decode cX1_personData 2 = .ok (.invokevirtual 211, 3) := dk_182 0 211 (dk_at dksX1_personData_0 2 rfl rfl)
theorem dX1_personData_5 : decode cX1_personData 5 = .ok (.astore_n 3, 1) := dk_78 (dk_at dksX1_personData_0 5 rfl rfl)
theorem dX1_personData_6 : decode cX1_personData 6 = .ok (.iload_n 2, 1) := dk_28 (dk_at dksX1_personData_0 6 rfl rfl)
theorem dX1_personData_7 : decode cX1_personData 7 = .ok (.iconst 0, 1) := dk_3 (dk_at dksX1_personData_0 7 rfl rfl)
theorem dX1_personData_8 : decode cX1_personData 8 = .ok (.iconst 2, 1) := dk_5 (dk_at dksX1_personData_0 8 rfl rfl)
theorem dX1_personData_9 : decode cX1_personData 9 = .ok (.invokestatic 70, 3) := dk_184 0 70 (dk_at dksX1_personData_0 9 rfl rfl)
theorem dX1_personData_12 : decode cX1_personData 12 = .ok (.invokestatic 74, 3) := dk_184 0 74 (dk_at dksX1_personData_0 12 rfl rfl)
theorem dX1_personData_15 : decode cX1_personData 15 = .ok (.iload_n 2, 1) := dk_28 (dk_at dksX1_personData_0 15 rfl rfl)
theorem dX1_personData_16 : decode cX1_personData 16 = .ok (.ifCond .ne 10, 3) := dk_154 0 10 (dk_at dksX1_personData_0 16 rfl rfl)
theorem dX1_personData_19 : decode cX1_personData 19 = .ok (.aload_n 3, 1) := dk_45 (dk_at dksX1_personData_0 19 rfl rfl)
theorem dX1_personData_20 : decode cX1_personData 20 = .ok (.getfield 220, 3) := dk_180 0 220 (dk_at dksX1_personData_0 20 rfl rfl)
theorem dX1_personData_23 : decode cX1_personData 23 = .ok (.goto 19, 3) := dk_167 0 19 (dk_at dksX1_personData_1 0 rfl rfl)
theorem dX1_personData_26 : decode cX1_personData 26 = .ok (.iload_n 2, 1) := dk_28 (dk_at dksX1_personData_1 3 rfl rfl)
theorem dX1_personData_27 : decode cX1_personData 27 = .ok (.iconst 1, 1) := dk_4 (dk_at dksX1_personData_1 4 rfl rfl)
theorem dX1_personData_28 : decode cX1_personData 28 = .ok (.if_icmp .ne 10, 3) := dk_160 0 10 (dk_at dksX1_personData_1 5 rfl rfl)
theorem dX1_personData_31 : decode cX1_personData 31 = .ok (.aload_n 3, 1) := dk_45 (dk_at dksX1_personData_1 8 rfl rfl)
theorem dX1_personData_32 : decode cX1_personData 32 = .ok (.getfield 223, 3) := dk_180 0 223 (dk_at dksX1_personData_1 9 rfl rfl)
theorem dX1_personData_35 : decode cX1_personData 35 = .ok (.goto 7, 3) := dk_167 0 7 (dk_at dksX1_personData_1 12 rfl rfl)
theorem dX1_personData_38 : decode cX1_personData 38 = .ok (.aload_n 3, 1) := dk_45 (dk_at dksX1_personData_1 15 rfl rfl)
theorem dX1_personData_39 : decode cX1_personData 39 = .ok (.getfield 226, 3) := dk_180 0 226 (dk_at dksX1_personData_1 16 rfl rfl)
theorem dX1_personData_42 : decode cX1_personData 42 = .ok (.ireturn, 1) := dk_172 (dk_at dksX1_personData_1 19 rfl rfl)
abbrev cX1_marry : ByteArray := prog_1_method_26_code
def yX1_marry : MethodName := ⟨RX1, "marry", "(II)V"⟩
def dkwX1_marry_3 : List UInt8 := [79, 45, 180, 0, 229, 28, 27, 79, 177]
abbrev dktX1_marry_3 : List UInt8 := dkwX1_marry_3 ++ []
def dkwX1_marry_2 : List UInt8 := [46, 2, 160, 0, 7, 4, 167, 0, 4, 3, 184, 0, 81, 42, 182, 0, 101, 78, 45, 180, 0, 229, 27, 28]
abbrev dktX1_marry_2 : List UInt8 := dkwX1_marry_2 ++ dktX1_marry_3
def dkwX1_marry_1 : List UInt8 := [184, 0, 74, 42, 180, 0, 22, 180, 0, 229, 27, 46, 2, 160, 0, 20, 42, 180, 0, 22, 180, 0, 229, 28]
abbrev dktX1_marry_1 : List UInt8 := dkwX1_marry_1 ++ dktX1_marry_2
def dkwX1_marry_0 : List UInt8 := [42, 27, 182, 0, 211, 87, 42, 28, 182, 0, 211, 87, 27, 28, 159, 0, 7, 4, 167, 0, 4, 3]
abbrev dktX1_marry_0 : List UInt8 := dkwX1_marry_0 ++ dktX1_marry_1
theorem dksX1_marry_0 : cX1_marry.data.toList.drop 0 = dktX1_marry_0 := by decide +kernel
theorem dksX1_marry_1 : cX1_marry.data.toList.drop 22 = dktX1_marry_1 := dk_seg dksX1_marry_0 22 rfl rfl
theorem dksX1_marry_2 : cX1_marry.data.toList.drop 46 = dktX1_marry_2 := dk_seg dksX1_marry_1 24 rfl rfl
theorem dksX1_marry_3 : cX1_marry.data.toList.drop 70 = dktX1_marry_3 := dk_seg dksX1_marry_2 24 rfl rfl
theorem dX1_marry_0 : decode cX1_marry 0 = .ok (.aload_n 0, 1) := dk_42 (dk_at dksX1_marry_0 0 rfl rfl)
theorem dX1_marry_1 : decode cX1_marry 1 = .ok (.iload_n 1, 1) := dk_27 (dk_at dksX1_marry_0 1 rfl rfl)
theorem dX1_marry_2 : decode cX1_marry 2 = .ok (.invokevirtual 211, 3) := dk_182 0 211 (dk_at dksX1_marry_0 2 rfl rfl)
theorem dX1_marry_5 : decode cX1_marry 5 = .ok (.pop, 1) := dk_87 (dk_at dksX1_marry_0 5 rfl rfl)
theorem dX1_marry_6 : decode cX1_marry 6 = .ok (.aload_n 0, 1) := dk_42 (dk_at dksX1_marry_0 6 rfl rfl)
theorem dX1_marry_7 : decode cX1_marry 7 = .ok (.iload_n 2, 1) := dk_28 (dk_at dksX1_marry_0 7 rfl rfl)
theorem dX1_marry_8 : decode cX1_marry 8 = .ok (.invokevirtual 211, 3) := dk_182 0 211 (dk_at dksX1_marry_0 8 rfl rfl)
theorem dX1_marry_11 : decode cX1_marry 11 = .ok (.pop, 1) := dk_87 (dk_at dksX1_marry_0 11 rfl rfl)
theorem dX1_marry_12 : decode cX1_marry 12 = .ok (.iload_n 1, 1) := dk_27 (dk_at dksX1_marry_0 12 rfl rfl)
theorem dX1_marry_13 : decode cX1_marry 13 = .ok (.iload_n 2, 1) := dk_28 (dk_at dksX1_marry_0 13 rfl rfl)
theorem dX1_marry_14 : decode cX1_marry 14 = .ok (.if_icmp .eq 7, 3) := dk_159 0 7 (dk_at dksX1_marry_0 14 rfl rfl)
theorem dX1_marry_17 : decode cX1_marry 17 = .ok (.iconst 1, 1) := dk_4 (dk_at dksX1_marry_0 17 rfl rfl)
theorem dX1_marry_18 : decode cX1_marry 18 = .ok (.goto 4, 3) := dk_167 0 4 (dk_at dksX1_marry_0 18 rfl rfl)
theorem dX1_marry_21 : decode cX1_marry 21 = .ok (.iconst 0, 1) := dk_3 (dk_at dksX1_marry_0 21 rfl rfl)
theorem dX1_marry_22 : decode cX1_marry 22 = .ok (.invokestatic 74, 3) := dk_184 0 74 (dk_at dksX1_marry_1 0 rfl rfl)
theorem dX1_marry_25 : decode cX1_marry 25 = .ok (.aload_n 0, 1) := dk_42 (dk_at dksX1_marry_1 3 rfl rfl)
theorem dX1_marry_26 : decode cX1_marry 26 = .ok (.getfield 22, 3) := dk_180 0 22 (dk_at dksX1_marry_1 4 rfl rfl)
theorem dX1_marry_29 : decode cX1_marry 29 = .ok (.getfield 229, 3) := dk_180 0 229 (dk_at dksX1_marry_1 7 rfl rfl)
theorem dX1_marry_32 : decode cX1_marry 32 = .ok (.iload_n 1, 1) := dk_27 (dk_at dksX1_marry_1 10 rfl rfl)
theorem dX1_marry_33 : decode cX1_marry 33 = .ok (.iaload, 1) := dk_46 (dk_at dksX1_marry_1 11 rfl rfl)
theorem dX1_marry_34 : decode cX1_marry 34 = .ok (.iconst (-1), 1) := dk_2 (dk_at dksX1_marry_1 12 rfl rfl)
theorem dX1_marry_35 : decode cX1_marry 35 = .ok (.if_icmp .ne 20, 3) := dk_160 0 20 (dk_at dksX1_marry_1 13 rfl rfl)
theorem dX1_marry_38 : decode cX1_marry 38 = .ok (.aload_n 0, 1) := dk_42 (dk_at dksX1_marry_1 16 rfl rfl)
theorem dX1_marry_39 : decode cX1_marry 39 = .ok (.getfield 22, 3) := dk_180 0 22 (dk_at dksX1_marry_1 17 rfl rfl)
theorem dX1_marry_42 : decode cX1_marry 42 = .ok (.getfield 229, 3) := dk_180 0 229 (dk_at dksX1_marry_1 20 rfl rfl)
theorem dX1_marry_45 : decode cX1_marry 45 = .ok (.iload_n 2, 1) := dk_28 (dk_at dksX1_marry_1 23 rfl rfl)
theorem dX1_marry_46 : decode cX1_marry 46 = .ok (.iaload, 1) := dk_46 (dk_at dksX1_marry_2 0 rfl rfl)
theorem dX1_marry_47 : decode cX1_marry 47 = .ok (.iconst (-1), 1) := dk_2 (dk_at dksX1_marry_2 1 rfl rfl)
theorem dX1_marry_48 : decode cX1_marry 48 = .ok (.if_icmp .ne 7, 3) := dk_160 0 7 (dk_at dksX1_marry_2 2 rfl rfl)
theorem dX1_marry_51 : decode cX1_marry 51 = .ok (.iconst 1, 1) := dk_4 (dk_at dksX1_marry_2 5 rfl rfl)
theorem dX1_marry_52 : decode cX1_marry 52 = .ok (.goto 4, 3) := dk_167 0 4 (dk_at dksX1_marry_2 6 rfl rfl)
theorem dX1_marry_55 : decode cX1_marry 55 = .ok (.iconst 0, 1) := dk_3 (dk_at dksX1_marry_2 9 rfl rfl)
theorem dX1_marry_56 : decode cX1_marry 56 = .ok (.invokestatic 81, 3) := dk_184 0 81 (dk_at dksX1_marry_2 10 rfl rfl)
theorem dX1_marry_59 : decode cX1_marry 59 = .ok (.aload_n 0, 1) := dk_42 (dk_at dksX1_marry_2 13 rfl rfl)
theorem dX1_marry_60 : decode cX1_marry 60 = .ok (.invokevirtual 101, 3) := dk_182 0 101 (dk_at dksX1_marry_2 14 rfl rfl)
theorem dX1_marry_63 : decode cX1_marry 63 = .ok (.astore_n 3, 1) := dk_78 (dk_at dksX1_marry_2 17 rfl rfl)
theorem dX1_marry_64 : decode cX1_marry 64 = .ok (.aload_n 3, 1) := dk_45 (dk_at dksX1_marry_2 18 rfl rfl)
theorem dX1_marry_65 : decode cX1_marry 65 = .ok (.getfield 229, 3) := dk_180 0 229 (dk_at dksX1_marry_2 19 rfl rfl)
theorem dX1_marry_68 : decode cX1_marry 68 = .ok (.iload_n 1, 1) := dk_27 (dk_at dksX1_marry_2 22 rfl rfl)
theorem dX1_marry_69 : decode cX1_marry 69 = .ok (.iload_n 2, 1) := dk_28 (dk_at dksX1_marry_2 23 rfl rfl)
theorem dX1_marry_70 : decode cX1_marry 70 = .ok (.iastore, 1) := dk_79 (dk_at dksX1_marry_3 0 rfl rfl)
theorem dX1_marry_71 : decode cX1_marry 71 = .ok (.aload_n 3, 1) := dk_45 (dk_at dksX1_marry_3 1 rfl rfl)
theorem dX1_marry_72 : decode cX1_marry 72 = .ok (.getfield 229, 3) := dk_180 0 229 (dk_at dksX1_marry_3 2 rfl rfl)
theorem dX1_marry_75 : decode cX1_marry 75 = .ok (.iload_n 2, 1) := dk_28 (dk_at dksX1_marry_3 5 rfl rfl)
theorem dX1_marry_76 : decode cX1_marry 76 = .ok (.iload_n 1, 1) := dk_27 (dk_at dksX1_marry_3 6 rfl rfl)
theorem dX1_marry_77 : decode cX1_marry 77 = .ok (.iastore, 1) := dk_79 (dk_at dksX1_marry_3 7 rfl rfl)
theorem dX1_marry_78 : decode cX1_marry 78 = .ok (.return_, 1) := dk_177 (dk_at dksX1_marry_3 8 rfl rfl)
abbrev cX1_part : ByteArray := prog_1_method_28_code
def yX1_part : MethodName := ⟨RX1, "part", "(I)I"⟩
def dkwX1_part_1 : List UInt8 := [79, 28, 172]
abbrev dktX1_part_1 : List UInt8 := dkwX1_part_1 ++ []
def dkwX1_part_0 : List UInt8 := [42, 27, 182, 0, 235, 61, 42, 182, 0, 101, 78, 45, 180, 0, 229, 27, 2, 79, 45, 180, 0, 229, 28, 2]
abbrev dktX1_part_0 : List UInt8 := dkwX1_part_0 ++ dktX1_part_1
theorem dksX1_part_0 : cX1_part.data.toList.drop 0 = dktX1_part_0 := by decide +kernel
theorem dksX1_part_1 : cX1_part.data.toList.drop 24 = dktX1_part_1 := dk_seg dksX1_part_0 24 rfl rfl
theorem dX1_part_0 : decode cX1_part 0 = .ok (.aload_n 0, 1) := dk_42 (dk_at dksX1_part_0 0 rfl rfl)
theorem dX1_part_1 : decode cX1_part 1 = .ok (.iload_n 1, 1) := dk_27 (dk_at dksX1_part_0 1 rfl rfl)
theorem dX1_part_2 : decode cX1_part 2 = .ok (.invokevirtual 235, 3) := dk_182 0 235 (dk_at dksX1_part_0 2 rfl rfl)
theorem dX1_part_5 : decode cX1_part 5 = .ok (.istore_n 2, 1) := dk_61 (dk_at dksX1_part_0 5 rfl rfl)
theorem dX1_part_6 : decode cX1_part 6 = .ok (.aload_n 0, 1) := dk_42 (dk_at dksX1_part_0 6 rfl rfl)
theorem dX1_part_7 : decode cX1_part 7 = .ok (.invokevirtual 101, 3) := dk_182 0 101 (dk_at dksX1_part_0 7 rfl rfl)
theorem dX1_part_10 : decode cX1_part 10 = .ok (.astore_n 3, 1) := dk_78 (dk_at dksX1_part_0 10 rfl rfl)
theorem dX1_part_11 : decode cX1_part 11 = .ok (.aload_n 3, 1) := dk_45 (dk_at dksX1_part_0 11 rfl rfl)
theorem dX1_part_12 : decode cX1_part 12 = .ok (.getfield 229, 3) := dk_180 0 229 (dk_at dksX1_part_0 12 rfl rfl)
theorem dX1_part_15 : decode cX1_part 15 = .ok (.iload_n 1, 1) := dk_27 (dk_at dksX1_part_0 15 rfl rfl)
theorem dX1_part_16 : decode cX1_part 16 = .ok (.iconst (-1), 1) := dk_2 (dk_at dksX1_part_0 16 rfl rfl)
theorem dX1_part_17 : decode cX1_part 17 = .ok (.iastore, 1) := dk_79 (dk_at dksX1_part_0 17 rfl rfl)
theorem dX1_part_18 : decode cX1_part 18 = .ok (.aload_n 3, 1) := dk_45 (dk_at dksX1_part_0 18 rfl rfl)
theorem dX1_part_19 : decode cX1_part 19 = .ok (.getfield 229, 3) := dk_180 0 229 (dk_at dksX1_part_0 19 rfl rfl)
theorem dX1_part_22 : decode cX1_part 22 = .ok (.iload_n 2, 1) := dk_28 (dk_at dksX1_part_0 22 rfl rfl)
theorem dX1_part_23 : decode cX1_part 23 = .ok (.iconst (-1), 1) := dk_2 (dk_at dksX1_part_0 23 rfl rfl)
theorem dX1_part_24 : decode cX1_part 24 = .ok (.iastore, 1) := dk_79 (dk_at dksX1_part_1 0 rfl rfl)
theorem dX1_part_25 : decode cX1_part 25 = .ok (.iload_n 2, 1) := dk_28 (dk_at dksX1_part_1 1 rfl rfl)
theorem dX1_part_26 : decode cX1_part 26 = .ok (.ireturn, 1) := dk_172 (dk_at dksX1_part_1 2 rfl rfl)
abbrev cX1_requirePartner : ByteArray := prog_1_method_27_code
def yX1_requirePartner : MethodName := ⟨RX1, "requirePartner", "(I)I"⟩
def dkwX1_requirePartner_1 : List UInt8 := [184, 0, 232, 42, 180, 0, 22, 180, 0, 229, 27, 46, 172]
abbrev dktX1_requirePartner_1 : List UInt8 := dkwX1_requirePartner_1 ++ []
def dkwX1_requirePartner_0 : List UInt8 := [42, 27, 182, 0, 211, 87, 42, 180, 0, 22, 180, 0, 229, 27, 46, 2, 159, 0, 7, 4, 167, 0, 4, 3]
abbrev dktX1_requirePartner_0 : List UInt8 := dkwX1_requirePartner_0 ++ dktX1_requirePartner_1
theorem dksX1_requirePartner_0 : cX1_requirePartner.data.toList.drop 0 = dktX1_requirePartner_0 := by decide +kernel
theorem dksX1_requirePartner_1 : cX1_requirePartner.data.toList.drop 24 = dktX1_requirePartner_1 := dk_seg dksX1_requirePartner_0 24 rfl rfl
theorem dX1_requirePartner_0 : decode cX1_requirePartner 0 = .ok (.aload_n 0, 1) := dk_42 (dk_at dksX1_requirePartner_0 0 rfl rfl)
theorem dX1_requirePartner_1 : decode cX1_requirePartner 1 = .ok (.iload_n 1, 1) := dk_27 (dk_at dksX1_requirePartner_0 1 rfl rfl)
theorem dX1_requirePartner_2 : decode cX1_requirePartner 2 = .ok (.invokevirtual 211, 3) := dk_182 0 211 (dk_at dksX1_requirePartner_0 2 rfl rfl)
theorem dX1_requirePartner_5 : decode cX1_requirePartner 5 = .ok (.pop, 1) := dk_87 (dk_at dksX1_requirePartner_0 5 rfl rfl)
theorem dX1_requirePartner_6 : decode cX1_requirePartner 6 = .ok (.aload_n 0, 1) := dk_42 (dk_at dksX1_requirePartner_0 6 rfl rfl)
theorem dX1_requirePartner_7 : decode cX1_requirePartner 7 = .ok (.getfield 22, 3) := dk_180 0 22 (dk_at dksX1_requirePartner_0 7 rfl rfl)
theorem dX1_requirePartner_10 : decode cX1_requirePartner 10 = .ok (.getfield 229, 3) := dk_180 0 229 (dk_at dksX1_requirePartner_0 10 rfl rfl)
theorem dX1_requirePartner_13 : decode cX1_requirePartner 13 = .ok (.iload_n 1, 1) := dk_27 (dk_at dksX1_requirePartner_0 13 rfl rfl)
theorem dX1_requirePartner_14 : decode cX1_requirePartner 14 = .ok (.iaload, 1) := dk_46 (dk_at dksX1_requirePartner_0 14 rfl rfl)
theorem dX1_requirePartner_15 : decode cX1_requirePartner 15 = .ok (.iconst (-1), 1) := dk_2 (dk_at dksX1_requirePartner_0 15 rfl rfl)
theorem dX1_requirePartner_16 : decode cX1_requirePartner 16 = .ok (.if_icmp .eq 7, 3) := dk_159 0 7 (dk_at dksX1_requirePartner_0 16 rfl rfl)
theorem dX1_requirePartner_19 : decode cX1_requirePartner 19 = .ok (.iconst 1, 1) := dk_4 (dk_at dksX1_requirePartner_0 19 rfl rfl)
theorem dX1_requirePartner_20 : decode cX1_requirePartner 20 = .ok (.goto 4, 3) := dk_167 0 4 (dk_at dksX1_requirePartner_0 20 rfl rfl)
theorem dX1_requirePartner_23 : decode cX1_requirePartner 23 = .ok (.iconst 0, 1) := dk_3 (dk_at dksX1_requirePartner_0 23 rfl rfl)
theorem dX1_requirePartner_24 : decode cX1_requirePartner 24 = .ok (.invokestatic 232, 3) := dk_184 0 232 (dk_at dksX1_requirePartner_1 0 rfl rfl)
theorem dX1_requirePartner_27 : decode cX1_requirePartner 27 = .ok (.aload_n 0, 1) := dk_42 (dk_at dksX1_requirePartner_1 3 rfl rfl)
theorem dX1_requirePartner_28 : decode cX1_requirePartner 28 = .ok (.getfield 22, 3) := dk_180 0 22 (dk_at dksX1_requirePartner_1 4 rfl rfl)
theorem dX1_requirePartner_31 : decode cX1_requirePartner 31 = .ok (.getfield 229, 3) := dk_180 0 229 (dk_at dksX1_requirePartner_1 7 rfl rfl)
theorem dX1_requirePartner_34 : decode cX1_requirePartner 34 = .ok (.iload_n 1, 1) := dk_27 (dk_at dksX1_requirePartner_1 10 rfl rfl)
theorem dX1_requirePartner_35 : decode cX1_requirePartner 35 = .ok (.iaload, 1) := dk_46 (dk_at dksX1_requirePartner_1 11 rfl rfl)
theorem dX1_requirePartner_36 : decode cX1_requirePartner 36 = .ok (.ireturn, 1) := dk_172 (dk_at dksX1_requirePartner_1 12 rfl rfl)
abbrev cX1_requireElement : ByteArray := prog_1_method_5_code
def yX1_requireElement : MethodName := ⟨RX1, "requireElement", "(Z)V"⟩
def dkwX1_requireElement_0 : List UInt8 := [26, 154, 0, 11, 187, 0, 13, 89, 183, 0, 15, 191, 177]
abbrev dktX1_requireElement_0 : List UInt8 := dkwX1_requireElement_0 ++ []
theorem dksX1_requireElement_0 : cX1_requireElement.data.toList.drop 0 = dktX1_requireElement_0 := by decide +kernel
theorem dX1_requireElement_0 : decode cX1_requireElement 0 = .ok (.iload_n 0, 1) := dk_26 (dk_at dksX1_requireElement_0 0 rfl rfl)
theorem dX1_requireElement_1 : decode cX1_requireElement 1 = .ok (.ifCond .ne 11, 3) := dk_154 0 11 (dk_at dksX1_requireElement_0 1 rfl rfl)
theorem dX1_requireElement_4 : decode cX1_requireElement 4 = .ok (.new 13, 3) := dk_187 0 13 (dk_at dksX1_requireElement_0 4 rfl rfl)
theorem dX1_requireElement_7 : decode cX1_requireElement 7 = .ok (.dup, 1) := dk_89 (dk_at dksX1_requireElement_0 7 rfl rfl)
theorem dX1_requireElement_8 : decode cX1_requireElement 8 = .ok (.invokespecial 15, 3) := dk_183 0 15 (dk_at dksX1_requireElement_0 8 rfl rfl)
theorem dX1_requireElement_11 : decode cX1_requireElement 11 = .ok (.athrow, 1) := dk_191 (dk_at dksX1_requireElement_0 11 rfl rfl)
theorem dX1_requireElement_12 : decode cX1_requireElement 12 = .ok (.return_, 1) := dk_177 (dk_at dksX1_requireElement_0 12 rfl rfl)
abbrev cX1_partner : ByteArray := prog_1_method_29_code
def yX1_partner : MethodName := ⟨RX1, "partner", "(I)I"⟩
def dkwX1_partner_0 : List UInt8 := [42, 27, 182, 0, 235, 172]
abbrev dktX1_partner_0 : List UInt8 := dkwX1_partner_0 ++ []
theorem dksX1_partner_0 : cX1_partner.data.toList.drop 0 = dktX1_partner_0 := by decide +kernel
theorem dX1_partner_0 : decode cX1_partner 0 = .ok (.aload_n 0, 1) := dk_42 (dk_at dksX1_partner_0 0 rfl rfl)
theorem dX1_partner_1 : decode cX1_partner 1 = .ok (.iload_n 1, 1) := dk_27 (dk_at dksX1_partner_0 1 rfl rfl)
theorem dX1_partner_2 : decode cX1_partner 2 = .ok (.invokevirtual 235, 3) := dk_182 0 235 (dk_at dksX1_partner_0 2 rfl rfl)
theorem dX1_partner_5 : decode cX1_partner 5 = .ok (.ireturn, 1) := dk_172 (dk_at dksX1_partner_0 5 rfl rfl)
abbrev cX1_tax : ByteArray := prog_1_method_32_code
def yX1_tax : MethodName := ⟨RX1, "tax", "(I)J"⟩
def dkwX1_tax_0 : List UInt8 := [42, 27, 182, 0, 211, 87, 42, 27, 182, 1, 8, 173]
abbrev dktX1_tax_0 : List UInt8 := dkwX1_tax_0 ++ []
theorem dksX1_tax_0 : cX1_tax.data.toList.drop 0 = dktX1_tax_0 := by decide +kernel
theorem dX1_tax_0 : decode cX1_tax 0 = .ok (.aload_n 0, 1) := dk_42 (dk_at dksX1_tax_0 0 rfl rfl)
theorem dX1_tax_1 : decode cX1_tax 1 = .ok (.iload_n 1, 1) := dk_27 (dk_at dksX1_tax_0 1 rfl rfl)
theorem dX1_tax_2 : decode cX1_tax 2 = .ok (.invokevirtual 211, 3) := dk_182 0 211 (dk_at dksX1_tax_0 2 rfl rfl)
theorem dX1_tax_5 : decode cX1_tax 5 = .ok (.pop, 1) := dk_87 (dk_at dksX1_tax_0 5 rfl rfl)
theorem dX1_tax_6 : decode cX1_tax 6 = .ok (.aload_n 0, 1) := dk_42 (dk_at dksX1_tax_0 6 rfl rfl)
theorem dX1_tax_7 : decode cX1_tax 7 = .ok (.iload_n 1, 1) := dk_27 (dk_at dksX1_tax_0 7 rfl rfl)
theorem dX1_tax_8 : decode cX1_tax 8 = .ok (.invokevirtual 264, 3) := dk_182 1 8 (dk_at dksX1_tax_0 8 rfl rfl)
theorem dX1_tax_11 : decode cX1_tax 11 = .ok (.lreturn, 1) := dk_173 (dk_at dksX1_tax_0 11 rfl rfl)
abbrev cX1_taxPart : ByteArray := prog_1_method_33_code
def yX1_taxPart : MethodName := ⟨RX1, "taxPart", "(II)J"⟩
def dkwX1_taxPart_1 : List UInt8 := [180, 0, 38, 180, 1, 11, 28, 47, 173]
abbrev dktX1_taxPart_1 : List UInt8 := dkwX1_taxPart_1 ++ []
def dkwX1_taxPart_0 : List UInt8 := [42, 27, 182, 0, 211, 87, 28, 3, 8, 184, 0, 70, 184, 0, 74, 42, 27, 182, 1, 8, 88, 42]
abbrev dktX1_taxPart_0 : List UInt8 := dkwX1_taxPart_0 ++ dktX1_taxPart_1
theorem dksX1_taxPart_0 : cX1_taxPart.data.toList.drop 0 = dktX1_taxPart_0 := by decide +kernel
theorem dksX1_taxPart_1 : cX1_taxPart.data.toList.drop 22 = dktX1_taxPart_1 := dk_seg dksX1_taxPart_0 22 rfl rfl
theorem dX1_taxPart_0 : decode cX1_taxPart 0 = .ok (.aload_n 0, 1) := dk_42 (dk_at dksX1_taxPart_0 0 rfl rfl)
theorem dX1_taxPart_1 : decode cX1_taxPart 1 = .ok (.iload_n 1, 1) := dk_27 (dk_at dksX1_taxPart_0 1 rfl rfl)
theorem dX1_taxPart_2 : decode cX1_taxPart 2 = .ok (.invokevirtual 211, 3) := dk_182 0 211 (dk_at dksX1_taxPart_0 2 rfl rfl)
theorem dX1_taxPart_5 : decode cX1_taxPart 5 = .ok (.pop, 1) := dk_87 (dk_at dksX1_taxPart_0 5 rfl rfl)
theorem dX1_taxPart_6 : decode cX1_taxPart 6 = .ok (.iload_n 2, 1) := dk_28 (dk_at dksX1_taxPart_0 6 rfl rfl)
theorem dX1_taxPart_7 : decode cX1_taxPart 7 = .ok (.iconst 0, 1) := dk_3 (dk_at dksX1_taxPart_0 7 rfl rfl)
theorem dX1_taxPart_8 : decode cX1_taxPart 8 = .ok (.iconst 5, 1) := dk_8 (dk_at dksX1_taxPart_0 8 rfl rfl)
theorem dX1_taxPart_9 : decode cX1_taxPart 9 = .ok (.invokestatic 70, 3) := dk_184 0 70 (dk_at dksX1_taxPart_0 9 rfl rfl)
theorem dX1_taxPart_12 : decode cX1_taxPart 12 = .ok (.invokestatic 74, 3) := dk_184 0 74 (dk_at dksX1_taxPart_0 12 rfl rfl)
theorem dX1_taxPart_15 : decode cX1_taxPart 15 = .ok (.aload_n 0, 1) := dk_42 (dk_at dksX1_taxPart_0 15 rfl rfl)
theorem dX1_taxPart_16 : decode cX1_taxPart 16 = .ok (.iload_n 1, 1) := dk_27 (dk_at dksX1_taxPart_0 16 rfl rfl)
theorem dX1_taxPart_17 : decode cX1_taxPart 17 = .ok (.invokevirtual 264, 3) := dk_182 1 8 (dk_at dksX1_taxPart_0 17 rfl rfl)
theorem dX1_taxPart_20 : decode cX1_taxPart 20 = .ok (.pop2, 1) := dk_88 (dk_at dksX1_taxPart_0 20 rfl rfl)
theorem dX1_taxPart_21 : decode cX1_taxPart 21 = .ok (.aload_n 0, 1) := dk_42 (dk_at dksX1_taxPart_0 21 rfl rfl)
theorem dX1_taxPart_22 : decode cX1_taxPart 22 = .ok (.getfield 38, 3) := dk_180 0 38 (dk_at dksX1_taxPart_1 0 rfl rfl)
theorem dX1_taxPart_25 : decode cX1_taxPart 25 = .ok (.getfield 267, 3) := dk_180 1 11 (dk_at dksX1_taxPart_1 3 rfl rfl)
theorem dX1_taxPart_28 : decode cX1_taxPart 28 = .ok (.iload_n 2, 1) := dk_28 (dk_at dksX1_taxPart_1 6 rfl rfl)
theorem dX1_taxPart_29 : decode cX1_taxPart 29 = .ok (.laload, 1) := dk_47 (dk_at dksX1_taxPart_1 7 rfl rfl)
theorem dX1_taxPart_30 : decode cX1_taxPart 30 = .ok (.lreturn, 1) := dk_173 (dk_at dksX1_taxPart_1 8 rfl rfl)
abbrev cX1_creditPart : ByteArray := prog_1_method_34_code
def yX1_creditPart : MethodName := ⟨RX1, "creditPart", "(III)J"⟩
def dkwX1_creditPart_1 : List UInt8 := [182, 1, 8, 88, 42, 180, 0, 38, 28, 29, 182, 1, 14, 173]
abbrev dktX1_creditPart_1 : List UInt8 := dkwX1_creditPart_1 ++ []
def dkwX1_creditPart_0 : List UInt8 := [42, 27, 182, 0, 211, 87, 42, 28, 182, 0, 171, 29, 3, 7, 184, 0, 70, 184, 0, 74, 42, 27]
abbrev dktX1_creditPart_0 : List UInt8 := dkwX1_creditPart_0 ++ dktX1_creditPart_1
theorem dksX1_creditPart_0 : cX1_creditPart.data.toList.drop 0 = dktX1_creditPart_0 := by decide +kernel
theorem dksX1_creditPart_1 : cX1_creditPart.data.toList.drop 22 = dktX1_creditPart_1 := dk_seg dksX1_creditPart_0 22 rfl rfl
theorem dX1_creditPart_0 : decode cX1_creditPart 0 = .ok (.aload_n 0, 1) := dk_42 (dk_at dksX1_creditPart_0 0 rfl rfl)
theorem dX1_creditPart_1 : decode cX1_creditPart 1 = .ok (.iload_n 1, 1) := dk_27 (dk_at dksX1_creditPart_0 1 rfl rfl)
theorem dX1_creditPart_2 : decode cX1_creditPart 2 = .ok (.invokevirtual 211, 3) := dk_182 0 211 (dk_at dksX1_creditPart_0 2 rfl rfl)
theorem dX1_creditPart_5 : decode cX1_creditPart 5 = .ok (.pop, 1) := dk_87 (dk_at dksX1_creditPart_0 5 rfl rfl)
theorem dX1_creditPart_6 : decode cX1_creditPart 6 = .ok (.aload_n 0, 1) := dk_42 (dk_at dksX1_creditPart_0 6 rfl rfl)
theorem dX1_creditPart_7 : decode cX1_creditPart 7 = .ok (.iload_n 2, 1) := dk_28 (dk_at dksX1_creditPart_0 7 rfl rfl)
theorem dX1_creditPart_8 : decode cX1_creditPart 8 = .ok (.invokevirtual 171, 3) := dk_182 0 171 (dk_at dksX1_creditPart_0 8 rfl rfl)
theorem dX1_creditPart_11 : decode cX1_creditPart 11 = .ok (.iload_n 3, 1) := dk_29 (dk_at dksX1_creditPart_0 11 rfl rfl)
theorem dX1_creditPart_12 : decode cX1_creditPart 12 = .ok (.iconst 0, 1) := dk_3 (dk_at dksX1_creditPart_0 12 rfl rfl)
theorem dX1_creditPart_13 : decode cX1_creditPart 13 = .ok (.iconst 4, 1) := dk_7 (dk_at dksX1_creditPart_0 13 rfl rfl)
theorem dX1_creditPart_14 : decode cX1_creditPart 14 = .ok (.invokestatic 70, 3) := dk_184 0 70 (dk_at dksX1_creditPart_0 14 rfl rfl)
theorem dX1_creditPart_17 : decode cX1_creditPart 17 = .ok (.invokestatic 74, 3) := dk_184 0 74 (dk_at dksX1_creditPart_0 17 rfl rfl)
theorem dX1_creditPart_20 : decode cX1_creditPart 20 = .ok (.aload_n 0, 1) := dk_42 (dk_at dksX1_creditPart_0 20 rfl rfl)
theorem dX1_creditPart_21 : decode cX1_creditPart 21 = .ok (.iload_n 1, 1) := dk_27 (dk_at dksX1_creditPart_0 21 rfl rfl)
theorem dX1_creditPart_22 : decode cX1_creditPart 22 = .ok (.invokevirtual 264, 3) := dk_182 1 8 (dk_at dksX1_creditPart_1 0 rfl rfl)
theorem dX1_creditPart_25 : decode cX1_creditPart 25 = .ok (.pop2, 1) := dk_88 (dk_at dksX1_creditPart_1 3 rfl rfl)
theorem dX1_creditPart_26 : decode cX1_creditPart 26 = .ok (.aload_n 0, 1) := dk_42 (dk_at dksX1_creditPart_1 4 rfl rfl)
theorem dX1_creditPart_27 : decode cX1_creditPart 27 = .ok (.getfield 38, 3) := dk_180 0 38 (dk_at dksX1_creditPart_1 5 rfl rfl)
theorem dX1_creditPart_30 : decode cX1_creditPart 30 = .ok (.iload_n 2, 1) := dk_28 (dk_at dksX1_creditPart_1 8 rfl rfl)
theorem dX1_creditPart_31 : decode cX1_creditPart 31 = .ok (.iload_n 3, 1) := dk_29 (dk_at dksX1_creditPart_1 9 rfl rfl)
theorem dX1_creditPart_32 : decode cX1_creditPart 32 = .ok (.invokevirtual 270, 3) := dk_182 1 14 (dk_at dksX1_creditPart_1 10 rfl rfl)
theorem dX1_creditPart_35 : decode cX1_creditPart 35 = .ok (.lreturn, 1) := dk_173 (dk_at dksX1_creditPart_1 13 rfl rfl)
abbrev cX1_carried : ByteArray := prog_1_method_35_code
def yX1_carried : MethodName := ⟨RX1, "carried", "(II)J"⟩
def dkwX1_carried_1 : List UInt8 := [192, 1, 18, 28, 47, 173]
abbrev dktX1_carried_1 : List UInt8 := dkwX1_carried_1 ++ []
def dkwX1_carried_0 : List UInt8 := [42, 27, 182, 0, 211, 87, 42, 28, 182, 0, 171, 42, 180, 0, 22, 180, 0, 128, 27, 182, 0, 164]
abbrev dktX1_carried_0 : List UInt8 := dkwX1_carried_0 ++ dktX1_carried_1
theorem dksX1_carried_0 : cX1_carried.data.toList.drop 0 = dktX1_carried_0 := by decide +kernel
theorem dksX1_carried_1 : cX1_carried.data.toList.drop 22 = dktX1_carried_1 := dk_seg dksX1_carried_0 22 rfl rfl
theorem dX1_carried_0 : decode cX1_carried 0 = .ok (.aload_n 0, 1) := dk_42 (dk_at dksX1_carried_0 0 rfl rfl)
theorem dX1_carried_1 : decode cX1_carried 1 = .ok (.iload_n 1, 1) := dk_27 (dk_at dksX1_carried_0 1 rfl rfl)
theorem dX1_carried_2 : decode cX1_carried 2 = .ok (.invokevirtual 211, 3) := dk_182 0 211 (dk_at dksX1_carried_0 2 rfl rfl)
theorem dX1_carried_5 : decode cX1_carried 5 = .ok (.pop, 1) := dk_87 (dk_at dksX1_carried_0 5 rfl rfl)
theorem dX1_carried_6 : decode cX1_carried 6 = .ok (.aload_n 0, 1) := dk_42 (dk_at dksX1_carried_0 6 rfl rfl)
theorem dX1_carried_7 : decode cX1_carried 7 = .ok (.iload_n 2, 1) := dk_28 (dk_at dksX1_carried_0 7 rfl rfl)
theorem dX1_carried_8 : decode cX1_carried 8 = .ok (.invokevirtual 171, 3) := dk_182 0 171 (dk_at dksX1_carried_0 8 rfl rfl)
theorem dX1_carried_11 : decode cX1_carried 11 = .ok (.aload_n 0, 1) := dk_42 (dk_at dksX1_carried_0 11 rfl rfl)
theorem dX1_carried_12 : decode cX1_carried 12 = .ok (.getfield 22, 3) := dk_180 0 22 (dk_at dksX1_carried_0 12 rfl rfl)
theorem dX1_carried_15 : decode cX1_carried 15 = .ok (.getfield 128, 3) := dk_180 0 128 (dk_at dksX1_carried_0 15 rfl rfl)
theorem dX1_carried_18 : decode cX1_carried 18 = .ok (.iload_n 1, 1) := dk_27 (dk_at dksX1_carried_0 18 rfl rfl)
theorem dX1_carried_19 : decode cX1_carried 19 = .ok (.invokevirtual 164, 3) := dk_182 0 164 (dk_at dksX1_carried_0 19 rfl rfl)
theorem dX1_carried_22 : decode cX1_carried 22 = .ok (.checkcast 274, 3) := dk_192 1 18 (dk_at dksX1_carried_1 0 rfl rfl)
theorem dX1_carried_25 : decode cX1_carried 25 = .ok (.iload_n 2, 1) := dk_28 (dk_at dksX1_carried_1 3 rfl rfl)
theorem dX1_carried_26 : decode cX1_carried 26 = .ok (.laload, 1) := dk_47 (dk_at dksX1_carried_1 4 rfl rfl)
theorem dX1_carried_27 : decode cX1_carried 27 = .ok (.lreturn, 1) := dk_173 (dk_at dksX1_carried_1 5 rfl rfl)
abbrev cX1_jointTax : ByteArray := prog_1_method_43_code
def yX1_jointTax : MethodName := ⟨RX1, "jointTax", "(I)J"⟩
def dkwX1_jointTax_0 : List UInt8 := [42, 27, 182, 0, 235, 87, 42, 27, 182, 1, 34, 173]
abbrev dktX1_jointTax_0 : List UInt8 := dkwX1_jointTax_0 ++ []
theorem dksX1_jointTax_0 : cX1_jointTax.data.toList.drop 0 = dktX1_jointTax_0 := by decide +kernel
theorem dX1_jointTax_0 : decode cX1_jointTax 0 = .ok (.aload_n 0, 1) := dk_42 (dk_at dksX1_jointTax_0 0 rfl rfl)
theorem dX1_jointTax_1 : decode cX1_jointTax 1 = .ok (.iload_n 1, 1) := dk_27 (dk_at dksX1_jointTax_0 1 rfl rfl)
theorem dX1_jointTax_2 : decode cX1_jointTax 2 = .ok (.invokevirtual 235, 3) := dk_182 0 235 (dk_at dksX1_jointTax_0 2 rfl rfl)
theorem dX1_jointTax_5 : decode cX1_jointTax 5 = .ok (.pop, 1) := dk_87 (dk_at dksX1_jointTax_0 5 rfl rfl)
theorem dX1_jointTax_6 : decode cX1_jointTax 6 = .ok (.aload_n 0, 1) := dk_42 (dk_at dksX1_jointTax_0 6 rfl rfl)
theorem dX1_jointTax_7 : decode cX1_jointTax 7 = .ok (.iload_n 1, 1) := dk_27 (dk_at dksX1_jointTax_0 7 rfl rfl)
theorem dX1_jointTax_8 : decode cX1_jointTax 8 = .ok (.invokevirtual 290, 3) := dk_182 1 34 (dk_at dksX1_jointTax_0 8 rfl rfl)
theorem dX1_jointTax_11 : decode cX1_jointTax 11 = .ok (.lreturn, 1) := dk_173 (dk_at dksX1_jointTax_0 11 rfl rfl)
abbrev cX1_separateTax : ByteArray := prog_1_method_44_code
def yX1_separateTax : MethodName := ⟨RX1, "separateTax", "(I)J"⟩
def dkwX1_separateTax_0 : List UInt8 := [42, 27, 182, 0, 235, 87, 42, 27, 182, 1, 37, 173]
abbrev dktX1_separateTax_0 : List UInt8 := dkwX1_separateTax_0 ++ []
theorem dksX1_separateTax_0 : cX1_separateTax.data.toList.drop 0 = dktX1_separateTax_0 := by decide +kernel
theorem dX1_separateTax_0 : decode cX1_separateTax 0 = .ok (.aload_n 0, 1) := dk_42 (dk_at dksX1_separateTax_0 0 rfl rfl)
theorem dX1_separateTax_1 : decode cX1_separateTax 1 = .ok (.iload_n 1, 1) := dk_27 (dk_at dksX1_separateTax_0 1 rfl rfl)
theorem dX1_separateTax_2 : decode cX1_separateTax 2 = .ok (.invokevirtual 235, 3) := dk_182 0 235 (dk_at dksX1_separateTax_0 2 rfl rfl)
theorem dX1_separateTax_5 : decode cX1_separateTax 5 = .ok (.pop, 1) := dk_87 (dk_at dksX1_separateTax_0 5 rfl rfl)
theorem dX1_separateTax_6 : decode cX1_separateTax 6 = .ok (.aload_n 0, 1) := dk_42 (dk_at dksX1_separateTax_0 6 rfl rfl)
theorem dX1_separateTax_7 : decode cX1_separateTax 7 = .ok (.iload_n 1, 1) := dk_27 (dk_at dksX1_separateTax_0 7 rfl rfl)
theorem dX1_separateTax_8 : decode cX1_separateTax 8 = .ok (.invokevirtual 293, 3) := dk_182 1 37 (dk_at dksX1_separateTax_0 8 rfl rfl)
theorem dX1_separateTax_11 : decode cX1_separateTax 11 = .ok (.lreturn, 1) := dk_173 (dk_at dksX1_separateTax_0 11 rfl rfl)
abbrev cX1_division : ByteArray := prog_1_method_45_code
def yX1_division : MethodName := ⟨RX1, "division", "(I)I"⟩
def dkwX1_division_0 : List UInt8 := [42, 27, 182, 0, 235, 87, 42, 27, 182, 1, 31, 172]
abbrev dktX1_division_0 : List UInt8 := dkwX1_division_0 ++ []
theorem dksX1_division_0 : cX1_division.data.toList.drop 0 = dktX1_division_0 := by decide +kernel
theorem dX1_division_0 : decode cX1_division 0 = .ok (.aload_n 0, 1) := dk_42 (dk_at dksX1_division_0 0 rfl rfl)
theorem dX1_division_1 : decode cX1_division 1 = .ok (.iload_n 1, 1) := dk_27 (dk_at dksX1_division_0 1 rfl rfl)
theorem dX1_division_2 : decode cX1_division 2 = .ok (.invokevirtual 235, 3) := dk_182 0 235 (dk_at dksX1_division_0 2 rfl rfl)
theorem dX1_division_5 : decode cX1_division 5 = .ok (.pop, 1) := dk_87 (dk_at dksX1_division_0 5 rfl rfl)
theorem dX1_division_6 : decode cX1_division 6 = .ok (.aload_n 0, 1) := dk_42 (dk_at dksX1_division_0 6 rfl rfl)
theorem dX1_division_7 : decode cX1_division 7 = .ok (.iload_n 1, 1) := dk_27 (dk_at dksX1_division_0 7 rfl rfl)
theorem dX1_division_8 : decode cX1_division 8 = .ok (.invokevirtual 287, 3) := dk_182 1 31 (dk_at dksX1_division_0 8 rfl rfl)
theorem dX1_division_11 : decode cX1_division 11 = .ok (.ireturn, 1) := dk_172 (dk_at dksX1_division_0 11 rfl rfl)
abbrev cX1_choosesJoint : ByteArray := prog_1_method_46_code
def yX1_choosesJoint : MethodName := ⟨RX1, "choosesJoint", "(I)Z"⟩
def dkwX1_choosesJoint_0 : List UInt8 := [42, 27, 182, 0, 235, 87, 42, 27, 182, 1, 43, 172]
abbrev dktX1_choosesJoint_0 : List UInt8 := dkwX1_choosesJoint_0 ++ []
theorem dksX1_choosesJoint_0 : cX1_choosesJoint.data.toList.drop 0 = dktX1_choosesJoint_0 := by decide +kernel
theorem dX1_choosesJoint_0 : decode cX1_choosesJoint 0 = .ok (.aload_n 0, 1) := dk_42 (dk_at dksX1_choosesJoint_0 0 rfl rfl)
theorem dX1_choosesJoint_1 : decode cX1_choosesJoint 1 = .ok (.iload_n 1, 1) := dk_27 (dk_at dksX1_choosesJoint_0 1 rfl rfl)
theorem dX1_choosesJoint_2 : decode cX1_choosesJoint 2 = .ok (.invokevirtual 235, 3) := dk_182 0 235 (dk_at dksX1_choosesJoint_0 2 rfl rfl)
theorem dX1_choosesJoint_5 : decode cX1_choosesJoint 5 = .ok (.pop, 1) := dk_87 (dk_at dksX1_choosesJoint_0 5 rfl rfl)
theorem dX1_choosesJoint_6 : decode cX1_choosesJoint 6 = .ok (.aload_n 0, 1) := dk_42 (dk_at dksX1_choosesJoint_0 6 rfl rfl)
theorem dX1_choosesJoint_7 : decode cX1_choosesJoint 7 = .ok (.iload_n 1, 1) := dk_27 (dk_at dksX1_choosesJoint_0 7 rfl rfl)
theorem dX1_choosesJoint_8 : decode cX1_choosesJoint 8 = .ok (.invokevirtual 299, 3) := dk_182 1 43 (dk_at dksX1_choosesJoint_0 8 rfl rfl)
theorem dX1_choosesJoint_11 : decode cX1_choosesJoint 11 = .ok (.ireturn, 1) := dk_172 (dk_at dksX1_choosesJoint_0 11 rfl rfl)
abbrev cX1_householdTax : ByteArray := prog_1_method_47_code
def yX1_householdTax : MethodName := ⟨RX1, "householdTax", "(I)J"⟩
def dkwX1_householdTax_0 : List UInt8 := [42, 27, 182, 0, 211, 87, 42, 27, 182, 1, 47, 173]
abbrev dktX1_householdTax_0 : List UInt8 := dkwX1_householdTax_0 ++ []
theorem dksX1_householdTax_0 : cX1_householdTax.data.toList.drop 0 = dktX1_householdTax_0 := by decide +kernel
theorem dX1_householdTax_0 : decode cX1_householdTax 0 = .ok (.aload_n 0, 1) := dk_42 (dk_at dksX1_householdTax_0 0 rfl rfl)
theorem dX1_householdTax_1 : decode cX1_householdTax 1 = .ok (.iload_n 1, 1) := dk_27 (dk_at dksX1_householdTax_0 1 rfl rfl)
theorem dX1_householdTax_2 : decode cX1_householdTax 2 = .ok (.invokevirtual 211, 3) := dk_182 0 211 (dk_at dksX1_householdTax_0 2 rfl rfl)
theorem dX1_householdTax_5 : decode cX1_householdTax 5 = .ok (.pop, 1) := dk_87 (dk_at dksX1_householdTax_0 5 rfl rfl)
theorem dX1_householdTax_6 : decode cX1_householdTax 6 = .ok (.aload_n 0, 1) := dk_42 (dk_at dksX1_householdTax_0 6 rfl rfl)
theorem dX1_householdTax_7 : decode cX1_householdTax 7 = .ok (.iload_n 1, 1) := dk_27 (dk_at dksX1_householdTax_0 7 rfl rfl)
theorem dX1_householdTax_8 : decode cX1_householdTax 8 = .ok (.invokevirtual 303, 3) := dk_182 1 47 (dk_at dksX1_householdTax_0 8 rfl rfl)
theorem dX1_householdTax_11 : decode cX1_householdTax 11 = .ok (.lreturn, 1) := dk_173 (dk_at dksX1_householdTax_0 11 rfl rfl)
abbrev cX1_curve : ByteArray := prog_1_method_54_code
def yX1_curve : MethodName := ⟨RX1, "curve", "(II)J"⟩
def dkwX1_curve_0 : List UInt8 := [42, 27, 182, 0, 211, 87, 28, 3, 17, 39, 15, 184, 0, 70, 184, 0, 74, 42, 27, 28, 182, 1, 67, 173]
abbrev dktX1_curve_0 : List UInt8 := dkwX1_curve_0 ++ []
theorem dksX1_curve_0 : cX1_curve.data.toList.drop 0 = dktX1_curve_0 := by decide +kernel
theorem dX1_curve_0 : decode cX1_curve 0 = .ok (.aload_n 0, 1) := dk_42 (dk_at dksX1_curve_0 0 rfl rfl)
theorem dX1_curve_1 : decode cX1_curve 1 = .ok (.iload_n 1, 1) := dk_27 (dk_at dksX1_curve_0 1 rfl rfl)
theorem dX1_curve_2 : decode cX1_curve 2 = .ok (.invokevirtual 211, 3) := dk_182 0 211 (dk_at dksX1_curve_0 2 rfl rfl)
theorem dX1_curve_5 : decode cX1_curve 5 = .ok (.pop, 1) := dk_87 (dk_at dksX1_curve_0 5 rfl rfl)
theorem dX1_curve_6 : decode cX1_curve 6 = .ok (.iload_n 2, 1) := dk_28 (dk_at dksX1_curve_0 6 rfl rfl)
theorem dX1_curve_7 : decode cX1_curve 7 = .ok (.iconst 0, 1) := dk_3 (dk_at dksX1_curve_0 7 rfl rfl)
theorem dX1_curve_8 : decode cX1_curve 8 = .ok (.sipush 9999, 3) := dk_17 39 15 (dk_at dksX1_curve_0 8 rfl rfl)
theorem dX1_curve_11 : decode cX1_curve 11 = .ok (.invokestatic 70, 3) := dk_184 0 70 (dk_at dksX1_curve_0 11 rfl rfl)
theorem dX1_curve_14 : decode cX1_curve 14 = .ok (.invokestatic 74, 3) := dk_184 0 74 (dk_at dksX1_curve_0 14 rfl rfl)
theorem dX1_curve_17 : decode cX1_curve 17 = .ok (.aload_n 0, 1) := dk_42 (dk_at dksX1_curve_0 17 rfl rfl)
theorem dX1_curve_18 : decode cX1_curve 18 = .ok (.iload_n 1, 1) := dk_27 (dk_at dksX1_curve_0 18 rfl rfl)
theorem dX1_curve_19 : decode cX1_curve 19 = .ok (.iload_n 2, 1) := dk_28 (dk_at dksX1_curve_0 19 rfl rfl)
theorem dX1_curve_20 : decode cX1_curve 20 = .ok (.invokevirtual 323, 3) := dk_182 1 67 (dk_at dksX1_curve_0 20 rfl rfl)
theorem dX1_curve_23 : decode cX1_curve 23 = .ok (.lreturn, 1) := dk_173 (dk_at dksX1_curve_0 23 rfl rfl)
abbrev cX1_curveAt : ByteArray := prog_1_method_53_code
def yX1_curveAt : MethodName := ⟨RX1, "curveAt", "(II)J"⟩
def dkwX1_curveAt_0 : List UInt8 := [42, 27, 28, 42, 180, 0, 22, 180, 0, 207, 27, 50, 180, 0, 226, 182, 1, 4, 173]
abbrev dktX1_curveAt_0 : List UInt8 := dkwX1_curveAt_0 ++ []
theorem dksX1_curveAt_0 : cX1_curveAt.data.toList.drop 0 = dktX1_curveAt_0 := by decide +kernel
theorem dX1_curveAt_0 : decode cX1_curveAt 0 = .ok (.aload_n 0, 1) := dk_42 (dk_at dksX1_curveAt_0 0 rfl rfl)
theorem dX1_curveAt_1 : decode cX1_curveAt 1 = .ok (.iload_n 1, 1) := dk_27 (dk_at dksX1_curveAt_0 1 rfl rfl)
theorem dX1_curveAt_2 : decode cX1_curveAt 2 = .ok (.iload_n 2, 1) := dk_28 (dk_at dksX1_curveAt_0 2 rfl rfl)
theorem dX1_curveAt_3 : decode cX1_curveAt 3 = .ok (.aload_n 0, 1) := dk_42 (dk_at dksX1_curveAt_0 3 rfl rfl)
theorem dX1_curveAt_4 : decode cX1_curveAt 4 = .ok (.getfield 22, 3) := dk_180 0 22 (dk_at dksX1_curveAt_0 4 rfl rfl)
theorem dX1_curveAt_7 : decode cX1_curveAt 7 = .ok (.getfield 207, 3) := dk_180 0 207 (dk_at dksX1_curveAt_0 7 rfl rfl)
theorem dX1_curveAt_10 : decode cX1_curveAt 10 = .ok (.iload_n 1, 1) := dk_27 (dk_at dksX1_curveAt_0 10 rfl rfl)
theorem dX1_curveAt_11 : decode cX1_curveAt 11 = .ok (.aaload, 1) := dk_50 (dk_at dksX1_curveAt_0 11 rfl rfl)
theorem dX1_curveAt_12 : decode cX1_curveAt 12 = .ok (.getfield 226, 3) := dk_180 0 226 (dk_at dksX1_curveAt_0 12 rfl rfl)
theorem dX1_curveAt_15 : decode cX1_curveAt 15 = .ok (.invokevirtual 260, 3) := dk_182 1 4 (dk_at dksX1_curveAt_0 15 rfl rfl)
theorem dX1_curveAt_18 : decode cX1_curveAt 18 = .ok (.lreturn, 1) := dk_173 (dk_at dksX1_curveAt_0 18 rfl rfl)
abbrev cX1_marginalRate : ByteArray := prog_1_method_55_code
def yX1_marginalRate : MethodName := ⟨RX1, "marginalRate", "(II)J"⟩
def dkwX1_marginalRate_1 : List UInt8 := [182, 1, 67, 42, 27, 28, 182, 1, 67, 101, 173]
abbrev dktX1_marginalRate_1 : List UInt8 := dkwX1_marginalRate_1 ++ []
def dkwX1_marginalRate_0 : List UInt8 := [42, 27, 182, 0, 211, 87, 28, 3, 17, 39, 14, 184, 0, 70, 184, 0, 74, 42, 27, 28, 4, 96]
abbrev dktX1_marginalRate_0 : List UInt8 := dkwX1_marginalRate_0 ++ dktX1_marginalRate_1
theorem dksX1_marginalRate_0 : cX1_marginalRate.data.toList.drop 0 = dktX1_marginalRate_0 := by decide +kernel
theorem dksX1_marginalRate_1 : cX1_marginalRate.data.toList.drop 22 = dktX1_marginalRate_1 := dk_seg dksX1_marginalRate_0 22 rfl rfl
theorem dX1_marginalRate_0 : decode cX1_marginalRate 0 = .ok (.aload_n 0, 1) := dk_42 (dk_at dksX1_marginalRate_0 0 rfl rfl)
theorem dX1_marginalRate_1 : decode cX1_marginalRate 1 = .ok (.iload_n 1, 1) := dk_27 (dk_at dksX1_marginalRate_0 1 rfl rfl)
theorem dX1_marginalRate_2 : decode cX1_marginalRate 2 = .ok (.invokevirtual 211, 3) := dk_182 0 211 (dk_at dksX1_marginalRate_0 2 rfl rfl)
theorem dX1_marginalRate_5 : decode cX1_marginalRate 5 = .ok (.pop, 1) := dk_87 (dk_at dksX1_marginalRate_0 5 rfl rfl)
theorem dX1_marginalRate_6 : decode cX1_marginalRate 6 = .ok (.iload_n 2, 1) := dk_28 (dk_at dksX1_marginalRate_0 6 rfl rfl)
theorem dX1_marginalRate_7 : decode cX1_marginalRate 7 = .ok (.iconst 0, 1) := dk_3 (dk_at dksX1_marginalRate_0 7 rfl rfl)
theorem dX1_marginalRate_8 : decode cX1_marginalRate 8 = .ok (.sipush 9998, 3) := dk_17 39 14 (dk_at dksX1_marginalRate_0 8 rfl rfl)
theorem dX1_marginalRate_11 : decode cX1_marginalRate 11 = .ok (.invokestatic 70, 3) := dk_184 0 70 (dk_at dksX1_marginalRate_0 11 rfl rfl)
theorem dX1_marginalRate_14 : decode cX1_marginalRate 14 = .ok (.invokestatic 74, 3) := dk_184 0 74 (dk_at dksX1_marginalRate_0 14 rfl rfl)
theorem dX1_marginalRate_17 : decode cX1_marginalRate 17 = .ok (.aload_n 0, 1) := dk_42 (dk_at dksX1_marginalRate_0 17 rfl rfl)
theorem dX1_marginalRate_18 : decode cX1_marginalRate 18 = .ok (.iload_n 1, 1) := dk_27 (dk_at dksX1_marginalRate_0 18 rfl rfl)
theorem dX1_marginalRate_19 : decode cX1_marginalRate 19 = .ok (.iload_n 2, 1) := dk_28 (dk_at dksX1_marginalRate_0 19 rfl rfl)
theorem dX1_marginalRate_20 : decode cX1_marginalRate 20 = .ok (.iconst 1, 1) := dk_4 (dk_at dksX1_marginalRate_0 20 rfl rfl)
theorem dX1_marginalRate_21 : decode cX1_marginalRate 21 = .ok (.iadd, 1) := dk_96 (dk_at dksX1_marginalRate_0 21 rfl rfl)
theorem dX1_marginalRate_22 : decode cX1_marginalRate 22 = .ok (.invokevirtual 323, 3) := dk_182 1 67 (dk_at dksX1_marginalRate_1 0 rfl rfl)
theorem dX1_marginalRate_25 : decode cX1_marginalRate 25 = .ok (.aload_n 0, 1) := dk_42 (dk_at dksX1_marginalRate_1 3 rfl rfl)
theorem dX1_marginalRate_26 : decode cX1_marginalRate 26 = .ok (.iload_n 1, 1) := dk_27 (dk_at dksX1_marginalRate_1 4 rfl rfl)
theorem dX1_marginalRate_27 : decode cX1_marginalRate 27 = .ok (.iload_n 2, 1) := dk_28 (dk_at dksX1_marginalRate_1 5 rfl rfl)
theorem dX1_marginalRate_28 : decode cX1_marginalRate 28 = .ok (.invokevirtual 323, 3) := dk_182 1 67 (dk_at dksX1_marginalRate_1 6 rfl rfl)
theorem dX1_marginalRate_31 : decode cX1_marginalRate 31 = .ok (.lsub, 1) := dk_101 (dk_at dksX1_marginalRate_1 9 rfl rfl)
theorem dX1_marginalRate_32 : decode cX1_marginalRate 32 = .ok (.lreturn, 1) := dk_173 (dk_at dksX1_marginalRate_1 10 rfl rfl)
abbrev cX1_kinks : ByteArray := prog_1_method_57_code
def yX1_kinks : MethodName := ⟨RX1, "kinks", "(I)I"⟩
def dkwX1_kinks_0 : List UInt8 := [42, 27, 182, 0, 211, 87, 42, 27, 182, 1, 76, 182, 1, 80, 172]
abbrev dktX1_kinks_0 : List UInt8 := dkwX1_kinks_0 ++ []
theorem dksX1_kinks_0 : cX1_kinks.data.toList.drop 0 = dktX1_kinks_0 := by decide +kernel
theorem dX1_kinks_0 : decode cX1_kinks 0 = .ok (.aload_n 0, 1) := dk_42 (dk_at dksX1_kinks_0 0 rfl rfl)
theorem dX1_kinks_1 : decode cX1_kinks 1 = .ok (.iload_n 1, 1) := dk_27 (dk_at dksX1_kinks_0 1 rfl rfl)
theorem dX1_kinks_2 : decode cX1_kinks 2 = .ok (.invokevirtual 211, 3) := dk_182 0 211 (dk_at dksX1_kinks_0 2 rfl rfl)
theorem dX1_kinks_5 : decode cX1_kinks 5 = .ok (.pop, 1) := dk_87 (dk_at dksX1_kinks_0 5 rfl rfl)
theorem dX1_kinks_6 : decode cX1_kinks 6 = .ok (.aload_n 0, 1) := dk_42 (dk_at dksX1_kinks_0 6 rfl rfl)
theorem dX1_kinks_7 : decode cX1_kinks 7 = .ok (.iload_n 1, 1) := dk_27 (dk_at dksX1_kinks_0 7 rfl rfl)
theorem dX1_kinks_8 : decode cX1_kinks 8 = .ok (.invokevirtual 332, 3) := dk_182 1 76 (dk_at dksX1_kinks_0 8 rfl rfl)
theorem dX1_kinks_11 : decode cX1_kinks 11 = .ok (.invokevirtual 336, 3) := dk_182 1 80 (dk_at dksX1_kinks_0 11 rfl rfl)
theorem dX1_kinks_14 : decode cX1_kinks 14 = .ok (.ireturn, 1) := dk_172 (dk_at dksX1_kinks_0 14 rfl rfl)
abbrev cX1_findKinks : ByteArray := prog_1_method_56_code
def yX1_findKinks : MethodName := ⟨RX1, "findKinks", "(I)Ljava/util/BitSet;"⟩
def dkwX1_findKinks_3 : List UInt8 := [101, 55, 5, 22, 8, 66, 132, 7, 1, 167, 255, 204, 44, 176]
abbrev dktX1_findKinks_3 : List UInt8 := dkwX1_findKinks_3 ++ []
def dkwX1_findKinks_2 : List UInt8 := [44, 21, 7, 22, 8, 33, 101, 22, 5, 148, 153, 0, 7, 4, 167, 0, 4, 3, 182, 1, 73, 22, 8, 33]
abbrev dktX1_findKinks_2 : List UInt8 := dkwX1_findKinks_2 ++ dktX1_findKinks_3
def dkwX1_findKinks_1 : List UInt8 := [55, 5, 4, 54, 7, 21, 7, 17, 39, 15, 162, 0, 50, 42, 27, 21, 7, 4, 96, 182, 1, 67, 55, 8]
abbrev dktX1_findKinks_1 : List UInt8 := dkwX1_findKinks_1 ++ dktX1_findKinks_2
def dkwX1_findKinks_0 : List UInt8 := [187, 1, 70, 89, 183, 1, 72, 77, 42, 27, 4, 182, 1, 67, 66, 33, 42, 27, 3, 182, 1, 67, 101]
abbrev dktX1_findKinks_0 : List UInt8 := dkwX1_findKinks_0 ++ dktX1_findKinks_1
theorem dksX1_findKinks_0 : cX1_findKinks.data.toList.drop 0 = dktX1_findKinks_0 := by decide +kernel
theorem dksX1_findKinks_1 : cX1_findKinks.data.toList.drop 23 = dktX1_findKinks_1 := dk_seg dksX1_findKinks_0 23 rfl rfl
theorem dksX1_findKinks_2 : cX1_findKinks.data.toList.drop 47 = dktX1_findKinks_2 := dk_seg dksX1_findKinks_1 24 rfl rfl
theorem dksX1_findKinks_3 : cX1_findKinks.data.toList.drop 71 = dktX1_findKinks_3 := dk_seg dksX1_findKinks_2 24 rfl rfl
theorem dX1_findKinks_0 : decode cX1_findKinks 0 = .ok (.new 326, 3) := dk_187 1 70 (dk_at dksX1_findKinks_0 0 rfl rfl)
theorem dX1_findKinks_3 : decode cX1_findKinks 3 = .ok (.dup, 1) := dk_89 (dk_at dksX1_findKinks_0 3 rfl rfl)
theorem dX1_findKinks_4 : decode cX1_findKinks 4 = .ok (.invokespecial 328, 3) := dk_183 1 72 (dk_at dksX1_findKinks_0 4 rfl rfl)
theorem dX1_findKinks_7 : decode cX1_findKinks 7 = .ok (.astore_n 2, 1) := dk_77 (dk_at dksX1_findKinks_0 7 rfl rfl)
theorem dX1_findKinks_8 : decode cX1_findKinks 8 = .ok (.aload_n 0, 1) := dk_42 (dk_at dksX1_findKinks_0 8 rfl rfl)
theorem dX1_findKinks_9 : decode cX1_findKinks 9 = .ok (.iload_n 1, 1) := dk_27 (dk_at dksX1_findKinks_0 9 rfl rfl)
theorem dX1_findKinks_10 : decode cX1_findKinks 10 = .ok (.iconst 1, 1) := dk_4 (dk_at dksX1_findKinks_0 10 rfl rfl)
theorem dX1_findKinks_11 : decode cX1_findKinks 11 = .ok (.invokevirtual 323, 3) := dk_182 1 67 (dk_at dksX1_findKinks_0 11 rfl rfl)
theorem dX1_findKinks_14 : decode cX1_findKinks 14 = .ok (.lstore_n 3, 1) := dk_66 (dk_at dksX1_findKinks_0 14 rfl rfl)
theorem dX1_findKinks_15 : decode cX1_findKinks 15 = .ok (.lload_n 3, 1) := dk_33 (dk_at dksX1_findKinks_0 15 rfl rfl)
theorem dX1_findKinks_16 : decode cX1_findKinks 16 = .ok (.aload_n 0, 1) := dk_42 (dk_at dksX1_findKinks_0 16 rfl rfl)
theorem dX1_findKinks_17 : decode cX1_findKinks 17 = .ok (.iload_n 1, 1) := dk_27 (dk_at dksX1_findKinks_0 17 rfl rfl)
theorem dX1_findKinks_18 : decode cX1_findKinks 18 = .ok (.iconst 0, 1) := dk_3 (dk_at dksX1_findKinks_0 18 rfl rfl)
theorem dX1_findKinks_19 : decode cX1_findKinks 19 = .ok (.invokevirtual 323, 3) := dk_182 1 67 (dk_at dksX1_findKinks_0 19 rfl rfl)
theorem dX1_findKinks_22 : decode cX1_findKinks 22 = .ok (.lsub, 1) := dk_101 (dk_at dksX1_findKinks_0 22 rfl rfl)
theorem dX1_findKinks_23 : decode cX1_findKinks 23 = .ok (.lstore 5, 2) := dk_55 5 (dk_at dksX1_findKinks_1 0 rfl rfl)
theorem dX1_findKinks_25 : decode cX1_findKinks 25 = .ok (.iconst 1, 1) := dk_4 (dk_at dksX1_findKinks_1 2 rfl rfl)
theorem dX1_findKinks_26 : decode cX1_findKinks 26 = .ok (.istore 7, 2) := dk_54 7 (dk_at dksX1_findKinks_1 3 rfl rfl)
theorem dX1_findKinks_28 : decode cX1_findKinks 28 = .ok (.iload 7, 2) := dk_21 7 (dk_at dksX1_findKinks_1 5 rfl rfl)
theorem dX1_findKinks_30 : decode cX1_findKinks 30 = .ok (.sipush 9999, 3) := dk_17 39 15 (dk_at dksX1_findKinks_1 7 rfl rfl)
theorem dX1_findKinks_33 : decode cX1_findKinks 33 = .ok (.if_icmp .ge 50, 3) := dk_162 0 50 (dk_at dksX1_findKinks_1 10 rfl rfl)
theorem dX1_findKinks_36 : decode cX1_findKinks 36 = .ok (.aload_n 0, 1) := dk_42 (dk_at dksX1_findKinks_1 13 rfl rfl)
theorem dX1_findKinks_37 : decode cX1_findKinks 37 = .ok (.iload_n 1, 1) := dk_27 (dk_at dksX1_findKinks_1 14 rfl rfl)
theorem dX1_findKinks_38 : decode cX1_findKinks 38 = .ok (.iload 7, 2) := dk_21 7 (dk_at dksX1_findKinks_1 15 rfl rfl)
theorem dX1_findKinks_40 : decode cX1_findKinks 40 = .ok (.iconst 1, 1) := dk_4 (dk_at dksX1_findKinks_1 17 rfl rfl)
theorem dX1_findKinks_41 : decode cX1_findKinks 41 = .ok (.iadd, 1) := dk_96 (dk_at dksX1_findKinks_1 18 rfl rfl)
theorem dX1_findKinks_42 : decode cX1_findKinks 42 = .ok (.invokevirtual 323, 3) := dk_182 1 67 (dk_at dksX1_findKinks_1 19 rfl rfl)
theorem dX1_findKinks_45 : decode cX1_findKinks 45 = .ok (.lstore 8, 2) := dk_55 8 (dk_at dksX1_findKinks_1 22 rfl rfl)
theorem dX1_findKinks_47 : decode cX1_findKinks 47 = .ok (.aload_n 2, 1) := dk_44 (dk_at dksX1_findKinks_2 0 rfl rfl)
theorem dX1_findKinks_48 : decode cX1_findKinks 48 = .ok (.iload 7, 2) := dk_21 7 (dk_at dksX1_findKinks_2 1 rfl rfl)
theorem dX1_findKinks_50 : decode cX1_findKinks 50 = .ok (.lload 8, 2) := dk_22 8 (dk_at dksX1_findKinks_2 3 rfl rfl)
theorem dX1_findKinks_52 : decode cX1_findKinks 52 = .ok (.lload_n 3, 1) := dk_33 (dk_at dksX1_findKinks_2 5 rfl rfl)
theorem dX1_findKinks_53 : decode cX1_findKinks 53 = .ok (.lsub, 1) := dk_101 (dk_at dksX1_findKinks_2 6 rfl rfl)
theorem dX1_findKinks_54 : decode cX1_findKinks 54 = .ok (.lload 5, 2) := dk_22 5 (dk_at dksX1_findKinks_2 7 rfl rfl)
theorem dX1_findKinks_56 : decode cX1_findKinks 56 = .ok (.lcmp, 1) := dk_148 (dk_at dksX1_findKinks_2 9 rfl rfl)
theorem dX1_findKinks_57 : decode cX1_findKinks 57 = .ok (.ifCond .eq 7, 3) := dk_153 0 7 (dk_at dksX1_findKinks_2 10 rfl rfl)
theorem dX1_findKinks_60 : decode cX1_findKinks 60 = .ok (.iconst 1, 1) := dk_4 (dk_at dksX1_findKinks_2 13 rfl rfl)
theorem dX1_findKinks_61 : decode cX1_findKinks 61 = .ok (.goto 4, 3) := dk_167 0 4 (dk_at dksX1_findKinks_2 14 rfl rfl)
theorem dX1_findKinks_64 : decode cX1_findKinks 64 = .ok (.iconst 0, 1) := dk_3 (dk_at dksX1_findKinks_2 17 rfl rfl)
theorem dX1_findKinks_65 : decode cX1_findKinks 65 = .ok (.invokevirtual 329, 3) := dk_182 1 73 (dk_at dksX1_findKinks_2 18 rfl rfl)
theorem dX1_findKinks_68 : decode cX1_findKinks 68 = .ok (.lload 8, 2) := dk_22 8 (dk_at dksX1_findKinks_2 21 rfl rfl)
theorem dX1_findKinks_70 : decode cX1_findKinks 70 = .ok (.lload_n 3, 1) := dk_33 (dk_at dksX1_findKinks_2 23 rfl rfl)
theorem dX1_findKinks_71 : decode cX1_findKinks 71 = .ok (.lsub, 1) := dk_101 (dk_at dksX1_findKinks_3 0 rfl rfl)
theorem dX1_findKinks_72 : decode cX1_findKinks 72 = .ok (.lstore 5, 2) := dk_55 5 (dk_at dksX1_findKinks_3 1 rfl rfl)
theorem dX1_findKinks_74 : decode cX1_findKinks 74 = .ok (.lload 8, 2) := dk_22 8 (dk_at dksX1_findKinks_3 3 rfl rfl)
theorem dX1_findKinks_76 : decode cX1_findKinks 76 = .ok (.lstore_n 3, 1) := dk_66 (dk_at dksX1_findKinks_3 5 rfl rfl)
theorem dX1_findKinks_77 : decode cX1_findKinks 77 = .ok (.iinc 7 1, 3) := dk_132 7 1 (dk_at dksX1_findKinks_3 6 rfl rfl)
theorem dX1_findKinks_80 : decode cX1_findKinks 80 = .ok (.goto (-52), 3) := dk_167 255 204 (dk_at dksX1_findKinks_3 9 rfl rfl)
theorem dX1_findKinks_83 : decode cX1_findKinks 83 = .ok (.aload_n 2, 1) := dk_44 (dk_at dksX1_findKinks_3 12 rfl rfl)
theorem dX1_findKinks_84 : decode cX1_findKinks 84 = .ok (.areturn, 1) := dk_176 (dk_at dksX1_findKinks_3 13 rfl rfl)
abbrev cX1_nextKink : ByteArray := prog_1_method_58_code
def yX1_nextKink : MethodName := ⟨RX1, "nextKink", "(II)I"⟩
def dkwX1_nextKink_2 : List UInt8 := [3, 184, 0, 232, 21, 4, 172]
abbrev dktX1_nextKink_2 : List UInt8 := dkwX1_nextKink_2 ++ []
def dkwX1_nextKink_1 : List UInt8 := [156, 0, 7, 3, 167, 0, 6, 29, 4, 96, 182, 1, 86, 54, 4, 21, 4, 155, 0, 7, 4, 167, 0, 4]
abbrev dktX1_nextKink_1 : List UInt8 := dkwX1_nextKink_1 ++ dktX1_nextKink_2
def dkwX1_nextKink_0 : List UInt8 := [42, 27, 182, 0, 211, 87, 3, 28, 17, 39, 15, 184, 1, 19, 184, 1, 83, 62, 42, 27, 182, 1, 76, 28]
abbrev dktX1_nextKink_0 : List UInt8 := dkwX1_nextKink_0 ++ dktX1_nextKink_1
theorem dksX1_nextKink_0 : cX1_nextKink.data.toList.drop 0 = dktX1_nextKink_0 := by decide +kernel
theorem dksX1_nextKink_1 : cX1_nextKink.data.toList.drop 24 = dktX1_nextKink_1 := dk_seg dksX1_nextKink_0 24 rfl rfl
theorem dksX1_nextKink_2 : cX1_nextKink.data.toList.drop 48 = dktX1_nextKink_2 := dk_seg dksX1_nextKink_1 24 rfl rfl
theorem dX1_nextKink_0 : decode cX1_nextKink 0 = .ok (.aload_n 0, 1) := dk_42 (dk_at dksX1_nextKink_0 0 rfl rfl)
theorem dX1_nextKink_1 : decode cX1_nextKink 1 = .ok (.iload_n 1, 1) := dk_27 (dk_at dksX1_nextKink_0 1 rfl rfl)
theorem dX1_nextKink_2 : decode cX1_nextKink 2 = .ok (.invokevirtual 211, 3) := dk_182 0 211 (dk_at dksX1_nextKink_0 2 rfl rfl)
theorem dX1_nextKink_5 : decode cX1_nextKink 5 = .ok (.pop, 1) := dk_87 (dk_at dksX1_nextKink_0 5 rfl rfl)
theorem dX1_nextKink_6 : decode cX1_nextKink 6 = .ok (.iconst 0, 1) := dk_3 (dk_at dksX1_nextKink_0 6 rfl rfl)
theorem dX1_nextKink_7 : decode cX1_nextKink 7 = .ok (.iload_n 2, 1) := dk_28 (dk_at dksX1_nextKink_0 7 rfl rfl)
theorem dX1_nextKink_8 : decode cX1_nextKink 8 = .ok (.sipush 9999, 3) := dk_17 39 15 (dk_at dksX1_nextKink_0 8 rfl rfl)
theorem dX1_nextKink_11 : decode cX1_nextKink 11 = .ok (.invokestatic 275, 3) := dk_184 1 19 (dk_at dksX1_nextKink_0 11 rfl rfl)
theorem dX1_nextKink_14 : decode cX1_nextKink 14 = .ok (.invokestatic 339, 3) := dk_184 1 83 (dk_at dksX1_nextKink_0 14 rfl rfl)
theorem dX1_nextKink_17 : decode cX1_nextKink 17 = .ok (.istore_n 3, 1) := dk_62 (dk_at dksX1_nextKink_0 17 rfl rfl)
theorem dX1_nextKink_18 : decode cX1_nextKink 18 = .ok (.aload_n 0, 1) := dk_42 (dk_at dksX1_nextKink_0 18 rfl rfl)
theorem dX1_nextKink_19 : decode cX1_nextKink 19 = .ok (.iload_n 1, 1) := dk_27 (dk_at dksX1_nextKink_0 19 rfl rfl)
theorem dX1_nextKink_20 : decode cX1_nextKink 20 = .ok (.invokevirtual 332, 3) := dk_182 1 76 (dk_at dksX1_nextKink_0 20 rfl rfl)
theorem dX1_nextKink_23 : decode cX1_nextKink 23 = .ok (.iload_n 2, 1) := dk_28 (dk_at dksX1_nextKink_0 23 rfl rfl)
theorem dX1_nextKink_24 : decode cX1_nextKink 24 = .ok (.ifCond .ge 7, 3) := dk_156 0 7 (dk_at dksX1_nextKink_1 0 rfl rfl)
theorem dX1_nextKink_27 : decode cX1_nextKink 27 = .ok (.iconst 0, 1) := dk_3 (dk_at dksX1_nextKink_1 3 rfl rfl)
theorem dX1_nextKink_28 : decode cX1_nextKink 28 = .ok (.goto 6, 3) := dk_167 0 6 (dk_at dksX1_nextKink_1 4 rfl rfl)
theorem dX1_nextKink_31 : decode cX1_nextKink 31 = .ok (.iload_n 3, 1) := dk_29 (dk_at dksX1_nextKink_1 7 rfl rfl)
theorem dX1_nextKink_32 : decode cX1_nextKink 32 = .ok (.iconst 1, 1) := dk_4 (dk_at dksX1_nextKink_1 8 rfl rfl)
theorem dX1_nextKink_33 : decode cX1_nextKink 33 = .ok (.iadd, 1) := dk_96 (dk_at dksX1_nextKink_1 9 rfl rfl)
theorem dX1_nextKink_34 : decode cX1_nextKink 34 = .ok (.invokevirtual 342, 3) := dk_182 1 86 (dk_at dksX1_nextKink_1 10 rfl rfl)
theorem dX1_nextKink_37 : decode cX1_nextKink 37 = .ok (.istore 4, 2) := dk_54 4 (dk_at dksX1_nextKink_1 13 rfl rfl)
theorem dX1_nextKink_39 : decode cX1_nextKink 39 = .ok (.iload 4, 2) := dk_21 4 (dk_at dksX1_nextKink_1 15 rfl rfl)
theorem dX1_nextKink_41 : decode cX1_nextKink 41 = .ok (.ifCond .lt 7, 3) := dk_155 0 7 (dk_at dksX1_nextKink_1 17 rfl rfl)
theorem dX1_nextKink_44 : decode cX1_nextKink 44 = .ok (.iconst 1, 1) := dk_4 (dk_at dksX1_nextKink_1 20 rfl rfl)
theorem dX1_nextKink_45 : decode cX1_nextKink 45 = .ok (.goto 4, 3) := dk_167 0 4 (dk_at dksX1_nextKink_1 21 rfl rfl)
theorem dX1_nextKink_48 : decode cX1_nextKink 48 = .ok (.iconst 0, 1) := dk_3 (dk_at dksX1_nextKink_2 0 rfl rfl)
theorem dX1_nextKink_49 : decode cX1_nextKink 49 = .ok (.invokestatic 232, 3) := dk_184 0 232 (dk_at dksX1_nextKink_2 1 rfl rfl)
theorem dX1_nextKink_52 : decode cX1_nextKink 52 = .ok (.iload 4, 2) := dk_21 4 (dk_at dksX1_nextKink_2 4 rfl rfl)
theorem dX1_nextKink_54 : decode cX1_nextKink 54 = .ok (.ireturn, 1) := dk_172 (dk_at dksX1_nextKink_2 6 rfl rfl)
abbrev cX1_kinkCause : ByteArray := prog_1_method_61_code
def yX1_kinkCause : MethodName := ⟨RX1, "kinkCause", "(II)I"⟩
def dkwX1_kinkCause_2 : List UInt8 := [167, 0, 4, 3, 184, 0, 232, 42, 27, 28, 182, 1, 97, 172]
abbrev dktX1_kinkCause_2 : List UInt8 := dkwX1_kinkCause_2 ++ []
def dkwX1_kinkCause_1 : List UInt8 := [180, 0, 22, 180, 0, 107, 180, 0, 120, 182, 0, 124, 96, 182, 1, 94, 9, 148, 153, 0, 7, 4]
abbrev dktX1_kinkCause_1 : List UInt8 := dkwX1_kinkCause_1 ++ dktX1_kinkCause_2
def dkwX1_kinkCause_0 : List UInt8 := [42, 27, 182, 0, 211, 87, 28, 4, 17, 39, 14, 184, 0, 70, 153, 0, 33, 42, 27, 28, 6, 42]
abbrev dktX1_kinkCause_0 : List UInt8 := dkwX1_kinkCause_0 ++ dktX1_kinkCause_1
theorem dksX1_kinkCause_0 : cX1_kinkCause.data.toList.drop 0 = dktX1_kinkCause_0 := by decide +kernel
theorem dksX1_kinkCause_1 : cX1_kinkCause.data.toList.drop 22 = dktX1_kinkCause_1 := dk_seg dksX1_kinkCause_0 22 rfl rfl
theorem dksX1_kinkCause_2 : cX1_kinkCause.data.toList.drop 44 = dktX1_kinkCause_2 := dk_seg dksX1_kinkCause_1 22 rfl rfl
theorem dX1_kinkCause_0 : decode cX1_kinkCause 0 = .ok (.aload_n 0, 1) := dk_42 (dk_at dksX1_kinkCause_0 0 rfl rfl)
theorem dX1_kinkCause_1 : decode cX1_kinkCause 1 = .ok (.iload_n 1, 1) := dk_27 (dk_at dksX1_kinkCause_0 1 rfl rfl)
theorem dX1_kinkCause_2 : decode cX1_kinkCause 2 = .ok (.invokevirtual 211, 3) := dk_182 0 211 (dk_at dksX1_kinkCause_0 2 rfl rfl)
theorem dX1_kinkCause_5 : decode cX1_kinkCause 5 = .ok (.pop, 1) := dk_87 (dk_at dksX1_kinkCause_0 5 rfl rfl)
theorem dX1_kinkCause_6 : decode cX1_kinkCause 6 = .ok (.iload_n 2, 1) := dk_28 (dk_at dksX1_kinkCause_0 6 rfl rfl)
theorem dX1_kinkCause_7 : decode cX1_kinkCause 7 = .ok (.iconst 1, 1) := dk_4 (dk_at dksX1_kinkCause_0 7 rfl rfl)
theorem dX1_kinkCause_8 : decode cX1_kinkCause 8 = .ok (.sipush 9998, 3) := dk_17 39 14 (dk_at dksX1_kinkCause_0 8 rfl rfl)
theorem dX1_kinkCause_11 : decode cX1_kinkCause 11 = .ok (.invokestatic 70, 3) := dk_184 0 70 (dk_at dksX1_kinkCause_0 11 rfl rfl)
theorem dX1_kinkCause_14 : decode cX1_kinkCause 14 = .ok (.ifCond .eq 33, 3) := dk_153 0 33 (dk_at dksX1_kinkCause_0 14 rfl rfl)
theorem dX1_kinkCause_17 : decode cX1_kinkCause 17 = .ok (.aload_n 0, 1) := dk_42 (dk_at dksX1_kinkCause_0 17 rfl rfl)
theorem dX1_kinkCause_18 : decode cX1_kinkCause 18 = .ok (.iload_n 1, 1) := dk_27 (dk_at dksX1_kinkCause_0 18 rfl rfl)
theorem dX1_kinkCause_19 : decode cX1_kinkCause 19 = .ok (.iload_n 2, 1) := dk_28 (dk_at dksX1_kinkCause_0 19 rfl rfl)
theorem dX1_kinkCause_20 : decode cX1_kinkCause 20 = .ok (.iconst 3, 1) := dk_6 (dk_at dksX1_kinkCause_0 20 rfl rfl)
theorem dX1_kinkCause_21 : decode cX1_kinkCause 21 = .ok (.aload_n 0, 1) := dk_42 (dk_at dksX1_kinkCause_0 21 rfl rfl)
theorem dX1_kinkCause_22 : decode cX1_kinkCause 22 = .ok (.getfield 22, 3) := dk_180 0 22 (dk_at dksX1_kinkCause_1 0 rfl rfl)
theorem dX1_kinkCause_25 : decode cX1_kinkCause 25 = .ok (.getfield 107, 3) := dk_180 0 107 (dk_at dksX1_kinkCause_1 3 rfl rfl)
theorem dX1_kinkCause_28 : decode cX1_kinkCause 28 = .ok (.getfield 120, 3) := dk_180 0 120 (dk_at dksX1_kinkCause_1 6 rfl rfl)
theorem dX1_kinkCause_31 : decode cX1_kinkCause 31 = .ok (.invokevirtual 124, 3) := dk_182 0 124 (dk_at dksX1_kinkCause_1 9 rfl rfl)
theorem dX1_kinkCause_34 : decode cX1_kinkCause 34 = .ok (.iadd, 1) := dk_96 (dk_at dksX1_kinkCause_1 12 rfl rfl)
theorem dX1_kinkCause_35 : decode cX1_kinkCause 35 = .ok (.invokevirtual 350, 3) := dk_182 1 94 (dk_at dksX1_kinkCause_1 13 rfl rfl)
theorem dX1_kinkCause_38 : decode cX1_kinkCause 38 = .ok (.lconst 0, 1) := dk_9 (dk_at dksX1_kinkCause_1 16 rfl rfl)
theorem dX1_kinkCause_39 : decode cX1_kinkCause 39 = .ok (.lcmp, 1) := dk_148 (dk_at dksX1_kinkCause_1 17 rfl rfl)
theorem dX1_kinkCause_40 : decode cX1_kinkCause 40 = .ok (.ifCond .eq 7, 3) := dk_153 0 7 (dk_at dksX1_kinkCause_1 18 rfl rfl)
theorem dX1_kinkCause_43 : decode cX1_kinkCause 43 = .ok (.iconst 1, 1) := dk_4 (dk_at dksX1_kinkCause_1 21 rfl rfl)
theorem dX1_kinkCause_44 : decode cX1_kinkCause 44 = .ok (.goto 4, 3) := dk_167 0 4 (dk_at dksX1_kinkCause_2 0 rfl rfl)
theorem dX1_kinkCause_47 : decode cX1_kinkCause 47 = .ok (.iconst 0, 1) := dk_3 (dk_at dksX1_kinkCause_2 3 rfl rfl)
theorem dX1_kinkCause_48 : decode cX1_kinkCause 48 = .ok (.invokestatic 232, 3) := dk_184 0 232 (dk_at dksX1_kinkCause_2 4 rfl rfl)
theorem dX1_kinkCause_51 : decode cX1_kinkCause 51 = .ok (.aload_n 0, 1) := dk_42 (dk_at dksX1_kinkCause_2 7 rfl rfl)
theorem dX1_kinkCause_52 : decode cX1_kinkCause 52 = .ok (.iload_n 1, 1) := dk_27 (dk_at dksX1_kinkCause_2 8 rfl rfl)
theorem dX1_kinkCause_53 : decode cX1_kinkCause 53 = .ok (.iload_n 2, 1) := dk_28 (dk_at dksX1_kinkCause_2 9 rfl rfl)
theorem dX1_kinkCause_54 : decode cX1_kinkCause 54 = .ok (.invokevirtual 353, 3) := dk_182 1 97 (dk_at dksX1_kinkCause_2 10 rfl rfl)
theorem dX1_kinkCause_57 : decode cX1_kinkCause 57 = .ok (.ireturn, 1) := dk_172 (dk_at dksX1_kinkCause_2 13 rfl rfl)
abbrev cX1_bend : ByteArray := prog_1_method_59_code
def yX1_bend : MethodName := ⟨RX1, "bend", "(III)J"⟩
def dkwX1_bend_2 : List UInt8 := [4, 96, 182, 1, 67, 88, 22, 4, 42, 180, 0, 38, 29, 182, 1, 89, 101, 173]
abbrev dktX1_bend_2 : List UInt8 := dkwX1_bend_2 ++ []
def dkwX1_bend_1 : List UInt8 := [182, 1, 67, 88, 22, 4, 20, 1, 92, 42, 180, 0, 38, 29, 182, 1, 89, 105, 97, 55, 4, 42, 27, 28]
abbrev dktX1_bend_1 : List UInt8 := dkwX1_bend_1 ++ dktX1_bend_2
def dkwX1_bend_0 : List UInt8 := [42, 27, 28, 4, 100, 182, 1, 67, 88, 42, 180, 0, 38, 29, 182, 1, 89, 117, 55, 4, 42, 27, 28]
abbrev dktX1_bend_0 : List UInt8 := dkwX1_bend_0 ++ dktX1_bend_1
theorem dksX1_bend_0 : cX1_bend.data.toList.drop 0 = dktX1_bend_0 := by decide +kernel
theorem dksX1_bend_1 : cX1_bend.data.toList.drop 23 = dktX1_bend_1 := dk_seg dksX1_bend_0 23 rfl rfl
theorem dksX1_bend_2 : cX1_bend.data.toList.drop 47 = dktX1_bend_2 := dk_seg dksX1_bend_1 24 rfl rfl
theorem dX1_bend_0 : decode cX1_bend 0 = .ok (.aload_n 0, 1) := dk_42 (dk_at dksX1_bend_0 0 rfl rfl)
theorem dX1_bend_1 : decode cX1_bend 1 = .ok (.iload_n 1, 1) := dk_27 (dk_at dksX1_bend_0 1 rfl rfl)
theorem dX1_bend_2 : decode cX1_bend 2 = .ok (.iload_n 2, 1) := dk_28 (dk_at dksX1_bend_0 2 rfl rfl)
theorem dX1_bend_3 : decode cX1_bend 3 = .ok (.iconst 1, 1) := dk_4 (dk_at dksX1_bend_0 3 rfl rfl)
theorem dX1_bend_4 : decode cX1_bend 4 = .ok (.isub, 1) := dk_100 (dk_at dksX1_bend_0 4 rfl rfl)
theorem dX1_bend_5 : decode cX1_bend 5 = .ok (.invokevirtual 323, 3) := dk_182 1 67 (dk_at dksX1_bend_0 5 rfl rfl)
theorem dX1_bend_8 : decode cX1_bend 8 = .ok (.pop2, 1) := dk_88 (dk_at dksX1_bend_0 8 rfl rfl)
theorem dX1_bend_9 : decode cX1_bend 9 = .ok (.aload_n 0, 1) := dk_42 (dk_at dksX1_bend_0 9 rfl rfl)
theorem dX1_bend_10 : decode cX1_bend 10 = .ok (.getfield 38, 3) := dk_180 0 38 (dk_at dksX1_bend_0 10 rfl rfl)
theorem dX1_bend_13 : decode cX1_bend 13 = .ok (.iload_n 3, 1) := dk_29 (dk_at dksX1_bend_0 13 rfl rfl)
theorem dX1_bend_14 : decode cX1_bend 14 = .ok (.invokevirtual 345, 3) := dk_182 1 89 (dk_at dksX1_bend_0 14 rfl rfl)
theorem dX1_bend_17 : decode cX1_bend 17 = .ok (.lneg, 1) := dk_117 (dk_at dksX1_bend_0 17 rfl rfl)
theorem dX1_bend_18 : decode cX1_bend 18 = .ok (.lstore 4, 2) := dk_55 4 (dk_at dksX1_bend_0 18 rfl rfl)
theorem dX1_bend_20 : decode cX1_bend 20 = .ok (.aload_n 0, 1) := dk_42 (dk_at dksX1_bend_0 20 rfl rfl)
theorem dX1_bend_21 : decode cX1_bend 21 = .ok (.iload_n 1, 1) := dk_27 (dk_at dksX1_bend_0 21 rfl rfl)
theorem dX1_bend_22 : decode cX1_bend 22 = .ok (.iload_n 2, 1) := dk_28 (dk_at dksX1_bend_0 22 rfl rfl)
theorem dX1_bend_23 : decode cX1_bend 23 = .ok (.invokevirtual 323, 3) := dk_182 1 67 (dk_at dksX1_bend_1 0 rfl rfl)
theorem dX1_bend_26 : decode cX1_bend 26 = .ok (.pop2, 1) := dk_88 (dk_at dksX1_bend_1 3 rfl rfl)
theorem dX1_bend_27 : decode cX1_bend 27 = .ok (.lload 4, 2) := dk_22 4 (dk_at dksX1_bend_1 4 rfl rfl)
theorem dX1_bend_29 : decode cX1_bend 29 = .ok (.ldc2_w 348, 3) := dk_20 1 92 (dk_at dksX1_bend_1 6 rfl rfl)
theorem dX1_bend_32 : decode cX1_bend 32 = .ok (.aload_n 0, 1) := dk_42 (dk_at dksX1_bend_1 9 rfl rfl)
theorem dX1_bend_33 : decode cX1_bend 33 = .ok (.getfield 38, 3) := dk_180 0 38 (dk_at dksX1_bend_1 10 rfl rfl)
theorem dX1_bend_36 : decode cX1_bend 36 = .ok (.iload_n 3, 1) := dk_29 (dk_at dksX1_bend_1 13 rfl rfl)
theorem dX1_bend_37 : decode cX1_bend 37 = .ok (.invokevirtual 345, 3) := dk_182 1 89 (dk_at dksX1_bend_1 14 rfl rfl)
theorem dX1_bend_40 : decode cX1_bend 40 = .ok (.lmul, 1) := dk_105 (dk_at dksX1_bend_1 17 rfl rfl)
theorem dX1_bend_41 : decode cX1_bend 41 = .ok (.ladd, 1) := dk_97 (dk_at dksX1_bend_1 18 rfl rfl)
theorem dX1_bend_42 : decode cX1_bend 42 = .ok (.lstore 4, 2) := dk_55 4 (dk_at dksX1_bend_1 19 rfl rfl)
theorem dX1_bend_44 : decode cX1_bend 44 = .ok (.aload_n 0, 1) := dk_42 (dk_at dksX1_bend_1 21 rfl rfl)
theorem dX1_bend_45 : decode cX1_bend 45 = .ok (.iload_n 1, 1) := dk_27 (dk_at dksX1_bend_1 22 rfl rfl)
theorem dX1_bend_46 : decode cX1_bend 46 = .ok (.iload_n 2, 1) := dk_28 (dk_at dksX1_bend_1 23 rfl rfl)
theorem dX1_bend_47 : decode cX1_bend 47 = .ok (.iconst 1, 1) := dk_4 (dk_at dksX1_bend_2 0 rfl rfl)
theorem dX1_bend_48 : decode cX1_bend 48 = .ok (.iadd, 1) := dk_96 (dk_at dksX1_bend_2 1 rfl rfl)
theorem dX1_bend_49 : decode cX1_bend 49 = .ok (.invokevirtual 323, 3) := dk_182 1 67 (dk_at dksX1_bend_2 2 rfl rfl)
theorem dX1_bend_52 : decode cX1_bend 52 = .ok (.pop2, 1) := dk_88 (dk_at dksX1_bend_2 5 rfl rfl)
theorem dX1_bend_53 : decode cX1_bend 53 = .ok (.lload 4, 2) := dk_22 4 (dk_at dksX1_bend_2 6 rfl rfl)
theorem dX1_bend_55 : decode cX1_bend 55 = .ok (.aload_n 0, 1) := dk_42 (dk_at dksX1_bend_2 8 rfl rfl)
theorem dX1_bend_56 : decode cX1_bend 56 = .ok (.getfield 38, 3) := dk_180 0 38 (dk_at dksX1_bend_2 9 rfl rfl)
theorem dX1_bend_59 : decode cX1_bend 59 = .ok (.iload_n 3, 1) := dk_29 (dk_at dksX1_bend_2 12 rfl rfl)
theorem dX1_bend_60 : decode cX1_bend 60 = .ok (.invokevirtual 345, 3) := dk_182 1 89 (dk_at dksX1_bend_2 13 rfl rfl)
theorem dX1_bend_63 : decode cX1_bend 63 = .ok (.lsub, 1) := dk_101 (dk_at dksX1_bend_2 16 rfl rfl)
theorem dX1_bend_64 : decode cX1_bend 64 = .ok (.lreturn, 1) := dk_173 (dk_at dksX1_bend_2 17 rfl rfl)
abbrev cX1_causeOf : ByteArray := prog_1_method_60_code
def yX1_causeOf : MethodName := ⟨RX1, "causeOf", "(II)I"⟩
def dkwX1_causeOf_2 : List UInt8 := [167, 255, 231, 29, 4, 100, 172]
abbrev dktX1_causeOf_2 : List UInt8 := dkwX1_causeOf_2 ++ []
def dkwX1_causeOf_1 : List UInt8 := [162, 0, 25, 42, 27, 28, 21, 4, 182, 1, 94, 9, 148, 153, 0, 6, 21, 4, 172, 132, 4, 1]
abbrev dktX1_causeOf_1 : List UInt8 := dkwX1_causeOf_1 ++ dktX1_causeOf_2
def dkwX1_causeOf_0 : List UInt8 := [7, 42, 180, 0, 22, 180, 0, 107, 180, 0, 120, 182, 0, 124, 96, 62, 3, 54, 4, 21, 4, 29]
abbrev dktX1_causeOf_0 : List UInt8 := dkwX1_causeOf_0 ++ dktX1_causeOf_1
theorem dksX1_causeOf_0 : cX1_causeOf.data.toList.drop 0 = dktX1_causeOf_0 := by decide +kernel
theorem dksX1_causeOf_1 : cX1_causeOf.data.toList.drop 22 = dktX1_causeOf_1 := dk_seg dksX1_causeOf_0 22 rfl rfl
theorem dksX1_causeOf_2 : cX1_causeOf.data.toList.drop 44 = dktX1_causeOf_2 := dk_seg dksX1_causeOf_1 22 rfl rfl
theorem dX1_causeOf_0 : decode cX1_causeOf 0 = .ok (.iconst 4, 1) := dk_7 (dk_at dksX1_causeOf_0 0 rfl rfl)
theorem dX1_causeOf_1 : decode cX1_causeOf 1 = .ok (.aload_n 0, 1) := dk_42 (dk_at dksX1_causeOf_0 1 rfl rfl)
theorem dX1_causeOf_2 : decode cX1_causeOf 2 = .ok (.getfield 22, 3) := dk_180 0 22 (dk_at dksX1_causeOf_0 2 rfl rfl)
theorem dX1_causeOf_5 : decode cX1_causeOf 5 = .ok (.getfield 107, 3) := dk_180 0 107 (dk_at dksX1_causeOf_0 5 rfl rfl)
theorem dX1_causeOf_8 : decode cX1_causeOf 8 = .ok (.getfield 120, 3) := dk_180 0 120 (dk_at dksX1_causeOf_0 8 rfl rfl)
theorem dX1_causeOf_11 : decode cX1_causeOf 11 = .ok (.invokevirtual 124, 3) := dk_182 0 124 (dk_at dksX1_causeOf_0 11 rfl rfl)
theorem dX1_causeOf_14 : decode cX1_causeOf 14 = .ok (.iadd, 1) := dk_96 (dk_at dksX1_causeOf_0 14 rfl rfl)
theorem dX1_causeOf_15 : decode cX1_causeOf 15 = .ok (.istore_n 3, 1) := dk_62 (dk_at dksX1_causeOf_0 15 rfl rfl)
theorem dX1_causeOf_16 : decode cX1_causeOf 16 = .ok (.iconst 0, 1) := dk_3 (dk_at dksX1_causeOf_0 16 rfl rfl)
theorem dX1_causeOf_17 : decode cX1_causeOf 17 = .ok (.istore 4, 2) := dk_54 4 (dk_at dksX1_causeOf_0 17 rfl rfl)
theorem dX1_causeOf_19 : decode cX1_causeOf 19 = .ok (.iload 4, 2) := dk_21 4 (dk_at dksX1_causeOf_0 19 rfl rfl)
theorem dX1_causeOf_21 : decode cX1_causeOf 21 = .ok (.iload_n 3, 1) := dk_29 (dk_at dksX1_causeOf_0 21 rfl rfl)
theorem dX1_causeOf_22 : decode cX1_causeOf 22 = .ok (.if_icmp .ge 25, 3) := dk_162 0 25 (dk_at dksX1_causeOf_1 0 rfl rfl)
theorem dX1_causeOf_25 : decode cX1_causeOf 25 = .ok (.aload_n 0, 1) := dk_42 (dk_at dksX1_causeOf_1 3 rfl rfl)
theorem dX1_causeOf_26 : decode cX1_causeOf 26 = .ok (.iload_n 1, 1) := dk_27 (dk_at dksX1_causeOf_1 4 rfl rfl)
theorem dX1_causeOf_27 : decode cX1_causeOf 27 = .ok (.iload_n 2, 1) := dk_28 (dk_at dksX1_causeOf_1 5 rfl rfl)
theorem dX1_causeOf_28 : decode cX1_causeOf 28 = .ok (.iload 4, 2) := dk_21 4 (dk_at dksX1_causeOf_1 6 rfl rfl)
theorem dX1_causeOf_30 : decode cX1_causeOf 30 = .ok (.invokevirtual 350, 3) := dk_182 1 94 (dk_at dksX1_causeOf_1 8 rfl rfl)
theorem dX1_causeOf_33 : decode cX1_causeOf 33 = .ok (.lconst 0, 1) := dk_9 (dk_at dksX1_causeOf_1 11 rfl rfl)
theorem dX1_causeOf_34 : decode cX1_causeOf 34 = .ok (.lcmp, 1) := dk_148 (dk_at dksX1_causeOf_1 12 rfl rfl)
theorem dX1_causeOf_35 : decode cX1_causeOf 35 = .ok (.ifCond .eq 6, 3) := dk_153 0 6 (dk_at dksX1_causeOf_1 13 rfl rfl)
theorem dX1_causeOf_38 : decode cX1_causeOf 38 = .ok (.iload 4, 2) := dk_21 4 (dk_at dksX1_causeOf_1 16 rfl rfl)
theorem dX1_causeOf_40 : decode cX1_causeOf 40 = .ok (.ireturn, 1) := dk_172 (dk_at dksX1_causeOf_1 18 rfl rfl)
theorem dX1_causeOf_41 : decode cX1_causeOf 41 = .ok (.iinc 4 1, 3) := dk_132 4 1 (dk_at dksX1_causeOf_1 19 rfl rfl)
theorem dX1_causeOf_44 : decode cX1_causeOf 44 = .ok (.goto (-25), 3) := dk_167 255 231 (dk_at dksX1_causeOf_2 0 rfl rfl)
theorem dX1_causeOf_47 : decode cX1_causeOf 47 = .ok (.iload_n 3, 1) := dk_29 (dk_at dksX1_causeOf_2 3 rfl rfl)
theorem dX1_causeOf_48 : decode cX1_causeOf 48 = .ok (.iconst 1, 1) := dk_4 (dk_at dksX1_causeOf_2 4 rfl rfl)
theorem dX1_causeOf_49 : decode cX1_causeOf 49 = .ok (.isub, 1) := dk_100 (dk_at dksX1_causeOf_2 5 rfl rfl)
theorem dX1_causeOf_50 : decode cX1_causeOf 50 = .ok (.ireturn, 1) := dk_172 (dk_at dksX1_causeOf_2 6 rfl rfl)
abbrev cX1_steepest : ByteArray := prog_1_method_62_code
def yX1_steepest : MethodName := ⟨RX1, "steepest", "(I)I"⟩
def dkwX1_steepest_3 : List UInt8 := [22, 8, 66, 132, 7, 1, 167, 255, 203, 28, 172]
abbrev dktX1_steepest_3 : List UInt8 := dkwX1_steepest_3 ++ []
def dkwX1_steepest_2 : List UInt8 := [22, 5, 148, 158, 0, 8, 21, 7, 167, 0, 4, 28, 61, 22, 5, 22, 8, 33, 101, 184, 1, 104, 55, 5]
abbrev dktX1_steepest_2 : List UInt8 := dkwX1_steepest_2 ++ dktX1_steepest_3
def dkwX1_steepest_1 : List UInt8 := [21, 7, 17, 39, 15, 162, 0, 51, 42, 27, 21, 7, 4, 96, 182, 1, 67, 55, 8, 22, 8, 33, 101]
abbrev dktX1_steepest_1 : List UInt8 := dkwX1_steepest_1 ++ dktX1_steepest_2
def dkwX1_steepest_0 : List UInt8 := [42, 27, 182, 0, 211, 87, 3, 61, 42, 27, 3, 182, 1, 67, 66, 20, 1, 102, 55, 5, 3, 54, 7]
abbrev dktX1_steepest_0 : List UInt8 := dkwX1_steepest_0 ++ dktX1_steepest_1
theorem dksX1_steepest_0 : cX1_steepest.data.toList.drop 0 = dktX1_steepest_0 := by decide +kernel
theorem dksX1_steepest_1 : cX1_steepest.data.toList.drop 23 = dktX1_steepest_1 := dk_seg dksX1_steepest_0 23 rfl rfl
theorem dksX1_steepest_2 : cX1_steepest.data.toList.drop 46 = dktX1_steepest_2 := dk_seg dksX1_steepest_1 23 rfl rfl
theorem dksX1_steepest_3 : cX1_steepest.data.toList.drop 70 = dktX1_steepest_3 := dk_seg dksX1_steepest_2 24 rfl rfl
theorem dX1_steepest_0 : decode cX1_steepest 0 = .ok (.aload_n 0, 1) := dk_42 (dk_at dksX1_steepest_0 0 rfl rfl)
theorem dX1_steepest_1 : decode cX1_steepest 1 = .ok (.iload_n 1, 1) := dk_27 (dk_at dksX1_steepest_0 1 rfl rfl)
theorem dX1_steepest_2 : decode cX1_steepest 2 = .ok (.invokevirtual 211, 3) := dk_182 0 211 (dk_at dksX1_steepest_0 2 rfl rfl)
theorem dX1_steepest_5 : decode cX1_steepest 5 = .ok (.pop, 1) := dk_87 (dk_at dksX1_steepest_0 5 rfl rfl)
theorem dX1_steepest_6 : decode cX1_steepest 6 = .ok (.iconst 0, 1) := dk_3 (dk_at dksX1_steepest_0 6 rfl rfl)
theorem dX1_steepest_7 : decode cX1_steepest 7 = .ok (.istore_n 2, 1) := dk_61 (dk_at dksX1_steepest_0 7 rfl rfl)
theorem dX1_steepest_8 : decode cX1_steepest 8 = .ok (.aload_n 0, 1) := dk_42 (dk_at dksX1_steepest_0 8 rfl rfl)
theorem dX1_steepest_9 : decode cX1_steepest 9 = .ok (.iload_n 1, 1) := dk_27 (dk_at dksX1_steepest_0 9 rfl rfl)
theorem dX1_steepest_10 : decode cX1_steepest 10 = .ok (.iconst 0, 1) := dk_3 (dk_at dksX1_steepest_0 10 rfl rfl)
theorem dX1_steepest_11 : decode cX1_steepest 11 = .ok (.invokevirtual 323, 3) := dk_182 1 67 (dk_at dksX1_steepest_0 11 rfl rfl)
theorem dX1_steepest_14 : decode cX1_steepest 14 = .ok (.lstore_n 3, 1) := dk_66 (dk_at dksX1_steepest_0 14 rfl rfl)
theorem dX1_steepest_15 : decode cX1_steepest 15 = .ok (.ldc2_w 358, 3) := dk_20 1 102 (dk_at dksX1_steepest_0 15 rfl rfl)
theorem dX1_steepest_18 : decode cX1_steepest 18 = .ok (.lstore 5, 2) := dk_55 5 (dk_at dksX1_steepest_0 18 rfl rfl)
theorem dX1_steepest_20 : decode cX1_steepest 20 = .ok (.iconst 0, 1) := dk_3 (dk_at dksX1_steepest_0 20 rfl rfl)
theorem dX1_steepest_21 : decode cX1_steepest 21 = .ok (.istore 7, 2) := dk_54 7 (dk_at dksX1_steepest_0 21 rfl rfl)
theorem dX1_steepest_23 : decode cX1_steepest 23 = .ok (.iload 7, 2) := dk_21 7 (dk_at dksX1_steepest_1 0 rfl rfl)
theorem dX1_steepest_25 : decode cX1_steepest 25 = .ok (.sipush 9999, 3) := dk_17 39 15 (dk_at dksX1_steepest_1 2 rfl rfl)
theorem dX1_steepest_28 : decode cX1_steepest 28 = .ok (.if_icmp .ge 51, 3) := dk_162 0 51 (dk_at dksX1_steepest_1 5 rfl rfl)
theorem dX1_steepest_31 : decode cX1_steepest 31 = .ok (.aload_n 0, 1) := dk_42 (dk_at dksX1_steepest_1 8 rfl rfl)
theorem dX1_steepest_32 : decode cX1_steepest 32 = .ok (.iload_n 1, 1) := dk_27 (dk_at dksX1_steepest_1 9 rfl rfl)
theorem dX1_steepest_33 : decode cX1_steepest 33 = .ok (.iload 7, 2) := dk_21 7 (dk_at dksX1_steepest_1 10 rfl rfl)
theorem dX1_steepest_35 : decode cX1_steepest 35 = .ok (.iconst 1, 1) := dk_4 (dk_at dksX1_steepest_1 12 rfl rfl)
theorem dX1_steepest_36 : decode cX1_steepest 36 = .ok (.iadd, 1) := dk_96 (dk_at dksX1_steepest_1 13 rfl rfl)
theorem dX1_steepest_37 : decode cX1_steepest 37 = .ok (.invokevirtual 323, 3) := dk_182 1 67 (dk_at dksX1_steepest_1 14 rfl rfl)
theorem dX1_steepest_40 : decode cX1_steepest 40 = .ok (.lstore 8, 2) := dk_55 8 (dk_at dksX1_steepest_1 17 rfl rfl)
theorem dX1_steepest_42 : decode cX1_steepest 42 = .ok (.lload 8, 2) := dk_22 8 (dk_at dksX1_steepest_1 19 rfl rfl)
theorem dX1_steepest_44 : decode cX1_steepest 44 = .ok (.lload_n 3, 1) := dk_33 (dk_at dksX1_steepest_1 21 rfl rfl)
theorem dX1_steepest_45 : decode cX1_steepest 45 = .ok (.lsub, 1) := dk_101 (dk_at dksX1_steepest_1 22 rfl rfl)
theorem dX1_steepest_46 : decode cX1_steepest 46 = .ok (.lload 5, 2) := dk_22 5 (dk_at dksX1_steepest_2 0 rfl rfl)
theorem dX1_steepest_48 : decode cX1_steepest 48 = .ok (.lcmp, 1) := dk_148 (dk_at dksX1_steepest_2 2 rfl rfl)
theorem dX1_steepest_49 : decode cX1_steepest 49 = .ok (.ifCond .le 8, 3) := dk_158 0 8 (dk_at dksX1_steepest_2 3 rfl rfl)
theorem dX1_steepest_52 : decode cX1_steepest 52 = .ok (.iload 7, 2) := dk_21 7 (dk_at dksX1_steepest_2 6 rfl rfl)
theorem dX1_steepest_54 : decode cX1_steepest 54 = .ok (.goto 4, 3) := dk_167 0 4 (dk_at dksX1_steepest_2 8 rfl rfl)
theorem dX1_steepest_57 : decode cX1_steepest 57 = .ok (.iload_n 2, 1) := dk_28 (dk_at dksX1_steepest_2 11 rfl rfl)
theorem dX1_steepest_58 : decode cX1_steepest 58 = .ok (.istore_n 2, 1) := dk_61 (dk_at dksX1_steepest_2 12 rfl rfl)
theorem dX1_steepest_59 : decode cX1_steepest 59 = .ok (.lload 5, 2) := dk_22 5 (dk_at dksX1_steepest_2 13 rfl rfl)
theorem dX1_steepest_61 : decode cX1_steepest 61 = .ok (.lload 8, 2) := dk_22 8 (dk_at dksX1_steepest_2 15 rfl rfl)
theorem dX1_steepest_63 : decode cX1_steepest 63 = .ok (.lload_n 3, 1) := dk_33 (dk_at dksX1_steepest_2 17 rfl rfl)
theorem dX1_steepest_64 : decode cX1_steepest 64 = .ok (.lsub, 1) := dk_101 (dk_at dksX1_steepest_2 18 rfl rfl)
theorem dX1_steepest_65 : decode cX1_steepest 65 = .ok (.invokestatic 360, 3) := dk_184 1 104 (dk_at dksX1_steepest_2 19 rfl rfl)
theorem dX1_steepest_68 : decode cX1_steepest 68 = .ok (.lstore 5, 2) := dk_55 5 (dk_at dksX1_steepest_2 22 rfl rfl)
theorem dX1_steepest_70 : decode cX1_steepest 70 = .ok (.lload 8, 2) := dk_22 8 (dk_at dksX1_steepest_3 0 rfl rfl)
theorem dX1_steepest_72 : decode cX1_steepest 72 = .ok (.lstore_n 3, 1) := dk_66 (dk_at dksX1_steepest_3 2 rfl rfl)
theorem dX1_steepest_73 : decode cX1_steepest 73 = .ok (.iinc 7 1, 3) := dk_132 7 1 (dk_at dksX1_steepest_3 3 rfl rfl)
theorem dX1_steepest_76 : decode cX1_steepest 76 = .ok (.goto (-53), 3) := dk_167 255 203 (dk_at dksX1_steepest_3 6 rfl rfl)
theorem dX1_steepest_79 : decode cX1_steepest 79 = .ok (.iload_n 2, 1) := dk_28 (dk_at dksX1_steepest_3 9 rfl rfl)
theorem dX1_steepest_80 : decode cX1_steepest 80 = .ok (.ireturn, 1) := dk_172 (dk_at dksX1_steepest_3 10 rfl rfl)
abbrev cX1_averageRate : ByteArray := prog_1_method_63_code
def yX1_averageRate : MethodName := ⟨RX1, "averageRate", "(I)D"⟩
def dkwX1_averageRate_1 : List UInt8 := [187, 1, 106, 89, 183, 1, 108, 191, 42, 27, 182, 1, 8, 138, 20, 1, 109, 33, 105, 138, 111, 175]
abbrev dktX1_averageRate_1 : List UInt8 := dkwX1_averageRate_1 ++ []
def dkwX1_averageRate_0 : List UInt8 := [42, 27, 182, 0, 211, 77, 44, 180, 0, 220, 44, 180, 0, 223, 96, 133, 66, 33, 9, 148, 154, 0, 11]
abbrev dktX1_averageRate_0 : List UInt8 := dkwX1_averageRate_0 ++ dktX1_averageRate_1
theorem dksX1_averageRate_0 : cX1_averageRate.data.toList.drop 0 = dktX1_averageRate_0 := by decide +kernel
theorem dksX1_averageRate_1 : cX1_averageRate.data.toList.drop 23 = dktX1_averageRate_1 := dk_seg dksX1_averageRate_0 23 rfl rfl
theorem dX1_averageRate_0 : decode cX1_averageRate 0 = .ok (.aload_n 0, 1) := dk_42 (dk_at dksX1_averageRate_0 0 rfl rfl)
theorem dX1_averageRate_1 : decode cX1_averageRate 1 = .ok (.iload_n 1, 1) := dk_27 (dk_at dksX1_averageRate_0 1 rfl rfl)
theorem dX1_averageRate_2 : decode cX1_averageRate 2 = .ok (.invokevirtual 211, 3) := dk_182 0 211 (dk_at dksX1_averageRate_0 2 rfl rfl)
theorem dX1_averageRate_5 : decode cX1_averageRate 5 = .ok (.astore_n 2, 1) := dk_77 (dk_at dksX1_averageRate_0 5 rfl rfl)
theorem dX1_averageRate_6 : decode cX1_averageRate 6 = .ok (.aload_n 2, 1) := dk_44 (dk_at dksX1_averageRate_0 6 rfl rfl)
theorem dX1_averageRate_7 : decode cX1_averageRate 7 = .ok (.getfield 220, 3) := dk_180 0 220 (dk_at dksX1_averageRate_0 7 rfl rfl)
theorem dX1_averageRate_10 : decode cX1_averageRate 10 = .ok (.aload_n 2, 1) := dk_44 (dk_at dksX1_averageRate_0 10 rfl rfl)
theorem dX1_averageRate_11 : decode cX1_averageRate 11 = .ok (.getfield 223, 3) := dk_180 0 223 (dk_at dksX1_averageRate_0 11 rfl rfl)
theorem dX1_averageRate_14 : decode cX1_averageRate 14 = .ok (.iadd, 1) := dk_96 (dk_at dksX1_averageRate_0 14 rfl rfl)
theorem dX1_averageRate_15 : decode cX1_averageRate 15 = .ok (.i2l, 1) := dk_133 (dk_at dksX1_averageRate_0 15 rfl rfl)
theorem dX1_averageRate_16 : decode cX1_averageRate 16 = .ok (.lstore_n 3, 1) := dk_66 (dk_at dksX1_averageRate_0 16 rfl rfl)
theorem dX1_averageRate_17 : decode cX1_averageRate 17 = .ok (.lload_n 3, 1) := dk_33 (dk_at dksX1_averageRate_0 17 rfl rfl)
theorem dX1_averageRate_18 : decode cX1_averageRate 18 = .ok (.lconst 0, 1) := dk_9 (dk_at dksX1_averageRate_0 18 rfl rfl)
theorem dX1_averageRate_19 : decode cX1_averageRate 19 = .ok (.lcmp, 1) := dk_148 (dk_at dksX1_averageRate_0 19 rfl rfl)
theorem dX1_averageRate_20 : decode cX1_averageRate 20 = .ok (.ifCond .ne 11, 3) := dk_154 0 11 (dk_at dksX1_averageRate_0 20 rfl rfl)
theorem dX1_averageRate_23 : decode cX1_averageRate 23 = .ok (.new 362, 3) := dk_187 1 106 (dk_at dksX1_averageRate_1 0 rfl rfl)
theorem dX1_averageRate_26 : decode cX1_averageRate 26 = .ok (.dup, 1) := dk_89 (dk_at dksX1_averageRate_1 3 rfl rfl)
theorem dX1_averageRate_27 : decode cX1_averageRate 27 = .ok (.invokespecial 364, 3) := dk_183 1 108 (dk_at dksX1_averageRate_1 4 rfl rfl)
theorem dX1_averageRate_30 : decode cX1_averageRate 30 = .ok (.athrow, 1) := dk_191 (dk_at dksX1_averageRate_1 7 rfl rfl)
theorem dX1_averageRate_31 : decode cX1_averageRate 31 = .ok (.aload_n 0, 1) := dk_42 (dk_at dksX1_averageRate_1 8 rfl rfl)
theorem dX1_averageRate_32 : decode cX1_averageRate 32 = .ok (.iload_n 1, 1) := dk_27 (dk_at dksX1_averageRate_1 9 rfl rfl)
theorem dX1_averageRate_33 : decode cX1_averageRate 33 = .ok (.invokevirtual 264, 3) := dk_182 1 8 (dk_at dksX1_averageRate_1 10 rfl rfl)
theorem dX1_averageRate_36 : decode cX1_averageRate 36 = .ok (.l2d, 1) := dk_138 (dk_at dksX1_averageRate_1 13 rfl rfl)
theorem dX1_averageRate_37 : decode cX1_averageRate 37 = .ok (.ldc2_w 365, 3) := dk_20 1 109 (dk_at dksX1_averageRate_1 14 rfl rfl)
theorem dX1_averageRate_40 : decode cX1_averageRate 40 = .ok (.lload_n 3, 1) := dk_33 (dk_at dksX1_averageRate_1 17 rfl rfl)
theorem dX1_averageRate_41 : decode cX1_averageRate 41 = .ok (.lmul, 1) := dk_105 (dk_at dksX1_averageRate_1 18 rfl rfl)
theorem dX1_averageRate_42 : decode cX1_averageRate 42 = .ok (.l2d, 1) := dk_138 (dk_at dksX1_averageRate_1 19 rfl rfl)
theorem dX1_averageRate_43 : decode cX1_averageRate 43 = .ok (.ddiv, 1) := dk_111 (dk_at dksX1_averageRate_1 20 rfl rfl)
theorem dX1_averageRate_44 : decode cX1_averageRate 44 = .ok (.dreturn, 1) := dk_175 (dk_at dksX1_averageRate_1 21 rfl rfl)
abbrev cX1_undo : ByteArray := prog_1_method_65_code
def yX1_undo : MethodName := ⟨RX1, "undo", "()I"⟩
def dkwX1_undo_1 : List UInt8 := [182, 1, 115, 192, 0, 19, 181, 0, 22, 42, 180, 0, 31, 182, 0, 58, 172]
abbrev dktX1_undo_1 : List UInt8 := dkwX1_undo_1 ++ []
def dkwX1_undo_0 : List UInt8 := [42, 180, 0, 31, 182, 1, 112, 154, 0, 7, 4, 167, 0, 4, 3, 184, 0, 81, 42, 42, 180, 0, 31]
abbrev dktX1_undo_0 : List UInt8 := dkwX1_undo_0 ++ dktX1_undo_1
theorem dksX1_undo_0 : cX1_undo.data.toList.drop 0 = dktX1_undo_0 := by decide +kernel
theorem dksX1_undo_1 : cX1_undo.data.toList.drop 23 = dktX1_undo_1 := dk_seg dksX1_undo_0 23 rfl rfl
theorem dX1_undo_0 : decode cX1_undo 0 = .ok (.aload_n 0, 1) := dk_42 (dk_at dksX1_undo_0 0 rfl rfl)
theorem dX1_undo_1 : decode cX1_undo 1 = .ok (.getfield 31, 3) := dk_180 0 31 (dk_at dksX1_undo_0 1 rfl rfl)
theorem dX1_undo_4 : decode cX1_undo 4 = .ok (.invokevirtual 368, 3) := dk_182 1 112 (dk_at dksX1_undo_0 4 rfl rfl)
theorem dX1_undo_7 : decode cX1_undo 7 = .ok (.ifCond .ne 7, 3) := dk_154 0 7 (dk_at dksX1_undo_0 7 rfl rfl)
theorem dX1_undo_10 : decode cX1_undo 10 = .ok (.iconst 1, 1) := dk_4 (dk_at dksX1_undo_0 10 rfl rfl)
theorem dX1_undo_11 : decode cX1_undo 11 = .ok (.goto 4, 3) := dk_167 0 4 (dk_at dksX1_undo_0 11 rfl rfl)
theorem dX1_undo_14 : decode cX1_undo 14 = .ok (.iconst 0, 1) := dk_3 (dk_at dksX1_undo_0 14 rfl rfl)
theorem dX1_undo_15 : decode cX1_undo 15 = .ok (.invokestatic 81, 3) := dk_184 0 81 (dk_at dksX1_undo_0 15 rfl rfl)
theorem dX1_undo_18 : decode cX1_undo 18 = .ok (.aload_n 0, 1) := dk_42 (dk_at dksX1_undo_0 18 rfl rfl)
theorem dX1_undo_19 : decode cX1_undo 19 = .ok (.aload_n 0, 1) := dk_42 (dk_at dksX1_undo_0 19 rfl rfl)
theorem dX1_undo_20 : decode cX1_undo 20 = .ok (.getfield 31, 3) := dk_180 0 31 (dk_at dksX1_undo_0 20 rfl rfl)
theorem dX1_undo_23 : decode cX1_undo 23 = .ok (.invokevirtual 371, 3) := dk_182 1 115 (dk_at dksX1_undo_1 0 rfl rfl)
theorem dX1_undo_26 : decode cX1_undo 26 = .ok (.checkcast 19, 3) := dk_192 0 19 (dk_at dksX1_undo_1 3 rfl rfl)
theorem dX1_undo_29 : decode cX1_undo 29 = .ok (.putfield 22, 3) := dk_181 0 22 (dk_at dksX1_undo_1 6 rfl rfl)
theorem dX1_undo_32 : decode cX1_undo 32 = .ok (.aload_n 0, 1) := dk_42 (dk_at dksX1_undo_1 9 rfl rfl)
theorem dX1_undo_33 : decode cX1_undo 33 = .ok (.getfield 31, 3) := dk_180 0 31 (dk_at dksX1_undo_1 10 rfl rfl)
theorem dX1_undo_36 : decode cX1_undo 36 = .ok (.invokevirtual 58, 3) := dk_182 0 58 (dk_at dksX1_undo_1 13 rfl rfl)
theorem dX1_undo_39 : decode cX1_undo 39 = .ok (.ireturn, 1) := dk_172 (dk_at dksX1_undo_1 16 rfl rfl)
abbrev cX1_restore : ByteArray := prog_1_method_67_code
def yX1_restore : MethodName := ⟨RX1, "restore", "()V"⟩
def dkwX1_restore_1 : List UInt8 := [177]
abbrev dktX1_restore_1 : List UInt8 := dkwX1_restore_1 ++ []
def dkwX1_restore_0 : List UInt8 := [42, 180, 1, 118, 198, 0, 7, 4, 167, 0, 4, 3, 184, 0, 81, 42, 42, 180, 1, 118, 182, 0, 54, 87]
abbrev dktX1_restore_0 : List UInt8 := dkwX1_restore_0 ++ dktX1_restore_1
theorem dksX1_restore_0 : cX1_restore.data.toList.drop 0 = dktX1_restore_0 := by decide +kernel
theorem dksX1_restore_1 : cX1_restore.data.toList.drop 24 = dktX1_restore_1 := dk_seg dksX1_restore_0 24 rfl rfl
theorem dX1_restore_0 : decode cX1_restore 0 = .ok (.aload_n 0, 1) := dk_42 (dk_at dksX1_restore_0 0 rfl rfl)
theorem dX1_restore_1 : decode cX1_restore 1 = .ok (.getfield 374, 3) := dk_180 1 118 (dk_at dksX1_restore_0 1 rfl rfl)
theorem dX1_restore_4 : decode cX1_restore 4 = .ok (.ifnull 7, 3) := dk_198 0 7 (dk_at dksX1_restore_0 4 rfl rfl)
theorem dX1_restore_7 : decode cX1_restore 7 = .ok (.iconst 1, 1) := dk_4 (dk_at dksX1_restore_0 7 rfl rfl)
theorem dX1_restore_8 : decode cX1_restore 8 = .ok (.goto 4, 3) := dk_167 0 4 (dk_at dksX1_restore_0 8 rfl rfl)
theorem dX1_restore_11 : decode cX1_restore 11 = .ok (.iconst 0, 1) := dk_3 (dk_at dksX1_restore_0 11 rfl rfl)
theorem dX1_restore_12 : decode cX1_restore 12 = .ok (.invokestatic 81, 3) := dk_184 0 81 (dk_at dksX1_restore_0 12 rfl rfl)
theorem dX1_restore_15 : decode cX1_restore 15 = .ok (.aload_n 0, 1) := dk_42 (dk_at dksX1_restore_0 15 rfl rfl)
theorem dX1_restore_16 : decode cX1_restore 16 = .ok (.aload_n 0, 1) := dk_42 (dk_at dksX1_restore_0 16 rfl rfl)
theorem dX1_restore_17 : decode cX1_restore 17 = .ok (.getfield 374, 3) := dk_180 1 118 (dk_at dksX1_restore_0 17 rfl rfl)
theorem dX1_restore_20 : decode cX1_restore 20 = .ok (.invokevirtual 54, 3) := dk_182 0 54 (dk_at dksX1_restore_0 20 rfl rfl)
theorem dX1_restore_23 : decode cX1_restore 23 = .ok (.pop, 1) := dk_87 (dk_at dksX1_restore_0 23 rfl rfl)
theorem dX1_restore_24 : decode cX1_restore 24 = .ok (.return_, 1) := dk_177 (dk_at dksX1_restore_1 0 rfl rfl)
theorem q102 : (Jvm.Cond.initialized "TaxWorkbench") ∈ lw_all := lw_g (lw_at lw_m1 1 rfl) rfl
theorem q174 : (Jvm.Cond.instantiable "TaxWorkbench" (7 : Nat)) ∈ lw_all := lw_g (lw_at lw_m1 73 rfl) rfl
theorem q176 : (Jvm.Cond.instanceMethod ({ cls := "TaxWorkbench", name := "<init>", desc := "()V" } : Jvm.MethodName)) ∈ lw_all := lw_g (lw_at lw_m1 75 rfl) rfl
theorem q177 : (Jvm.Cond.code ({ cls := "TaxWorkbench", name := "<init>", desc := "()V" } : Jvm.MethodName) prog_1_method_6_code (1 : Nat) (Option.none : Option Jvm.ClassFile.FieldType)) ∈ lw_all := lw_g (lw_at lw_m1 76 rfl) rfl
theorem q178 : (Jvm.Cond.methodLink "TaxWorkbench" (16 : Nat) ({ cls := "java/lang/Object", name := "<init>", desc := "()V" } : Jvm.MethodName)) ∈ lw_all := lw_g (lw_at lw_m1 77 rfl) rfl
theorem q181 : (Jvm.Cond.classLink "TaxWorkbench" (19 : Nat) "TaxWorkbench$World") ∈ lw_all := lw_g (lw_at lw_m1 80 rfl) rfl
theorem q183 : (Jvm.Cond.methodLink "TaxWorkbench" (21 : Nat) ({ cls := "TaxWorkbench$World", name := "<init>", desc := "()V" } : Jvm.MethodName)) ∈ lw_all := lw_g (lw_at lw_m1 82 rfl) rfl
theorem q201 : (Jvm.Cond.fieldLinkNest "TaxWorkbench" (151 : Nat) "TaxWorkbench$Bracket" "threshold" "I" "TaxWorkbench") ∈ lw_tbl := lw_at lw_m1 100 rfl
theorem q204 : (Jvm.Cond.fieldLinkNest "TaxWorkbench" (154 : Nat) "TaxWorkbench$Bracket" "rate" "I" "TaxWorkbench") ∈ lw_tbl := lw_at lw_m1 103 rfl
theorem q307 : (Jvm.Cond.fieldLinkNest "TaxWorkbench" (135 : Nat) "TaxWorkbench$Rules" "brackets" "Ljava/util/List;" "TaxWorkbench") ∈ lw_tbl := lw_at lw_m1 206 rfl
theorem q310 : (Jvm.Cond.fieldLinkNest "TaxWorkbench" (157 : Nat) "TaxWorkbench$Rules" "allowance" "[I" "TaxWorkbench") ∈ lw_tbl := lw_at lw_m1 209 rfl
theorem q313 : (Jvm.Cond.fieldLinkNest "TaxWorkbench" (161 : Nat) "TaxWorkbench$Rules" "minimum" "[I" "TaxWorkbench") ∈ lw_tbl := lw_at lw_m1 212 rfl
theorem q316 : (Jvm.Cond.fieldLinkNest "TaxWorkbench" (111 : Nat) "TaxWorkbench$Rules" "charges" "Ljava/util/ArrayList;" "TaxWorkbench") ∈ lw_tbl := lw_at lw_m1 215 rfl
theorem q320 : (Jvm.Cond.fieldLinkNest "TaxWorkbench" (120 : Nat) "TaxWorkbench$Rules" "credits" "Ljava/util/LinkedList;" "TaxWorkbench") ∈ lw_tbl := lw_at lw_m1 219 rfl
theorem q342 : (Jvm.Cond.fieldLinkNest "TaxWorkbench" (220 : Nat) "TaxWorkbench$Person" "earned" "I" "TaxWorkbench") ∈ lw_tbl := lw_at lw_m2 1 rfl
theorem q344 : (Jvm.Cond.fieldLinkNest "TaxWorkbench" (223 : Nat) "TaxWorkbench$Person" "other" "I" "TaxWorkbench") ∈ lw_tbl := lw_at lw_m2 3 rfl
theorem q346 : (Jvm.Cond.fieldLinkNest "TaxWorkbench" (226 : Nat) "TaxWorkbench$Person" "dependents" "I" "TaxWorkbench") ∈ lw_tbl := lw_at lw_m2 5 rfl
theorem q386 : (Jvm.Cond.selects "TaxWorkbench" ({ cls := "java/lang/Object", name := "getClass", desc := "()Ljava/lang/Class;" } : Jvm.MethodName) ({ cls := "java/lang/Object", name := "getClass", desc := "()Ljava/lang/Class;" } : Jvm.MethodName)) ∈ lw_all := lw_g (lw_at lw_m2 45 rfl) rfl
theorem q448 : (Jvm.Cond.fieldLinkNest "TaxWorkbench" (107 : Nat) "TaxWorkbench$World" "rules" "LTaxWorkbench$Rules;" "TaxWorkbench") ∈ lw_tbl := lw_at lw_m2 107 rfl
theorem q450 : (Jvm.Cond.fieldLinkNest "TaxWorkbench" (207 : Nat) "TaxWorkbench$World" "people" "[LTaxWorkbench$Person;" "TaxWorkbench") ∈ lw_tbl := lw_at lw_m2 109 rfl
theorem q452 : (Jvm.Cond.fieldLinkNest "TaxWorkbench" (229 : Nat) "TaxWorkbench$World" "partners" "[I" "TaxWorkbench") ∈ lw_tbl := lw_at lw_m2 111 rfl
theorem q454 : (Jvm.Cond.fieldLinkNest "TaxWorkbench" (128 : Nat) "TaxWorkbench$World" "carried" "Ljava/util/ArrayList;" "TaxWorkbench") ∈ lw_tbl := lw_at lw_m2 113 rfl
theorem q456 : (Jvm.Cond.fieldLinkNest "TaxWorkbench" (320 : Nat) "TaxWorkbench$World" "years" "I" "TaxWorkbench") ∈ lw_tbl := lw_at lw_m2 115 rfl
theorem q469 : (Jvm.Cond.classLink "TaxWorkbench" (28 : Nat) "java/util/ArrayDeque") ∈ lw_all := lw_g (lw_at lw_m2 128 rfl) rfl
theorem q471 : (Jvm.Cond.methodLink "TaxWorkbench" (30 : Nat) ({ cls := "java/util/ArrayDeque", name := "<init>", desc := "()V" } : Jvm.MethodName)) ∈ lw_all := lw_g (lw_at lw_m2 130 rfl) rfl
theorem q488 : (Jvm.Cond.classLink "TaxWorkbench" (35 : Nat) "TaxWorkbench$Computation") ∈ lw_all := lw_g (lw_at lw_m2 147 rfl) rfl
theorem q490 : (Jvm.Cond.methodLinkNest "TaxWorkbench" (37 : Nat) ({ cls := "TaxWorkbench$Computation", name := "<init>", desc := "()V" } : Jvm.MethodName) "TaxWorkbench") ∈ lw_tbl := lw_at lw_m2 149 rfl
theorem q512 : (Jvm.Cond.fieldLinkNest "TaxWorkbench" (247 : Nat) "TaxWorkbench$Case" "carried" "[J" "TaxWorkbench") ∈ lw_tbl := lw_at lw_m2 171 rfl
theorem q525 : (Jvm.Cond.fieldLinkNest "TaxWorkbench" (238 : Nat) "TaxWorkbench$Computation" "it" "LTaxWorkbench$Case;" "TaxWorkbench") ∈ lw_tbl := lw_at lw_m2 184 rfl
theorem q527 : (Jvm.Cond.fieldLinkNest "TaxWorkbench" (267 : Nat) "TaxWorkbench$Computation" "parts" "[J" "TaxWorkbench") ∈ lw_tbl := lw_at lw_m2 186 rfl
theorem q532 : (Jvm.Cond.fieldLinkNest "TaxWorkbench" (309 : Nat) "TaxWorkbench$Computation" "kept" "[J" "TaxWorkbench") ∈ lw_tbl := lw_at lw_m2 191 rfl
theorem q550 : (Jvm.Cond.fieldLink "TaxWorkbench" (22 : Nat) "TaxWorkbench" "now" "LTaxWorkbench$World;") ∈ lw_all := lw_g (lw_at lw_m2 209 rfl) rfl
theorem q551 : (Jvm.Cond.fieldLink "TaxWorkbench" (374 : Nat) "TaxWorkbench" "saved" "LTaxWorkbench$World;") ∈ lw_all := lw_g (lw_at lw_m2 210 rfl) rfl
theorem q552 : (Jvm.Cond.fieldLink "TaxWorkbench" (31 : Nat) "TaxWorkbench" "changes" "Ljava/util/ArrayDeque;") ∈ lw_all := lw_g (lw_at lw_m2 211 rfl) rfl
theorem q553 : (Jvm.Cond.fieldLink "TaxWorkbench" (38 : Nat) "TaxWorkbench" "computation" "LTaxWorkbench$Computation;") ∈ lw_all := lw_g (lw_at lw_m2 212 rfl) rfl
theorem q555 : (Jvm.Cond.fieldLink "TaxWorkbench" (42 : Nat) "TaxWorkbench" "text" "[C") ∈ lw_all := lw_g (lw_at lw_m2 214 rfl) rfl
theorem q557 : (Jvm.Cond.fieldLink "TaxWorkbench" (78 : Nat) "TaxWorkbench" "textLength" "I") ∈ lw_all := lw_g (lw_at lw_m2 216 rfl) rfl
theorem q558 : (Jvm.Cond.fieldLink "TaxWorkbench" (46 : Nat) "TaxWorkbench" "fault" "I") ∈ lw_all := lw_g (lw_at lw_m2 217 rfl) rfl
theorem q559 : (Jvm.Cond.lays "TaxWorkbench" "TaxWorkbench" "now" "LTaxWorkbench$World;") ∈ lw_all := lw_g (lw_at lw_m2 218 rfl) rfl
theorem q560 : (Jvm.Cond.soleField "TaxWorkbench" "now") ∈ lw_all := lw_g (lw_at lw_m2 219 rfl) rfl
theorem q561 : (Jvm.Cond.lays "TaxWorkbench" "TaxWorkbench" "saved" "LTaxWorkbench$World;") ∈ lw_all := lw_g (lw_at lw_m2 220 rfl) rfl
theorem q562 : (Jvm.Cond.soleField "TaxWorkbench" "saved") ∈ lw_all := lw_g (lw_at lw_m2 221 rfl) rfl
theorem q563 : (Jvm.Cond.laysFinal "TaxWorkbench" "TaxWorkbench" "changes" "Ljava/util/ArrayDeque;") ∈ lw_all := lw_g (lw_at lw_m2 222 rfl) rfl
theorem q564 : (Jvm.Cond.soleField "TaxWorkbench" "changes") ∈ lw_all := lw_g (lw_at lw_m2 223 rfl) rfl
theorem q565 : (Jvm.Cond.laysFinal "TaxWorkbench" "TaxWorkbench" "computation" "LTaxWorkbench$Computation;") ∈ lw_all := lw_g (lw_at lw_m2 224 rfl) rfl
theorem q566 : (Jvm.Cond.soleField "TaxWorkbench" "computation") ∈ lw_all := lw_g (lw_at lw_m2 225 rfl) rfl
theorem q567 : (Jvm.Cond.laysFinal "TaxWorkbench" "TaxWorkbench" "text" "[C") ∈ lw_all := lw_g (lw_at lw_m2 226 rfl) rfl
theorem q568 : (Jvm.Cond.soleField "TaxWorkbench" "text") ∈ lw_all := lw_g (lw_at lw_m2 227 rfl) rfl
theorem q569 : (Jvm.Cond.lays "TaxWorkbench" "TaxWorkbench" "textLength" "I") ∈ lw_all := lw_g (lw_at lw_m2 228 rfl) rfl
theorem q570 : (Jvm.Cond.soleField "TaxWorkbench" "textLength") ∈ lw_all := lw_g (lw_at lw_m2 229 rfl) rfl
theorem q571 : (Jvm.Cond.lays "TaxWorkbench" "TaxWorkbench" "fault" "I") ∈ lw_all := lw_g (lw_at lw_m2 230 rfl) rfl
theorem q572 : (Jvm.Cond.soleField "TaxWorkbench" "fault") ∈ lw_all := lw_g (lw_at lw_m2 231 rfl) rfl
theorem q573 : (Jvm.Cond.superclass "TaxWorkbench" "java/lang/Object") ∈ lw_all := lw_g (lw_at lw_m2 232 rfl) rfl
theorem q576 : (Jvm.Cond.instanceMethod ({ cls := "TaxWorkbench", name := "faultPosition", desc := "()I" } : Jvm.MethodName)) ∈ lw_all := lw_g (lw_at lw_m2 235 rfl) rfl
theorem q577 : (Jvm.Cond.selects "TaxWorkbench" ({ cls := "TaxWorkbench", name := "faultPosition", desc := "()I" } : Jvm.MethodName) ({ cls := "TaxWorkbench", name := "faultPosition", desc := "()I" } : Jvm.MethodName)) ∈ lw_all := lw_g (lw_at lw_m2 236 rfl) rfl
theorem q578 : (Jvm.Cond.code ({ cls := "TaxWorkbench", name := "faultPosition", desc := "()I" } : Jvm.MethodName) prog_1_method_11_code (1 : Nat) (Option.some Jvm.ClassFile.FieldType.int)) ∈ lw_all := lw_g (lw_at lw_m2 237 rfl) rfl
theorem q580 : (Jvm.Cond.instanceMethod ({ cls := "TaxWorkbench", name := "clearRules", desc := "()I" } : Jvm.MethodName)) ∈ lw_all := lw_g (lw_at lw_m2 239 rfl) rfl
theorem q581 : (Jvm.Cond.selects "TaxWorkbench" ({ cls := "TaxWorkbench", name := "clearRules", desc := "()I" } : Jvm.MethodName) ({ cls := "TaxWorkbench", name := "clearRules", desc := "()I" } : Jvm.MethodName)) ∈ lw_all := lw_g (lw_at lw_m3 0 rfl) rfl
theorem q582 : (Jvm.Cond.code ({ cls := "TaxWorkbench", name := "clearRules", desc := "()I" } : Jvm.MethodName) prog_1_method_12_code (4 : Nat) (Option.some Jvm.ClassFile.FieldType.int)) ∈ lw_all := lw_g (lw_at lw_m3 1 rfl) rfl
theorem q583 : (Jvm.Cond.methodLink "TaxWorkbench" (117 : Nat) ({ cls := "java/util/ArrayList", name := "size", desc := "()I" } : Jvm.MethodName)) ∈ lw_all := lw_g (lw_at lw_m3 2 rfl) rfl
theorem q587 : (Jvm.Cond.methodLink "TaxWorkbench" (124 : Nat) ({ cls := "java/util/LinkedList", name := "size", desc := "()I" } : Jvm.MethodName)) ∈ lw_all := lw_g (lw_at lw_m3 6 rfl) rfl
theorem q591 : (Jvm.Cond.methodLink "TaxWorkbench" (101 : Nat) ({ cls := "TaxWorkbench", name := "change", desc := "()LTaxWorkbench$World;" } : Jvm.MethodName)) ∈ lw_all := lw_g (lw_at lw_m3 10 rfl) rfl
theorem q592 : (Jvm.Cond.privateMethod ({ cls := "TaxWorkbench", name := "change", desc := "()LTaxWorkbench$World;" } : Jvm.MethodName)) ∈ lw_tbl := lw_at lw_m3 11 rfl
theorem q593 : (Jvm.Cond.instanceMethod ({ cls := "TaxWorkbench", name := "change", desc := "()LTaxWorkbench$World;" } : Jvm.MethodName)) ∈ lw_all := lw_g (lw_at lw_m3 12 rfl) rfl
theorem q594 : (Jvm.Cond.code ({ cls := "TaxWorkbench", name := "change", desc := "()LTaxWorkbench$World;" } : Jvm.MethodName) prog_1_method_7_code (1 : Nat) (Option.some (Jvm.ClassFile.FieldType.object "TaxWorkbench$World"))) ∈ lw_all := lw_g (lw_at lw_m3 13 rfl) rfl
theorem q595 : (Jvm.Cond.methodLink "TaxWorkbench" (50 : Nat) ({ cls := "TaxWorkbench$World", name := "copy", desc := "()LTaxWorkbench$World;" } : Jvm.MethodName)) ∈ lw_all := lw_g (lw_at lw_m3 14 rfl) rfl
theorem q1756 : (Jvm.Cond.methodLink "TaxWorkbench" (54 : Nat) ({ cls := "TaxWorkbench", name := "change", desc := "(LTaxWorkbench$World;)LTaxWorkbench$World;" } : Jvm.MethodName)) ∈ lw_all := lw_g (lw_at lw_m7 215 rfl) rfl
theorem q1757 : (Jvm.Cond.privateMethod ({ cls := "TaxWorkbench", name := "change", desc := "(LTaxWorkbench$World;)LTaxWorkbench$World;" } : Jvm.MethodName)) ∈ lw_tbl := lw_at lw_m7 216 rfl
theorem q1758 : (Jvm.Cond.instanceMethod ({ cls := "TaxWorkbench", name := "change", desc := "(LTaxWorkbench$World;)LTaxWorkbench$World;" } : Jvm.MethodName)) ∈ lw_all := lw_g (lw_at lw_m7 217 rfl) rfl
theorem q1759 : (Jvm.Cond.code ({ cls := "TaxWorkbench", name := "change", desc := "(LTaxWorkbench$World;)LTaxWorkbench$World;" } : Jvm.MethodName) prog_1_method_8_code (2 : Nat) (Option.some (Jvm.ClassFile.FieldType.object "TaxWorkbench$World"))) ∈ lw_all := lw_g (lw_at lw_m7 218 rfl) rfl
theorem q1760 : (Jvm.Cond.methodLink "TaxWorkbench" (58 : Nat) ({ cls := "java/util/ArrayDeque", name := "size", desc := "()I" } : Jvm.MethodName)) ∈ lw_all := lw_g (lw_at lw_m7 219 rfl) rfl
theorem q1761 : (Jvm.Cond.methodLink "TaxWorkbench" (62 : Nat) ({ cls := "java/util/ArrayDeque", name := "removeFirst", desc := "()Ljava/lang/Object;" } : Jvm.MethodName)) ∈ lw_all := lw_g (lw_at lw_m7 220 rfl) rfl
theorem q1775 : (Jvm.Cond.methodLink "TaxWorkbench" (66 : Nat) ({ cls := "java/util/ArrayDeque", name := "addLast", desc := "(Ljava/lang/Object;)V" } : Jvm.MethodName)) ∈ lw_all := lw_g (lw_at lw_m7 234 rfl) rfl
theorem q1806 : (Jvm.Cond.classLink "TaxWorkbench" (112 : Nat) "TaxWorkbench$Rules") ∈ lw_all := lw_g (lw_at lw_m8 25 rfl) rfl
theorem q1807 : (Jvm.Cond.methodLinkNest "TaxWorkbench" (127 : Nat) ({ cls := "TaxWorkbench$Rules", name := "<init>", desc := "()V" } : Jvm.MethodName) "TaxWorkbench") ∈ lw_tbl := lw_at lw_m8 26 rfl
theorem q1808 : (Jvm.Cond.methodLink "TaxWorkbench" (131 : Nat) ({ cls := "java/util/ArrayList", name := "set", desc := "(ILjava/lang/Object;)Ljava/lang/Object;" } : Jvm.MethodName)) ∈ lw_all := lw_g (lw_at lw_m8 27 rfl) rfl
theorem q1810 : (Jvm.Cond.instanceMethod ({ cls := "TaxWorkbench", name := "bracketCount", desc := "()I" } : Jvm.MethodName)) ∈ lw_all := lw_g (lw_at lw_m8 29 rfl) rfl
theorem q1811 : (Jvm.Cond.selects "TaxWorkbench" ({ cls := "TaxWorkbench", name := "bracketCount", desc := "()I" } : Jvm.MethodName) ({ cls := "TaxWorkbench", name := "bracketCount", desc := "()I" } : Jvm.MethodName)) ∈ lw_all := lw_g (lw_at lw_m8 30 rfl) rfl
theorem q1812 : (Jvm.Cond.code ({ cls := "TaxWorkbench", name := "bracketCount", desc := "()I" } : Jvm.MethodName) prog_1_method_13_code (1 : Nat) (Option.some Jvm.ClassFile.FieldType.int)) ∈ lw_all := lw_g (lw_at lw_m8 31 rfl) rfl
theorem q1813 : (Jvm.Cond.interfaceEntry "TaxWorkbench" (139 : Nat)) ∈ lw_tbl := lw_at lw_m8 32 rfl
theorem q1814 : (Jvm.Cond.methodLink "TaxWorkbench" (139 : Nat) ({ cls := "java/util/List", name := "size", desc := "()I" } : Jvm.MethodName)) ∈ lw_all := lw_g (lw_at lw_m8 33 rfl) rfl
theorem q1861 : (Jvm.Cond.instanceMethod ({ cls := "TaxWorkbench", name := "chargeCount", desc := "()I" } : Jvm.MethodName)) ∈ lw_all := lw_g (lw_at lw_m8 80 rfl) rfl
theorem q1862 : (Jvm.Cond.selects "TaxWorkbench" ({ cls := "TaxWorkbench", name := "chargeCount", desc := "()I" } : Jvm.MethodName) ({ cls := "TaxWorkbench", name := "chargeCount", desc := "()I" } : Jvm.MethodName)) ∈ lw_all := lw_g (lw_at lw_m8 81 rfl) rfl
theorem q1863 : (Jvm.Cond.code ({ cls := "TaxWorkbench", name := "chargeCount", desc := "()I" } : Jvm.MethodName) prog_1_method_16_code (1 : Nat) (Option.some Jvm.ClassFile.FieldType.int)) ∈ lw_all := lw_g (lw_at lw_m8 82 rfl) rfl
theorem q1865 : (Jvm.Cond.instanceMethod ({ cls := "TaxWorkbench", name := "creditCount", desc := "()I" } : Jvm.MethodName)) ∈ lw_all := lw_g (lw_at lw_m8 84 rfl) rfl
theorem q1866 : (Jvm.Cond.selects "TaxWorkbench" ({ cls := "TaxWorkbench", name := "creditCount", desc := "()I" } : Jvm.MethodName) ({ cls := "TaxWorkbench", name := "creditCount", desc := "()I" } : Jvm.MethodName)) ∈ lw_all := lw_g (lw_at lw_m8 85 rfl) rfl
theorem q1867 : (Jvm.Cond.code ({ cls := "TaxWorkbench", name := "creditCount", desc := "()I" } : Jvm.MethodName) prog_1_method_18_code (1 : Nat) (Option.some Jvm.ClassFile.FieldType.int)) ∈ lw_all := lw_g (lw_at lw_m8 86 rfl) rfl
theorem q1869 : (Jvm.Cond.instanceMethod ({ cls := "TaxWorkbench", name := "totalTax", desc := "()J" } : Jvm.MethodName)) ∈ lw_all := lw_g (lw_at lw_m8 88 rfl) rfl
theorem q1870 : (Jvm.Cond.selects "TaxWorkbench" ({ cls := "TaxWorkbench", name := "totalTax", desc := "()J" } : Jvm.MethodName) ({ cls := "TaxWorkbench", name := "totalTax", desc := "()J" } : Jvm.MethodName)) ∈ lw_all := lw_g (lw_at lw_m8 89 rfl) rfl
theorem q1871 : (Jvm.Cond.code ({ cls := "TaxWorkbench", name := "totalTax", desc := "()J" } : Jvm.MethodName) prog_1_method_48_code (4 : Nat) (Option.some Jvm.ClassFile.FieldType.long)) ∈ lw_all := lw_g (lw_at lw_m8 90 rfl) rfl
theorem q1872 : (Jvm.Cond.methodLink "TaxWorkbench" (306 : Nat) ({ cls := "TaxWorkbench$World", name := "isFirst", desc := "(I)Z" } : Jvm.MethodName)) ∈ lw_all := lw_g (lw_at lw_m8 91 rfl) rfl
theorem q1876 : (Jvm.Cond.methodLink "TaxWorkbench" (303 : Nat) ({ cls := "TaxWorkbench", name := "household", desc := "(I)J" } : Jvm.MethodName)) ∈ lw_all := lw_g (lw_at lw_m8 95 rfl) rfl
theorem q1877 : (Jvm.Cond.privateMethod ({ cls := "TaxWorkbench", name := "household", desc := "(I)J" } : Jvm.MethodName)) ∈ lw_tbl := lw_at lw_m8 96 rfl
theorem q1878 : (Jvm.Cond.instanceMethod ({ cls := "TaxWorkbench", name := "household", desc := "(I)J" } : Jvm.MethodName)) ∈ lw_all := lw_g (lw_at lw_m8 97 rfl) rfl
theorem q1879 : (Jvm.Cond.code ({ cls := "TaxWorkbench", name := "household", desc := "(I)J" } : Jvm.MethodName) prog_1_method_42_code (2 : Nat) (Option.some Jvm.ClassFile.FieldType.long)) ∈ lw_all := lw_g (lw_at lw_m8 98 rfl) rfl
theorem q1880 : (Jvm.Cond.methodLink "TaxWorkbench" (264 : Nat) ({ cls := "TaxWorkbench", name := "alone", desc := "(I)J" } : Jvm.MethodName)) ∈ lw_all := lw_g (lw_at lw_m8 99 rfl) rfl
theorem q1881 : (Jvm.Cond.privateMethod ({ cls := "TaxWorkbench", name := "alone", desc := "(I)J" } : Jvm.MethodName)) ∈ lw_tbl := lw_at lw_m8 100 rfl
theorem q1882 : (Jvm.Cond.instanceMethod ({ cls := "TaxWorkbench", name := "alone", desc := "(I)J" } : Jvm.MethodName)) ∈ lw_all := lw_g (lw_at lw_m8 101 rfl) rfl
theorem q1883 : (Jvm.Cond.code ({ cls := "TaxWorkbench", name := "alone", desc := "(I)J" } : Jvm.MethodName) prog_1_method_31_code (2 : Nat) (Option.some Jvm.ClassFile.FieldType.long)) ∈ lw_all := lw_g (lw_at lw_m8 102 rfl) rfl
theorem q1884 : (Jvm.Cond.methodLink "TaxWorkbench" (260 : Nat) ({ cls := "TaxWorkbench", name := "alone", desc := "(III)J" } : Jvm.MethodName)) ∈ lw_all := lw_g (lw_at lw_m8 103 rfl) rfl
theorem q1885 : (Jvm.Cond.privateMethod ({ cls := "TaxWorkbench", name := "alone", desc := "(III)J" } : Jvm.MethodName)) ∈ lw_tbl := lw_at lw_m8 104 rfl
theorem q1886 : (Jvm.Cond.instanceMethod ({ cls := "TaxWorkbench", name := "alone", desc := "(III)J" } : Jvm.MethodName)) ∈ lw_all := lw_g (lw_at lw_m8 105 rfl) rfl
theorem q1887 : (Jvm.Cond.code ({ cls := "TaxWorkbench", name := "alone", desc := "(III)J" } : Jvm.MethodName) prog_1_method_30_code (4 : Nat) (Option.some Jvm.ClassFile.FieldType.long)) ∈ lw_all := lw_g (lw_at lw_m8 106 rfl) rfl
theorem q1888 : (Jvm.Cond.methodLink "TaxWorkbench" (242 : Nat) ({ cls := "TaxWorkbench$Case", name := "set", desc := "(IIII)V" } : Jvm.MethodName)) ∈ lw_all := lw_g (lw_at lw_m8 107 rfl) rfl
theorem q1892 : (Jvm.Cond.methodLink "TaxWorkbench" (164 : Nat) ({ cls := "java/util/ArrayList", name := "get", desc := "(I)Ljava/lang/Object;" } : Jvm.MethodName)) ∈ lw_all := lw_g (lw_at lw_m8 111 rfl) rfl
theorem q1893 : (Jvm.Cond.methodLink "TaxWorkbench" (250 : Nat) ({ cls := "java/lang/System", name := "arraycopy", desc := "(Ljava/lang/Object;ILjava/lang/Object;II)V" } : Jvm.MethodName)) ∈ lw_all := lw_g (lw_at lw_m8 112 rfl) rfl
theorem q1894 : (Jvm.Cond.methodLink "TaxWorkbench" (256 : Nat) ({ cls := "TaxWorkbench$Computation", name := "run", desc := "(LTaxWorkbench$Rules;)J" } : Jvm.MethodName)) ∈ lw_all := lw_g (lw_at lw_m8 113 rfl) rfl
theorem q1954 : (Jvm.Cond.methodLink "TaxWorkbench" (290 : Nat) ({ cls := "TaxWorkbench", name := "joint", desc := "(I)J" } : Jvm.MethodName)) ∈ lw_all := lw_g (lw_at lw_m8 173 rfl) rfl
theorem q1955 : (Jvm.Cond.privateMethod ({ cls := "TaxWorkbench", name := "joint", desc := "(I)J" } : Jvm.MethodName)) ∈ lw_tbl := lw_at lw_m8 174 rfl
theorem q1956 : (Jvm.Cond.instanceMethod ({ cls := "TaxWorkbench", name := "joint", desc := "(I)J" } : Jvm.MethodName)) ∈ lw_all := lw_g (lw_at lw_m8 175 rfl) rfl
theorem q1957 : (Jvm.Cond.code ({ cls := "TaxWorkbench", name := "joint", desc := "(I)J" } : Jvm.MethodName) prog_1_method_37_code (6 : Nat) (Option.some Jvm.ClassFile.FieldType.long)) ∈ lw_all := lw_g (lw_at lw_m8 176 rfl) rfl
theorem q1958 : (Jvm.Cond.classLink "TaxWorkbench" (274 : Nat) "[J") ∈ lw_all := lw_g (lw_at lw_m8 177 rfl) rfl
theorem q1959 : (Jvm.Cond.methodLink "TaxWorkbench" (293 : Nat) ({ cls := "TaxWorkbench", name := "separate", desc := "(I)J" } : Jvm.MethodName)) ∈ lw_all := lw_g (lw_at lw_m8 178 rfl) rfl
theorem q1960 : (Jvm.Cond.privateMethod ({ cls := "TaxWorkbench", name := "separate", desc := "(I)J" } : Jvm.MethodName)) ∈ lw_tbl := lw_at lw_m8 179 rfl
theorem q1961 : (Jvm.Cond.instanceMethod ({ cls := "TaxWorkbench", name := "separate", desc := "(I)J" } : Jvm.MethodName)) ∈ lw_all := lw_g (lw_at lw_m8 180 rfl) rfl
theorem q1962 : (Jvm.Cond.code ({ cls := "TaxWorkbench", name := "separate", desc := "(I)J" } : Jvm.MethodName) prog_1_method_40_code (2 : Nat) (Option.some Jvm.ClassFile.FieldType.long)) ∈ lw_all := lw_g (lw_at lw_m8 181 rfl) rfl
theorem q1963 : (Jvm.Cond.methodLink "TaxWorkbench" (287 : Nat) ({ cls := "TaxWorkbench", name := "bestDivision", desc := "(I)I" } : Jvm.MethodName)) ∈ lw_all := lw_g (lw_at lw_m8 182 rfl) rfl
theorem q1964 : (Jvm.Cond.privateMethod ({ cls := "TaxWorkbench", name := "bestDivision", desc := "(I)I" } : Jvm.MethodName)) ∈ lw_tbl := lw_at lw_m8 183 rfl
theorem q1965 : (Jvm.Cond.instanceMethod ({ cls := "TaxWorkbench", name := "bestDivision", desc := "(I)I" } : Jvm.MethodName)) ∈ lw_all := lw_g (lw_at lw_m8 184 rfl) rfl
theorem q1966 : (Jvm.Cond.code ({ cls := "TaxWorkbench", name := "bestDivision", desc := "(I)I" } : Jvm.MethodName) prog_1_method_39_code (5 : Nat) (Option.some Jvm.ClassFile.FieldType.int)) ∈ lw_all := lw_g (lw_at lw_m8 185 rfl) rfl
theorem q1967 : (Jvm.Cond.methodLink "TaxWorkbench" (284 : Nat) ({ cls := "TaxWorkbench", name := "divided", desc := "(II)J" } : Jvm.MethodName)) ∈ lw_all := lw_g (lw_at lw_m8 186 rfl) rfl
theorem q1968 : (Jvm.Cond.privateMethod ({ cls := "TaxWorkbench", name := "divided", desc := "(II)J" } : Jvm.MethodName)) ∈ lw_tbl := lw_at lw_m8 187 rfl
theorem q1969 : (Jvm.Cond.instanceMethod ({ cls := "TaxWorkbench", name := "divided", desc := "(II)J" } : Jvm.MethodName)) ∈ lw_all := lw_g (lw_at lw_m8 188 rfl) rfl
theorem q1970 : (Jvm.Cond.code ({ cls := "TaxWorkbench", name := "divided", desc := "(II)J" } : Jvm.MethodName) prog_1_method_38_code (6 : Nat) (Option.some Jvm.ClassFile.FieldType.long)) ∈ lw_all := lw_g (lw_at lw_m8 189 rfl) rfl
theorem q1971 : (Jvm.Cond.methodLink "TaxWorkbench" (281 : Nat) ({ cls := "TaxWorkbench", name := "firstOf", desc := "(I)I" } : Jvm.MethodName)) ∈ lw_all := lw_g (lw_at lw_m8 190 rfl) rfl
theorem q1972 : (Jvm.Cond.privateMethod ({ cls := "TaxWorkbench", name := "firstOf", desc := "(I)I" } : Jvm.MethodName)) ∈ lw_tbl := lw_at lw_m8 191 rfl
theorem q1973 : (Jvm.Cond.instanceMethod ({ cls := "TaxWorkbench", name := "firstOf", desc := "(I)I" } : Jvm.MethodName)) ∈ lw_all := lw_g (lw_at lw_m8 192 rfl) rfl
theorem q1974 : (Jvm.Cond.code ({ cls := "TaxWorkbench", name := "firstOf", desc := "(I)I" } : Jvm.MethodName) prog_1_method_36_code (2 : Nat) (Option.some Jvm.ClassFile.FieldType.int)) ∈ lw_all := lw_g (lw_at lw_m8 193 rfl) rfl
theorem q1975 : (Jvm.Cond.methodLink "TaxWorkbench" (275 : Nat) ({ cls := "java/lang/Math", name := "min", desc := "(II)I" } : Jvm.MethodName)) ∈ lw_all := lw_g (lw_at lw_m8 194 rfl) rfl
theorem q1976 : (Jvm.Cond.methodLink "TaxWorkbench" (296 : Nat) ({ cls := "java/lang/Math", name := "min", desc := "(JJ)J" } : Jvm.MethodName)) ∈ lw_all := lw_g (lw_at lw_m8 195 rfl) rfl
theorem q1978 : (Jvm.Cond.instanceMethod ({ cls := "TaxWorkbench", name := "closeYear", desc := "()I" } : Jvm.MethodName)) ∈ lw_all := lw_g (lw_at lw_m8 197 rfl) rfl
theorem q1979 : (Jvm.Cond.selects "TaxWorkbench" ({ cls := "TaxWorkbench", name := "closeYear", desc := "()I" } : Jvm.MethodName) ({ cls := "TaxWorkbench", name := "closeYear", desc := "()I" } : Jvm.MethodName)) ∈ lw_all := lw_g (lw_at lw_m8 198 rfl) rfl
theorem q1980 : (Jvm.Cond.code ({ cls := "TaxWorkbench", name := "closeYear", desc := "()I" } : Jvm.MethodName) prog_1_method_51_code (3 : Nat) (Option.some Jvm.ClassFile.FieldType.int)) ∈ lw_all := lw_g (lw_at lw_m8 199 rfl) rfl
theorem q1981 : (Jvm.Cond.methodLink "TaxWorkbench" (312 : Nat) ({ cls := "TaxWorkbench", name := "keptRow", desc := "()[J" } : Jvm.MethodName)) ∈ lw_all := lw_g (lw_at lw_m8 200 rfl) rfl
theorem q1982 : (Jvm.Cond.privateMethod ({ cls := "TaxWorkbench", name := "keptRow", desc := "()[J" } : Jvm.MethodName)) ∈ lw_tbl := lw_at lw_m8 201 rfl
theorem q1983 : (Jvm.Cond.instanceMethod ({ cls := "TaxWorkbench", name := "keptRow", desc := "()[J" } : Jvm.MethodName)) ∈ lw_all := lw_g (lw_at lw_m8 202 rfl) rfl
theorem q1984 : (Jvm.Cond.code ({ cls := "TaxWorkbench", name := "keptRow", desc := "()[J" } : Jvm.MethodName) prog_1_method_49_code (2 : Nat) (Option.some (Jvm.ClassFile.FieldType.array Jvm.ClassFile.FieldType.long))) ∈ lw_all := lw_g (lw_at lw_m8 203 rfl) rfl
theorem q1985 : (Jvm.Cond.methodLink "TaxWorkbench" (316 : Nat) ({ cls := "TaxWorkbench", name := "closeCouple", desc := "(ILTaxWorkbench$World;)V" } : Jvm.MethodName)) ∈ lw_all := lw_g (lw_at lw_m8 204 rfl) rfl
theorem q1986 : (Jvm.Cond.privateMethod ({ cls := "TaxWorkbench", name := "closeCouple", desc := "(ILTaxWorkbench$World;)V" } : Jvm.MethodName)) ∈ lw_tbl := lw_at lw_m8 205 rfl
theorem q1987 : (Jvm.Cond.instanceMethod ({ cls := "TaxWorkbench", name := "closeCouple", desc := "(ILTaxWorkbench$World;)V" } : Jvm.MethodName)) ∈ lw_all := lw_g (lw_at lw_m8 206 rfl) rfl
theorem q1988 : (Jvm.Cond.code ({ cls := "TaxWorkbench", name := "closeCouple", desc := "(ILTaxWorkbench$World;)V" } : Jvm.MethodName) prog_1_method_50_code (7 : Nat) (Option.none : Option Jvm.ClassFile.FieldType)) ∈ lw_all := lw_g (lw_at lw_m8 207 rfl) rfl
theorem q1989 : (Jvm.Cond.methodLink "TaxWorkbench" (299 : Nat) ({ cls := "TaxWorkbench", name := "isJoint", desc := "(I)Z" } : Jvm.MethodName)) ∈ lw_all := lw_g (lw_at lw_m8 208 rfl) rfl
theorem q1990 : (Jvm.Cond.privateMethod ({ cls := "TaxWorkbench", name := "isJoint", desc := "(I)Z" } : Jvm.MethodName)) ∈ lw_tbl := lw_at lw_m8 209 rfl
theorem q1991 : (Jvm.Cond.instanceMethod ({ cls := "TaxWorkbench", name := "isJoint", desc := "(I)Z" } : Jvm.MethodName)) ∈ lw_all := lw_g (lw_at lw_m8 210 rfl) rfl
theorem q1992 : (Jvm.Cond.code ({ cls := "TaxWorkbench", name := "isJoint", desc := "(I)Z" } : Jvm.MethodName) prog_1_method_41_code (2 : Nat) (Option.some Jvm.ClassFile.FieldType.boolean)) ∈ lw_all := lw_g (lw_at lw_m8 211 rfl) rfl
theorem q1994 : (Jvm.Cond.instanceMethod ({ cls := "TaxWorkbench", name := "years", desc := "()I" } : Jvm.MethodName)) ∈ lw_all := lw_g (lw_at lw_m8 213 rfl) rfl
theorem q1995 : (Jvm.Cond.selects "TaxWorkbench" ({ cls := "TaxWorkbench", name := "years", desc := "()I" } : Jvm.MethodName) ({ cls := "TaxWorkbench", name := "years", desc := "()I" } : Jvm.MethodName)) ∈ lw_all := lw_g (lw_at lw_m8 214 rfl) rfl
theorem q1996 : (Jvm.Cond.code ({ cls := "TaxWorkbench", name := "years", desc := "()I" } : Jvm.MethodName) prog_1_method_52_code (1 : Nat) (Option.some Jvm.ClassFile.FieldType.int)) ∈ lw_all := lw_g (lw_at lw_m8 215 rfl) rfl
theorem q1998 : (Jvm.Cond.instanceMethod ({ cls := "TaxWorkbench", name := "averageDependents", desc := "()F" } : Jvm.MethodName)) ∈ lw_all := lw_g (lw_at lw_m8 217 rfl) rfl
theorem q1999 : (Jvm.Cond.selects "TaxWorkbench" ({ cls := "TaxWorkbench", name := "averageDependents", desc := "()F" } : Jvm.MethodName) ({ cls := "TaxWorkbench", name := "averageDependents", desc := "()F" } : Jvm.MethodName)) ∈ lw_all := lw_g (lw_at lw_m8 218 rfl) rfl
theorem q2000 : (Jvm.Cond.code ({ cls := "TaxWorkbench", name := "averageDependents", desc := "()F" } : Jvm.MethodName) prog_1_method_64_code (3 : Nat) (Option.some Jvm.ClassFile.FieldType.float)) ∈ lw_all := lw_g (lw_at lw_m8 219 rfl) rfl
theorem q2001 : (Jvm.Cond.constantFloat "TaxWorkbench" (367 : Nat) (1086324736 : UInt32)) ∈ lw_all := lw_g (lw_at lw_m8 220 rfl) rfl
theorem q2003 : (Jvm.Cond.instanceMethod ({ cls := "TaxWorkbench", name := "save", desc := "()V" } : Jvm.MethodName)) ∈ lw_all := lw_g (lw_at lw_m8 222 rfl) rfl
theorem q2004 : (Jvm.Cond.selects "TaxWorkbench" ({ cls := "TaxWorkbench", name := "save", desc := "()V" } : Jvm.MethodName) ({ cls := "TaxWorkbench", name := "save", desc := "()V" } : Jvm.MethodName)) ∈ lw_all := lw_g (lw_at lw_m8 223 rfl) rfl
theorem q2005 : (Jvm.Cond.code ({ cls := "TaxWorkbench", name := "save", desc := "()V" } : Jvm.MethodName) prog_1_method_66_code (1 : Nat) (Option.none : Option Jvm.ClassFile.FieldType)) ∈ lw_all := lw_g (lw_at lw_m8 224 rfl) rfl
theorem q2012 : (Jvm.Cond.instanceMethod ({ cls := "TaxWorkbench", name := "appendCharacter", desc := "(I)I" } : Jvm.MethodName)) ∈ lw_all := lw_g (lw_at lw_m8 231 rfl) rfl
theorem q2013 : (Jvm.Cond.selects "TaxWorkbench" ({ cls := "TaxWorkbench", name := "appendCharacter", desc := "(I)I" } : Jvm.MethodName) ({ cls := "TaxWorkbench", name := "appendCharacter", desc := "(I)I" } : Jvm.MethodName)) ∈ lw_all := lw_g (lw_at lw_m8 232 rfl) rfl
theorem q2014 : (Jvm.Cond.code ({ cls := "TaxWorkbench", name := "appendCharacter", desc := "(I)I" } : Jvm.MethodName) prog_1_method_9_code (2 : Nat) (Option.some Jvm.ClassFile.FieldType.int)) ∈ lw_all := lw_g (lw_at lw_m8 233 rfl) rfl
theorem q2015 : (Jvm.Cond.methodLink "TaxWorkbench" (70 : Nat) ({ cls := "TaxWorkbench", name := "isBetween", desc := "(III)Z" } : Jvm.MethodName)) ∈ lw_all := lw_g (lw_at lw_m8 234 rfl) rfl
theorem q2016 : (Jvm.Cond.static ({ cls := "TaxWorkbench", name := "isBetween", desc := "(III)Z" } : Jvm.MethodName)) ∈ lw_all := lw_g (lw_at lw_m8 235 rfl) rfl
theorem q2017 : (Jvm.Cond.code ({ cls := "TaxWorkbench", name := "isBetween", desc := "(III)Z" } : Jvm.MethodName) prog_1_method_1_code (3 : Nat) (Option.some Jvm.ClassFile.FieldType.boolean)) ∈ lw_all := lw_g (lw_at lw_m8 236 rfl) rfl
theorem q2018 : (Jvm.Cond.methodLink "TaxWorkbench" (74 : Nat) ({ cls := "TaxWorkbench", name := "requireArgument", desc := "(Z)V" } : Jvm.MethodName)) ∈ lw_all := lw_g (lw_at lw_m8 237 rfl) rfl
theorem q2019 : (Jvm.Cond.static ({ cls := "TaxWorkbench", name := "requireArgument", desc := "(Z)V" } : Jvm.MethodName)) ∈ lw_all := lw_g (lw_at lw_m8 238 rfl) rfl
theorem q2020 : (Jvm.Cond.code ({ cls := "TaxWorkbench", name := "requireArgument", desc := "(Z)V" } : Jvm.MethodName) prog_1_method_2_code (1 : Nat) (Option.none : Option Jvm.ClassFile.FieldType)) ∈ lw_all := lw_g (lw_at lw_m8 239 rfl) rfl
theorem q2021 : (Jvm.Cond.classLink "TaxWorkbench" (1 : Nat) "java/lang/IllegalArgumentException") ∈ lw_all := lw_g (lw_at lw_m9 0 rfl) rfl
theorem q2022 : (Jvm.Cond.methodLink "TaxWorkbench" (3 : Nat) ({ cls := "java/lang/IllegalArgumentException", name := "<init>", desc := "()V" } : Jvm.MethodName)) ∈ lw_all := lw_g (lw_at lw_m9 1 rfl) rfl
theorem q2026 : (Jvm.Cond.methodLink "TaxWorkbench" (81 : Nat) ({ cls := "TaxWorkbench", name := "requireState", desc := "(Z)V" } : Jvm.MethodName)) ∈ lw_all := lw_g (lw_at lw_m9 5 rfl) rfl
theorem q2027 : (Jvm.Cond.static ({ cls := "TaxWorkbench", name := "requireState", desc := "(Z)V" } : Jvm.MethodName)) ∈ lw_all := lw_g (lw_at lw_m9 6 rfl) rfl
theorem q2028 : (Jvm.Cond.code ({ cls := "TaxWorkbench", name := "requireState", desc := "(Z)V" } : Jvm.MethodName) prog_1_method_3_code (1 : Nat) (Option.none : Option Jvm.ClassFile.FieldType)) ∈ lw_all := lw_g (lw_at lw_m9 7 rfl) rfl
theorem q2029 : (Jvm.Cond.classLink "TaxWorkbench" (7 : Nat) "java/lang/IllegalStateException") ∈ lw_all := lw_g (lw_at lw_m9 8 rfl) rfl
theorem q2030 : (Jvm.Cond.methodLink "TaxWorkbench" (9 : Nat) ({ cls := "java/lang/IllegalStateException", name := "<init>", desc := "()V" } : Jvm.MethodName)) ∈ lw_all := lw_g (lw_at lw_m9 9 rfl) rfl
theorem q2038 : (Jvm.Cond.instanceMethod ({ cls := "TaxWorkbench", name := "addRules", desc := "()I" } : Jvm.MethodName)) ∈ lw_all := lw_g (lw_at lw_m9 17 rfl) rfl
theorem q2039 : (Jvm.Cond.selects "TaxWorkbench" ({ cls := "TaxWorkbench", name := "addRules", desc := "()I" } : Jvm.MethodName) ({ cls := "TaxWorkbench", name := "addRules", desc := "()I" } : Jvm.MethodName)) ∈ lw_all := lw_g (lw_at lw_m9 18 rfl) rfl
theorem q2040 : (Jvm.Cond.codeWith ({ cls := "TaxWorkbench", name := "addRules", desc := "()I" } : Jvm.MethodName) prog_1_method_10_code (4 : Nat) (Option.some Jvm.ClassFile.FieldType.int) [((9 : Nat), (18 : Nat), (26 : Nat), (92 : Nat)), ((9 : Nat), (18 : Nat), (43 : Nat), (0 : Nat)), ((26 : Nat), (44 : Nat), (43 : Nat), (0 : Nat))]) ∈ lw_all := lw_g (lw_at lw_m9 19 rfl) rfl
theorem q2041 : (Jvm.Cond.classLink "TaxWorkbench" (92 : Nat) "TaxWorkbench$FaultException") ∈ lw_all := lw_g (lw_at lw_m9 20 rfl) rfl
theorem q2042 : (Jvm.Cond.classLink "TaxWorkbench" (84 : Nat) "TaxWorkbench$Reader") ∈ lw_all := lw_g (lw_at lw_m9 21 rfl) rfl
theorem q2044 : (Jvm.Cond.methodLinkNest "TaxWorkbench" (86 : Nat) ({ cls := "TaxWorkbench$Reader", name := "<init>", desc := "(LTaxWorkbench;)V" } : Jvm.MethodName) "TaxWorkbench") ∈ lw_tbl := lw_at lw_m9 23 rfl
theorem q2050 : (Jvm.Cond.fieldLinkNest "TaxWorkbench" (103 : Nat) "TaxWorkbench$Reader" "rules" "LTaxWorkbench$Rules;" "TaxWorkbench") ∈ lw_tbl := lw_at lw_m9 29 rfl
theorem q2052 : (Jvm.Cond.fieldLinkNest "TaxWorkbench" (108 : Nat) "TaxWorkbench$Reader" "items" "I" "TaxWorkbench") ∈ lw_tbl := lw_at lw_m9 31 rfl
theorem q2067 : (Jvm.Cond.methodLink "TaxWorkbench" (89 : Nat) ({ cls := "TaxWorkbench$Reader", name := "all", desc := "()V" } : Jvm.MethodName)) ∈ lw_all := lw_g (lw_at lw_m9 46 rfl) rfl
theorem q2153 : (Jvm.Cond.fieldLinkNest "TaxWorkbench" (94 : Nat) "TaxWorkbench$FaultException" "position" "I" "TaxWorkbench") ∈ lw_tbl := lw_at lw_m9 132 rfl
theorem q2271 : (Jvm.Cond.fieldLinkNest "TaxWorkbench" (167 : Nat) "TaxWorkbench$Charge" "threshold" "I" "TaxWorkbench") ∈ lw_tbl := lw_at lw_m10 10 rfl
theorem q2274 : (Jvm.Cond.fieldLinkNest "TaxWorkbench" (168 : Nat) "TaxWorkbench$Charge" "amount" "I" "TaxWorkbench") ∈ lw_tbl := lw_at lw_m10 13 rfl
theorem q2365 : (Jvm.Cond.methodLink "TaxWorkbench" (97 : Nat) ({ cls := "TaxWorkbench$Reader", name := "isAllowed", desc := "()Z" } : Jvm.MethodName)) ∈ lw_all := lw_g (lw_at lw_m10 104 rfl) rfl
theorem q2389 : (Jvm.Cond.instanceMethod ({ cls := "TaxWorkbench", name := "bracket", desc := "(II)I" } : Jvm.MethodName)) ∈ lw_all := lw_g (lw_at lw_m10 128 rfl) rfl
theorem q2390 : (Jvm.Cond.selects "TaxWorkbench" ({ cls := "TaxWorkbench", name := "bracket", desc := "(II)I" } : Jvm.MethodName) ({ cls := "TaxWorkbench", name := "bracket", desc := "(II)I" } : Jvm.MethodName)) ∈ lw_all := lw_g (lw_at lw_m10 129 rfl) rfl
theorem q2391 : (Jvm.Cond.code ({ cls := "TaxWorkbench", name := "bracket", desc := "(II)I" } : Jvm.MethodName) prog_1_method_14_code (4 : Nat) (Option.some Jvm.ClassFile.FieldType.int)) ∈ lw_all := lw_g (lw_at lw_m10 130 rfl) rfl
theorem q2392 : (Jvm.Cond.methodLink "TaxWorkbench" (142 : Nat) ({ cls := "TaxWorkbench", name := "requireIndex", desc := "(Z)V" } : Jvm.MethodName)) ∈ lw_all := lw_g (lw_at lw_m10 131 rfl) rfl
theorem q2393 : (Jvm.Cond.static ({ cls := "TaxWorkbench", name := "requireIndex", desc := "(Z)V" } : Jvm.MethodName)) ∈ lw_all := lw_g (lw_at lw_m10 132 rfl) rfl
theorem q2394 : (Jvm.Cond.code ({ cls := "TaxWorkbench", name := "requireIndex", desc := "(Z)V" } : Jvm.MethodName) prog_1_method_4_code (1 : Nat) (Option.none : Option Jvm.ClassFile.FieldType)) ∈ lw_all := lw_g (lw_at lw_m10 133 rfl) rfl
theorem q2395 : (Jvm.Cond.classLink "TaxWorkbench" (10 : Nat) "java/lang/IndexOutOfBoundsException") ∈ lw_all := lw_g (lw_at lw_m10 134 rfl) rfl
theorem q2396 : (Jvm.Cond.methodLink "TaxWorkbench" (12 : Nat) ({ cls := "java/lang/IndexOutOfBoundsException", name := "<init>", desc := "()V" } : Jvm.MethodName)) ∈ lw_all := lw_g (lw_at lw_m10 135 rfl) rfl
theorem q2400 : (Jvm.Cond.interfaceEntry "TaxWorkbench" (145 : Nat)) ∈ lw_tbl := lw_at lw_m10 139 rfl
theorem q2401 : (Jvm.Cond.methodLink "TaxWorkbench" (145 : Nat) ({ cls := "java/util/List", name := "get", desc := "(I)Ljava/lang/Object;" } : Jvm.MethodName)) ∈ lw_all := lw_g (lw_at lw_m10 140 rfl) rfl
theorem q2402 : (Jvm.Cond.classLink "TaxWorkbench" (149 : Nat) "TaxWorkbench$Bracket") ∈ lw_all := lw_g (lw_at lw_m10 141 rfl) rfl
theorem q2407 : (Jvm.Cond.instanceMethod ({ cls := "TaxWorkbench", name := "allowance", desc := "(I)I" } : Jvm.MethodName)) ∈ lw_all := lw_g (lw_at lw_m10 146 rfl) rfl
theorem q2408 : (Jvm.Cond.selects "TaxWorkbench" ({ cls := "TaxWorkbench", name := "allowance", desc := "(I)I" } : Jvm.MethodName) ({ cls := "TaxWorkbench", name := "allowance", desc := "(I)I" } : Jvm.MethodName)) ∈ lw_all := lw_g (lw_at lw_m10 147 rfl) rfl
theorem q2409 : (Jvm.Cond.code ({ cls := "TaxWorkbench", name := "allowance", desc := "(I)I" } : Jvm.MethodName) prog_1_method_15_code (2 : Nat) (Option.some Jvm.ClassFile.FieldType.int)) ∈ lw_all := lw_g (lw_at lw_m10 148 rfl) rfl
theorem q2414 : (Jvm.Cond.instanceMethod ({ cls := "TaxWorkbench", name := "charge", desc := "(II)I" } : Jvm.MethodName)) ∈ lw_all := lw_g (lw_at lw_m10 153 rfl) rfl
theorem q2415 : (Jvm.Cond.selects "TaxWorkbench" ({ cls := "TaxWorkbench", name := "charge", desc := "(II)I" } : Jvm.MethodName) ({ cls := "TaxWorkbench", name := "charge", desc := "(II)I" } : Jvm.MethodName)) ∈ lw_all := lw_g (lw_at lw_m10 154 rfl) rfl
theorem q2416 : (Jvm.Cond.code ({ cls := "TaxWorkbench", name := "charge", desc := "(II)I" } : Jvm.MethodName) prog_1_method_17_code (4 : Nat) (Option.some Jvm.ClassFile.FieldType.int)) ∈ lw_all := lw_g (lw_at lw_m10 155 rfl) rfl
theorem q2417 : (Jvm.Cond.classLink "TaxWorkbench" (165 : Nat) "TaxWorkbench$Charge") ∈ lw_all := lw_g (lw_at lw_m10 156 rfl) rfl
theorem q2422 : (Jvm.Cond.instanceMethod ({ cls := "TaxWorkbench", name := "credit", desc := "(II)I" } : Jvm.MethodName)) ∈ lw_all := lw_g (lw_at lw_m10 161 rfl) rfl
theorem q2423 : (Jvm.Cond.selects "TaxWorkbench" ({ cls := "TaxWorkbench", name := "credit", desc := "(II)I" } : Jvm.MethodName) ({ cls := "TaxWorkbench", name := "credit", desc := "(II)I" } : Jvm.MethodName)) ∈ lw_all := lw_g (lw_at lw_m10 162 rfl) rfl
theorem q2424 : (Jvm.Cond.code ({ cls := "TaxWorkbench", name := "credit", desc := "(II)I" } : Jvm.MethodName) prog_1_method_20_code (3 : Nat) (Option.some Jvm.ClassFile.FieldType.int)) ∈ lw_all := lw_g (lw_at lw_m10 163 rfl) rfl
theorem q2425 : (Jvm.Cond.methodLink "TaxWorkbench" (171 : Nat) ({ cls := "TaxWorkbench", name := "requireCredit", desc := "(I)V" } : Jvm.MethodName)) ∈ lw_all := lw_g (lw_at lw_m10 164 rfl) rfl
theorem q2426 : (Jvm.Cond.privateMethod ({ cls := "TaxWorkbench", name := "requireCredit", desc := "(I)V" } : Jvm.MethodName)) ∈ lw_tbl := lw_at lw_m10 165 rfl
theorem q2427 : (Jvm.Cond.instanceMethod ({ cls := "TaxWorkbench", name := "requireCredit", desc := "(I)V" } : Jvm.MethodName)) ∈ lw_all := lw_g (lw_at lw_m10 166 rfl) rfl
theorem q2428 : (Jvm.Cond.code ({ cls := "TaxWorkbench", name := "requireCredit", desc := "(I)V" } : Jvm.MethodName) prog_1_method_19_code (2 : Nat) (Option.none : Option Jvm.ClassFile.FieldType)) ∈ lw_all := lw_g (lw_at lw_m10 167 rfl) rfl
theorem q2429 : (Jvm.Cond.methodLink "TaxWorkbench" (175 : Nat) ({ cls := "java/util/LinkedList", name := "get", desc := "(I)Ljava/lang/Object;" } : Jvm.MethodName)) ∈ lw_all := lw_g (lw_at lw_m10 168 rfl) rfl
theorem q2430 : (Jvm.Cond.classLink "TaxWorkbench" (176 : Nat) "TaxWorkbench$Credit") ∈ lw_all := lw_g (lw_at lw_m10 169 rfl) rfl
theorem q2431 : (Jvm.Cond.methodLink "TaxWorkbench" (178 : Nat) ({ cls := "TaxWorkbench$Credit", name := "part", desc := "(I)I" } : Jvm.MethodName)) ∈ lw_all := lw_g (lw_at lw_m10 170 rfl) rfl
theorem q2439 : (Jvm.Cond.instanceMethod ({ cls := "TaxWorkbench", name := "removeCredit", desc := "(I)I" } : Jvm.MethodName)) ∈ lw_all := lw_g (lw_at lw_m10 178 rfl) rfl
theorem q2440 : (Jvm.Cond.selects "TaxWorkbench" ({ cls := "TaxWorkbench", name := "removeCredit", desc := "(I)I" } : Jvm.MethodName) ({ cls := "TaxWorkbench", name := "removeCredit", desc := "(I)I" } : Jvm.MethodName)) ∈ lw_all := lw_g (lw_at lw_m10 179 rfl) rfl
theorem q2441 : (Jvm.Cond.code ({ cls := "TaxWorkbench", name := "removeCredit", desc := "(I)I" } : Jvm.MethodName) prog_1_method_21_code (5 : Nat) (Option.some Jvm.ClassFile.FieldType.int)) ∈ lw_all := lw_g (lw_at lw_m10 180 rfl) rfl
theorem q2442 : (Jvm.Cond.methodLink "TaxWorkbench" (182 : Nat) ({ cls := "java/util/LinkedList", name := "iterator", desc := "()Ljava/util/Iterator;" } : Jvm.MethodName)) ∈ lw_all := lw_g (lw_at lw_m10 181 rfl) rfl
theorem q2443 : (Jvm.Cond.interfaceEntry "TaxWorkbench" (186 : Nat)) ∈ lw_tbl := lw_at lw_m10 182 rfl
theorem q2444 : (Jvm.Cond.methodLink "TaxWorkbench" (186 : Nat) ({ cls := "java/util/Iterator", name := "next", desc := "()Ljava/lang/Object;" } : Jvm.MethodName)) ∈ lw_all := lw_g (lw_at lw_m10 183 rfl) rfl
theorem q2445 : (Jvm.Cond.interfaceEntry "TaxWorkbench" (191 : Nat)) ∈ lw_tbl := lw_at lw_m10 184 rfl
theorem q2446 : (Jvm.Cond.methodLink "TaxWorkbench" (191 : Nat) ({ cls := "java/util/Iterator", name := "remove", desc := "()V" } : Jvm.MethodName)) ∈ lw_all := lw_g (lw_at lw_m10 185 rfl) rfl
theorem q2576 : (Jvm.Cond.methodLink "TaxWorkbench" (194 : Nat) ({ cls := "TaxWorkbench$World", name := "dropCarried", desc := "(I)V" } : Jvm.MethodName)) ∈ lw_all := lw_g (lw_at lw_m11 75 rfl) rfl
theorem q2584 : (Jvm.Cond.instanceMethod ({ cls := "TaxWorkbench", name := "moveCredit", desc := "(II)V" } : Jvm.MethodName)) ∈ lw_all := lw_g (lw_at lw_m11 83 rfl) rfl
theorem q2585 : (Jvm.Cond.selects "TaxWorkbench" ({ cls := "TaxWorkbench", name := "moveCredit", desc := "(II)V" } : Jvm.MethodName) ({ cls := "TaxWorkbench", name := "moveCredit", desc := "(II)V" } : Jvm.MethodName)) ∈ lw_all := lw_g (lw_at lw_m11 84 rfl) rfl
theorem q2586 : (Jvm.Cond.code ({ cls := "TaxWorkbench", name := "moveCredit", desc := "(II)V" } : Jvm.MethodName) prog_1_method_22_code (4 : Nat) (Option.none : Option Jvm.ClassFile.FieldType)) ∈ lw_all := lw_g (lw_at lw_m11 85 rfl) rfl
theorem q2587 : (Jvm.Cond.methodLink "TaxWorkbench" (197 : Nat) ({ cls := "java/util/LinkedList", name := "remove", desc := "(I)Ljava/lang/Object;" } : Jvm.MethodName)) ∈ lw_all := lw_g (lw_at lw_m11 86 rfl) rfl
theorem q2588 : (Jvm.Cond.methodLink "TaxWorkbench" (199 : Nat) ({ cls := "java/util/LinkedList", name := "add", desc := "(ILjava/lang/Object;)V" } : Jvm.MethodName)) ∈ lw_all := lw_g (lw_at lw_m11 87 rfl) rfl
theorem q2596 : (Jvm.Cond.methodLink "TaxWorkbench" (203 : Nat) ({ cls := "TaxWorkbench$World", name := "moveCarried", desc := "(II)V" } : Jvm.MethodName)) ∈ lw_all := lw_g (lw_at lw_m11 95 rfl) rfl
theorem q3170 : (Jvm.Cond.instanceMethod ({ cls := "TaxWorkbench", name := "setPerson", desc := "(IIII)V" } : Jvm.MethodName)) ∈ lw_all := lw_g (lw_at lw_m13 189 rfl) rfl
theorem q3171 : (Jvm.Cond.selects "TaxWorkbench" ({ cls := "TaxWorkbench", name := "setPerson", desc := "(IIII)V" } : Jvm.MethodName) ({ cls := "TaxWorkbench", name := "setPerson", desc := "(IIII)V" } : Jvm.MethodName)) ∈ lw_all := lw_g (lw_at lw_m13 190 rfl) rfl
theorem q3172 : (Jvm.Cond.code ({ cls := "TaxWorkbench", name := "setPerson", desc := "(IIII)V" } : Jvm.MethodName) prog_1_method_24_code (5 : Nat) (Option.none : Option Jvm.ClassFile.FieldType)) ∈ lw_all := lw_g (lw_at lw_m13 191 rfl) rfl
theorem q3173 : (Jvm.Cond.methodLink "TaxWorkbench" (211 : Nat) ({ cls := "TaxWorkbench", name := "person", desc := "(I)LTaxWorkbench$Person;" } : Jvm.MethodName)) ∈ lw_all := lw_g (lw_at lw_m13 192 rfl) rfl
theorem q3174 : (Jvm.Cond.privateMethod ({ cls := "TaxWorkbench", name := "person", desc := "(I)LTaxWorkbench$Person;" } : Jvm.MethodName)) ∈ lw_tbl := lw_at lw_m13 193 rfl
theorem q3175 : (Jvm.Cond.instanceMethod ({ cls := "TaxWorkbench", name := "person", desc := "(I)LTaxWorkbench$Person;" } : Jvm.MethodName)) ∈ lw_all := lw_g (lw_at lw_m13 194 rfl) rfl
theorem q3176 : (Jvm.Cond.code ({ cls := "TaxWorkbench", name := "person", desc := "(I)LTaxWorkbench$Person;" } : Jvm.MethodName) prog_1_method_23_code (2 : Nat) (Option.some (Jvm.ClassFile.FieldType.object "TaxWorkbench$Person"))) ∈ lw_all := lw_g (lw_at lw_m13 195 rfl) rfl
theorem q3177 : (Jvm.Cond.classLink "TaxWorkbench" (215 : Nat) "TaxWorkbench$Person") ∈ lw_all := lw_g (lw_at lw_m13 196 rfl) rfl
theorem q3178 : (Jvm.Cond.methodLink "TaxWorkbench" (217 : Nat) ({ cls := "TaxWorkbench$Person", name := "<init>", desc := "(III)V" } : Jvm.MethodName)) ∈ lw_all := lw_g (lw_at lw_m13 197 rfl) rfl
theorem q3183 : (Jvm.Cond.instanceMethod ({ cls := "TaxWorkbench", name := "personData", desc := "(II)I" } : Jvm.MethodName)) ∈ lw_all := lw_g (lw_at lw_m13 202 rfl) rfl
theorem q3184 : (Jvm.Cond.selects "TaxWorkbench" ({ cls := "TaxWorkbench", name := "personData", desc := "(II)I" } : Jvm.MethodName) ({ cls := "TaxWorkbench", name := "personData", desc := "(II)I" } : Jvm.MethodName)) ∈ lw_all := lw_g (lw_at lw_m13 203 rfl) rfl
theorem q3185 : (Jvm.Cond.code ({ cls := "TaxWorkbench", name := "personData", desc := "(II)I" } : Jvm.MethodName) prog_1_method_25_code (4 : Nat) (Option.some Jvm.ClassFile.FieldType.int)) ∈ lw_all := lw_g (lw_at lw_m13 204 rfl) rfl
theorem q3190 : (Jvm.Cond.instanceMethod ({ cls := "TaxWorkbench", name := "marry", desc := "(II)V" } : Jvm.MethodName)) ∈ lw_all := lw_g (lw_at lw_m13 209 rfl) rfl
theorem q3191 : (Jvm.Cond.selects "TaxWorkbench" ({ cls := "TaxWorkbench", name := "marry", desc := "(II)V" } : Jvm.MethodName) ({ cls := "TaxWorkbench", name := "marry", desc := "(II)V" } : Jvm.MethodName)) ∈ lw_all := lw_g (lw_at lw_m13 210 rfl) rfl
theorem q3192 : (Jvm.Cond.code ({ cls := "TaxWorkbench", name := "marry", desc := "(II)V" } : Jvm.MethodName) prog_1_method_26_code (4 : Nat) (Option.none : Option Jvm.ClassFile.FieldType)) ∈ lw_all := lw_g (lw_at lw_m13 211 rfl) rfl
theorem q3198 : (Jvm.Cond.instanceMethod ({ cls := "TaxWorkbench", name := "part", desc := "(I)I" } : Jvm.MethodName)) ∈ lw_all := lw_g (lw_at lw_m13 217 rfl) rfl
theorem q3199 : (Jvm.Cond.selects "TaxWorkbench" ({ cls := "TaxWorkbench", name := "part", desc := "(I)I" } : Jvm.MethodName) ({ cls := "TaxWorkbench", name := "part", desc := "(I)I" } : Jvm.MethodName)) ∈ lw_all := lw_g (lw_at lw_m13 218 rfl) rfl
theorem q3200 : (Jvm.Cond.code ({ cls := "TaxWorkbench", name := "part", desc := "(I)I" } : Jvm.MethodName) prog_1_method_28_code (4 : Nat) (Option.some Jvm.ClassFile.FieldType.int)) ∈ lw_all := lw_g (lw_at lw_m13 219 rfl) rfl
theorem q3201 : (Jvm.Cond.methodLink "TaxWorkbench" (235 : Nat) ({ cls := "TaxWorkbench", name := "requirePartner", desc := "(I)I" } : Jvm.MethodName)) ∈ lw_all := lw_g (lw_at lw_m13 220 rfl) rfl
theorem q3202 : (Jvm.Cond.privateMethod ({ cls := "TaxWorkbench", name := "requirePartner", desc := "(I)I" } : Jvm.MethodName)) ∈ lw_tbl := lw_at lw_m13 221 rfl
theorem q3203 : (Jvm.Cond.instanceMethod ({ cls := "TaxWorkbench", name := "requirePartner", desc := "(I)I" } : Jvm.MethodName)) ∈ lw_all := lw_g (lw_at lw_m13 222 rfl) rfl
theorem q3204 : (Jvm.Cond.code ({ cls := "TaxWorkbench", name := "requirePartner", desc := "(I)I" } : Jvm.MethodName) prog_1_method_27_code (2 : Nat) (Option.some Jvm.ClassFile.FieldType.int)) ∈ lw_all := lw_g (lw_at lw_m13 223 rfl) rfl
theorem q3205 : (Jvm.Cond.methodLink "TaxWorkbench" (232 : Nat) ({ cls := "TaxWorkbench", name := "requireElement", desc := "(Z)V" } : Jvm.MethodName)) ∈ lw_all := lw_g (lw_at lw_m13 224 rfl) rfl
theorem q3206 : (Jvm.Cond.static ({ cls := "TaxWorkbench", name := "requireElement", desc := "(Z)V" } : Jvm.MethodName)) ∈ lw_all := lw_g (lw_at lw_m13 225 rfl) rfl
theorem q3207 : (Jvm.Cond.code ({ cls := "TaxWorkbench", name := "requireElement", desc := "(Z)V" } : Jvm.MethodName) prog_1_method_5_code (1 : Nat) (Option.none : Option Jvm.ClassFile.FieldType)) ∈ lw_all := lw_g (lw_at lw_m13 226 rfl) rfl
theorem q3208 : (Jvm.Cond.classLink "TaxWorkbench" (13 : Nat) "java/util/NoSuchElementException") ∈ lw_all := lw_g (lw_at lw_m13 227 rfl) rfl
theorem q3209 : (Jvm.Cond.methodLink "TaxWorkbench" (15 : Nat) ({ cls := "java/util/NoSuchElementException", name := "<init>", desc := "()V" } : Jvm.MethodName)) ∈ lw_all := lw_g (lw_at lw_m13 228 rfl) rfl
theorem q3214 : (Jvm.Cond.instanceMethod ({ cls := "TaxWorkbench", name := "partner", desc := "(I)I" } : Jvm.MethodName)) ∈ lw_all := lw_g (lw_at lw_m13 233 rfl) rfl
theorem q3215 : (Jvm.Cond.selects "TaxWorkbench" ({ cls := "TaxWorkbench", name := "partner", desc := "(I)I" } : Jvm.MethodName) ({ cls := "TaxWorkbench", name := "partner", desc := "(I)I" } : Jvm.MethodName)) ∈ lw_all := lw_g (lw_at lw_m13 234 rfl) rfl
theorem q3216 : (Jvm.Cond.code ({ cls := "TaxWorkbench", name := "partner", desc := "(I)I" } : Jvm.MethodName) prog_1_method_29_code (2 : Nat) (Option.some Jvm.ClassFile.FieldType.int)) ∈ lw_all := lw_g (lw_at lw_m13 235 rfl) rfl
theorem q3221 : (Jvm.Cond.instanceMethod ({ cls := "TaxWorkbench", name := "tax", desc := "(I)J" } : Jvm.MethodName)) ∈ lw_all := lw_g (lw_at lw_m14 0 rfl) rfl
theorem q3222 : (Jvm.Cond.selects "TaxWorkbench" ({ cls := "TaxWorkbench", name := "tax", desc := "(I)J" } : Jvm.MethodName) ({ cls := "TaxWorkbench", name := "tax", desc := "(I)J" } : Jvm.MethodName)) ∈ lw_all := lw_g (lw_at lw_m14 1 rfl) rfl
theorem q3223 : (Jvm.Cond.code ({ cls := "TaxWorkbench", name := "tax", desc := "(I)J" } : Jvm.MethodName) prog_1_method_32_code (2 : Nat) (Option.some Jvm.ClassFile.FieldType.long)) ∈ lw_all := lw_g (lw_at lw_m14 2 rfl) rfl
theorem q3228 : (Jvm.Cond.instanceMethod ({ cls := "TaxWorkbench", name := "taxPart", desc := "(II)J" } : Jvm.MethodName)) ∈ lw_all := lw_g (lw_at lw_m14 7 rfl) rfl
theorem q3229 : (Jvm.Cond.selects "TaxWorkbench" ({ cls := "TaxWorkbench", name := "taxPart", desc := "(II)J" } : Jvm.MethodName) ({ cls := "TaxWorkbench", name := "taxPart", desc := "(II)J" } : Jvm.MethodName)) ∈ lw_all := lw_g (lw_at lw_m14 8 rfl) rfl
theorem q3230 : (Jvm.Cond.code ({ cls := "TaxWorkbench", name := "taxPart", desc := "(II)J" } : Jvm.MethodName) prog_1_method_33_code (3 : Nat) (Option.some Jvm.ClassFile.FieldType.long)) ∈ lw_all := lw_g (lw_at lw_m14 9 rfl) rfl
theorem q3235 : (Jvm.Cond.instanceMethod ({ cls := "TaxWorkbench", name := "creditPart", desc := "(III)J" } : Jvm.MethodName)) ∈ lw_all := lw_g (lw_at lw_m14 14 rfl) rfl
theorem q3236 : (Jvm.Cond.selects "TaxWorkbench" ({ cls := "TaxWorkbench", name := "creditPart", desc := "(III)J" } : Jvm.MethodName) ({ cls := "TaxWorkbench", name := "creditPart", desc := "(III)J" } : Jvm.MethodName)) ∈ lw_all := lw_g (lw_at lw_m14 15 rfl) rfl
theorem q3237 : (Jvm.Cond.code ({ cls := "TaxWorkbench", name := "creditPart", desc := "(III)J" } : Jvm.MethodName) prog_1_method_34_code (4 : Nat) (Option.some Jvm.ClassFile.FieldType.long)) ∈ lw_all := lw_g (lw_at lw_m14 16 rfl) rfl
theorem q3238 : (Jvm.Cond.methodLink "TaxWorkbench" (270 : Nat) ({ cls := "TaxWorkbench$Computation", name := "creditPart", desc := "(II)J" } : Jvm.MethodName)) ∈ lw_all := lw_g (lw_at lw_m14 17 rfl) rfl
theorem q3246 : (Jvm.Cond.instanceMethod ({ cls := "TaxWorkbench", name := "carried", desc := "(II)J" } : Jvm.MethodName)) ∈ lw_all := lw_g (lw_at lw_m14 25 rfl) rfl
theorem q3247 : (Jvm.Cond.selects "TaxWorkbench" ({ cls := "TaxWorkbench", name := "carried", desc := "(II)J" } : Jvm.MethodName) ({ cls := "TaxWorkbench", name := "carried", desc := "(II)J" } : Jvm.MethodName)) ∈ lw_all := lw_g (lw_at lw_m14 26 rfl) rfl
theorem q3248 : (Jvm.Cond.code ({ cls := "TaxWorkbench", name := "carried", desc := "(II)J" } : Jvm.MethodName) prog_1_method_35_code (3 : Nat) (Option.some Jvm.ClassFile.FieldType.long)) ∈ lw_all := lw_g (lw_at lw_m14 27 rfl) rfl
theorem q3253 : (Jvm.Cond.instanceMethod ({ cls := "TaxWorkbench", name := "jointTax", desc := "(I)J" } : Jvm.MethodName)) ∈ lw_all := lw_g (lw_at lw_m14 32 rfl) rfl
theorem q3254 : (Jvm.Cond.selects "TaxWorkbench" ({ cls := "TaxWorkbench", name := "jointTax", desc := "(I)J" } : Jvm.MethodName) ({ cls := "TaxWorkbench", name := "jointTax", desc := "(I)J" } : Jvm.MethodName)) ∈ lw_all := lw_g (lw_at lw_m14 33 rfl) rfl
theorem q3255 : (Jvm.Cond.code ({ cls := "TaxWorkbench", name := "jointTax", desc := "(I)J" } : Jvm.MethodName) prog_1_method_43_code (2 : Nat) (Option.some Jvm.ClassFile.FieldType.long)) ∈ lw_all := lw_g (lw_at lw_m14 34 rfl) rfl
theorem q3260 : (Jvm.Cond.instanceMethod ({ cls := "TaxWorkbench", name := "separateTax", desc := "(I)J" } : Jvm.MethodName)) ∈ lw_all := lw_g (lw_at lw_m14 39 rfl) rfl
theorem q3261 : (Jvm.Cond.selects "TaxWorkbench" ({ cls := "TaxWorkbench", name := "separateTax", desc := "(I)J" } : Jvm.MethodName) ({ cls := "TaxWorkbench", name := "separateTax", desc := "(I)J" } : Jvm.MethodName)) ∈ lw_all := lw_g (lw_at lw_m14 40 rfl) rfl
theorem q3262 : (Jvm.Cond.code ({ cls := "TaxWorkbench", name := "separateTax", desc := "(I)J" } : Jvm.MethodName) prog_1_method_44_code (2 : Nat) (Option.some Jvm.ClassFile.FieldType.long)) ∈ lw_all := lw_g (lw_at lw_m14 41 rfl) rfl
theorem q3267 : (Jvm.Cond.instanceMethod ({ cls := "TaxWorkbench", name := "division", desc := "(I)I" } : Jvm.MethodName)) ∈ lw_all := lw_g (lw_at lw_m14 46 rfl) rfl
theorem q3268 : (Jvm.Cond.selects "TaxWorkbench" ({ cls := "TaxWorkbench", name := "division", desc := "(I)I" } : Jvm.MethodName) ({ cls := "TaxWorkbench", name := "division", desc := "(I)I" } : Jvm.MethodName)) ∈ lw_all := lw_g (lw_at lw_m14 47 rfl) rfl
theorem q3269 : (Jvm.Cond.code ({ cls := "TaxWorkbench", name := "division", desc := "(I)I" } : Jvm.MethodName) prog_1_method_45_code (2 : Nat) (Option.some Jvm.ClassFile.FieldType.int)) ∈ lw_all := lw_g (lw_at lw_m14 48 rfl) rfl
theorem q3274 : (Jvm.Cond.instanceMethod ({ cls := "TaxWorkbench", name := "choosesJoint", desc := "(I)Z" } : Jvm.MethodName)) ∈ lw_all := lw_g (lw_at lw_m14 53 rfl) rfl
theorem q3275 : (Jvm.Cond.selects "TaxWorkbench" ({ cls := "TaxWorkbench", name := "choosesJoint", desc := "(I)Z" } : Jvm.MethodName) ({ cls := "TaxWorkbench", name := "choosesJoint", desc := "(I)Z" } : Jvm.MethodName)) ∈ lw_all := lw_g (lw_at lw_m14 54 rfl) rfl
theorem q3276 : (Jvm.Cond.code ({ cls := "TaxWorkbench", name := "choosesJoint", desc := "(I)Z" } : Jvm.MethodName) prog_1_method_46_code (2 : Nat) (Option.some Jvm.ClassFile.FieldType.boolean)) ∈ lw_all := lw_g (lw_at lw_m14 55 rfl) rfl
theorem q3281 : (Jvm.Cond.instanceMethod ({ cls := "TaxWorkbench", name := "householdTax", desc := "(I)J" } : Jvm.MethodName)) ∈ lw_all := lw_g (lw_at lw_m14 60 rfl) rfl
theorem q3282 : (Jvm.Cond.selects "TaxWorkbench" ({ cls := "TaxWorkbench", name := "householdTax", desc := "(I)J" } : Jvm.MethodName) ({ cls := "TaxWorkbench", name := "householdTax", desc := "(I)J" } : Jvm.MethodName)) ∈ lw_all := lw_g (lw_at lw_m14 61 rfl) rfl
theorem q3283 : (Jvm.Cond.code ({ cls := "TaxWorkbench", name := "householdTax", desc := "(I)J" } : Jvm.MethodName) prog_1_method_47_code (2 : Nat) (Option.some Jvm.ClassFile.FieldType.long)) ∈ lw_all := lw_g (lw_at lw_m14 62 rfl) rfl
theorem q3288 : (Jvm.Cond.instanceMethod ({ cls := "TaxWorkbench", name := "curve", desc := "(II)J" } : Jvm.MethodName)) ∈ lw_all := lw_g (lw_at lw_m14 67 rfl) rfl
theorem q3289 : (Jvm.Cond.selects "TaxWorkbench" ({ cls := "TaxWorkbench", name := "curve", desc := "(II)J" } : Jvm.MethodName) ({ cls := "TaxWorkbench", name := "curve", desc := "(II)J" } : Jvm.MethodName)) ∈ lw_all := lw_g (lw_at lw_m14 68 rfl) rfl
theorem q3290 : (Jvm.Cond.code ({ cls := "TaxWorkbench", name := "curve", desc := "(II)J" } : Jvm.MethodName) prog_1_method_54_code (3 : Nat) (Option.some Jvm.ClassFile.FieldType.long)) ∈ lw_all := lw_g (lw_at lw_m14 69 rfl) rfl
theorem q3291 : (Jvm.Cond.methodLink "TaxWorkbench" (323 : Nat) ({ cls := "TaxWorkbench", name := "curveAt", desc := "(II)J" } : Jvm.MethodName)) ∈ lw_all := lw_g (lw_at lw_m14 70 rfl) rfl
theorem q3292 : (Jvm.Cond.privateMethod ({ cls := "TaxWorkbench", name := "curveAt", desc := "(II)J" } : Jvm.MethodName)) ∈ lw_tbl := lw_at lw_m14 71 rfl
theorem q3293 : (Jvm.Cond.instanceMethod ({ cls := "TaxWorkbench", name := "curveAt", desc := "(II)J" } : Jvm.MethodName)) ∈ lw_all := lw_g (lw_at lw_m14 72 rfl) rfl
theorem q3294 : (Jvm.Cond.code ({ cls := "TaxWorkbench", name := "curveAt", desc := "(II)J" } : Jvm.MethodName) prog_1_method_53_code (3 : Nat) (Option.some Jvm.ClassFile.FieldType.long)) ∈ lw_all := lw_g (lw_at lw_m14 73 rfl) rfl
theorem q3299 : (Jvm.Cond.instanceMethod ({ cls := "TaxWorkbench", name := "marginalRate", desc := "(II)J" } : Jvm.MethodName)) ∈ lw_all := lw_g (lw_at lw_m14 78 rfl) rfl
theorem q3300 : (Jvm.Cond.selects "TaxWorkbench" ({ cls := "TaxWorkbench", name := "marginalRate", desc := "(II)J" } : Jvm.MethodName) ({ cls := "TaxWorkbench", name := "marginalRate", desc := "(II)J" } : Jvm.MethodName)) ∈ lw_all := lw_g (lw_at lw_m14 79 rfl) rfl
theorem q3301 : (Jvm.Cond.code ({ cls := "TaxWorkbench", name := "marginalRate", desc := "(II)J" } : Jvm.MethodName) prog_1_method_55_code (3 : Nat) (Option.some Jvm.ClassFile.FieldType.long)) ∈ lw_all := lw_g (lw_at lw_m14 80 rfl) rfl
theorem q3306 : (Jvm.Cond.instanceMethod ({ cls := "TaxWorkbench", name := "kinks", desc := "(I)I" } : Jvm.MethodName)) ∈ lw_all := lw_g (lw_at lw_m14 85 rfl) rfl
theorem q3307 : (Jvm.Cond.selects "TaxWorkbench" ({ cls := "TaxWorkbench", name := "kinks", desc := "(I)I" } : Jvm.MethodName) ({ cls := "TaxWorkbench", name := "kinks", desc := "(I)I" } : Jvm.MethodName)) ∈ lw_all := lw_g (lw_at lw_m14 86 rfl) rfl
theorem q3308 : (Jvm.Cond.code ({ cls := "TaxWorkbench", name := "kinks", desc := "(I)I" } : Jvm.MethodName) prog_1_method_57_code (2 : Nat) (Option.some Jvm.ClassFile.FieldType.int)) ∈ lw_all := lw_g (lw_at lw_m14 87 rfl) rfl
theorem q3309 : (Jvm.Cond.methodLink "TaxWorkbench" (332 : Nat) ({ cls := "TaxWorkbench", name := "findKinks", desc := "(I)Ljava/util/BitSet;" } : Jvm.MethodName)) ∈ lw_all := lw_g (lw_at lw_m14 88 rfl) rfl
theorem q3310 : (Jvm.Cond.privateMethod ({ cls := "TaxWorkbench", name := "findKinks", desc := "(I)Ljava/util/BitSet;" } : Jvm.MethodName)) ∈ lw_tbl := lw_at lw_m14 89 rfl
theorem q3311 : (Jvm.Cond.instanceMethod ({ cls := "TaxWorkbench", name := "findKinks", desc := "(I)Ljava/util/BitSet;" } : Jvm.MethodName)) ∈ lw_all := lw_g (lw_at lw_m14 90 rfl) rfl
theorem q3312 : (Jvm.Cond.code ({ cls := "TaxWorkbench", name := "findKinks", desc := "(I)Ljava/util/BitSet;" } : Jvm.MethodName) prog_1_method_56_code (10 : Nat) (Option.some (Jvm.ClassFile.FieldType.object "java/util/BitSet"))) ∈ lw_all := lw_g (lw_at lw_m14 91 rfl) rfl
theorem q3313 : (Jvm.Cond.classLink "TaxWorkbench" (326 : Nat) "java/util/BitSet") ∈ lw_all := lw_g (lw_at lw_m14 92 rfl) rfl
theorem q3315 : (Jvm.Cond.methodLink "TaxWorkbench" (328 : Nat) ({ cls := "java/util/BitSet", name := "<init>", desc := "()V" } : Jvm.MethodName)) ∈ lw_all := lw_g (lw_at lw_m14 94 rfl) rfl
theorem q3336 : (Jvm.Cond.methodLink "TaxWorkbench" (329 : Nat) ({ cls := "java/util/BitSet", name := "set", desc := "(IZ)V" } : Jvm.MethodName)) ∈ lw_all := lw_g (lw_at lw_m14 115 rfl) rfl
theorem q3381 : (Jvm.Cond.methodLink "TaxWorkbench" (336 : Nat) ({ cls := "java/util/BitSet", name := "cardinality", desc := "()I" } : Jvm.MethodName)) ∈ lw_all := lw_g (lw_at lw_m14 160 rfl) rfl
theorem q3395 : (Jvm.Cond.instanceMethod ({ cls := "TaxWorkbench", name := "nextKink", desc := "(II)I" } : Jvm.MethodName)) ∈ lw_all := lw_g (lw_at lw_m14 174 rfl) rfl
theorem q3396 : (Jvm.Cond.selects "TaxWorkbench" ({ cls := "TaxWorkbench", name := "nextKink", desc := "(II)I" } : Jvm.MethodName) ({ cls := "TaxWorkbench", name := "nextKink", desc := "(II)I" } : Jvm.MethodName)) ∈ lw_all := lw_g (lw_at lw_m14 175 rfl) rfl
theorem q3397 : (Jvm.Cond.code ({ cls := "TaxWorkbench", name := "nextKink", desc := "(II)I" } : Jvm.MethodName) prog_1_method_58_code (5 : Nat) (Option.some Jvm.ClassFile.FieldType.int)) ∈ lw_all := lw_g (lw_at lw_m14 176 rfl) rfl
theorem q3398 : (Jvm.Cond.methodLink "TaxWorkbench" (339 : Nat) ({ cls := "java/lang/Math", name := "max", desc := "(II)I" } : Jvm.MethodName)) ∈ lw_all := lw_g (lw_at lw_m14 177 rfl) rfl
theorem q3399 : (Jvm.Cond.methodLink "TaxWorkbench" (342 : Nat) ({ cls := "java/util/BitSet", name := "nextSetBit", desc := "(I)I" } : Jvm.MethodName)) ∈ lw_all := lw_g (lw_at lw_m14 178 rfl) rfl
theorem q3415 : (Jvm.Cond.instanceMethod ({ cls := "TaxWorkbench", name := "kinkCause", desc := "(II)I" } : Jvm.MethodName)) ∈ lw_all := lw_g (lw_at lw_m14 194 rfl) rfl
theorem q3416 : (Jvm.Cond.selects "TaxWorkbench" ({ cls := "TaxWorkbench", name := "kinkCause", desc := "(II)I" } : Jvm.MethodName) ({ cls := "TaxWorkbench", name := "kinkCause", desc := "(II)I" } : Jvm.MethodName)) ∈ lw_all := lw_g (lw_at lw_m14 195 rfl) rfl
theorem q3417 : (Jvm.Cond.code ({ cls := "TaxWorkbench", name := "kinkCause", desc := "(II)I" } : Jvm.MethodName) prog_1_method_61_code (3 : Nat) (Option.some Jvm.ClassFile.FieldType.int)) ∈ lw_all := lw_g (lw_at lw_m14 196 rfl) rfl
theorem q3418 : (Jvm.Cond.methodLink "TaxWorkbench" (350 : Nat) ({ cls := "TaxWorkbench", name := "bend", desc := "(III)J" } : Jvm.MethodName)) ∈ lw_all := lw_g (lw_at lw_m14 197 rfl) rfl
theorem q3419 : (Jvm.Cond.privateMethod ({ cls := "TaxWorkbench", name := "bend", desc := "(III)J" } : Jvm.MethodName)) ∈ lw_tbl := lw_at lw_m14 198 rfl
theorem q3420 : (Jvm.Cond.instanceMethod ({ cls := "TaxWorkbench", name := "bend", desc := "(III)J" } : Jvm.MethodName)) ∈ lw_all := lw_g (lw_at lw_m14 199 rfl) rfl
theorem q3421 : (Jvm.Cond.code ({ cls := "TaxWorkbench", name := "bend", desc := "(III)J" } : Jvm.MethodName) prog_1_method_59_code (6 : Nat) (Option.some Jvm.ClassFile.FieldType.long)) ∈ lw_all := lw_g (lw_at lw_m14 200 rfl) rfl
theorem q3422 : (Jvm.Cond.methodLink "TaxWorkbench" (345 : Nat) ({ cls := "TaxWorkbench$Computation", name := "curvePart", desc := "(I)J" } : Jvm.MethodName)) ∈ lw_all := lw_g (lw_at lw_m14 201 rfl) rfl
theorem q3426 : (Jvm.Cond.constantLong "TaxWorkbench" (348 : Nat) (2 : Int64)) ∈ lw_all := lw_g (lw_at lw_m14 205 rfl) rfl
theorem q3427 : (Jvm.Cond.methodLink "TaxWorkbench" (353 : Nat) ({ cls := "TaxWorkbench", name := "causeOf", desc := "(II)I" } : Jvm.MethodName)) ∈ lw_all := lw_g (lw_at lw_m14 206 rfl) rfl
theorem q3428 : (Jvm.Cond.privateMethod ({ cls := "TaxWorkbench", name := "causeOf", desc := "(II)I" } : Jvm.MethodName)) ∈ lw_tbl := lw_at lw_m14 207 rfl
theorem q3429 : (Jvm.Cond.instanceMethod ({ cls := "TaxWorkbench", name := "causeOf", desc := "(II)I" } : Jvm.MethodName)) ∈ lw_all := lw_g (lw_at lw_m14 208 rfl) rfl
theorem q3430 : (Jvm.Cond.code ({ cls := "TaxWorkbench", name := "causeOf", desc := "(II)I" } : Jvm.MethodName) prog_1_method_60_code (5 : Nat) (Option.some Jvm.ClassFile.FieldType.int)) ∈ lw_all := lw_g (lw_at lw_m14 209 rfl) rfl
theorem q3435 : (Jvm.Cond.instanceMethod ({ cls := "TaxWorkbench", name := "steepest", desc := "(I)I" } : Jvm.MethodName)) ∈ lw_all := lw_g (lw_at lw_m14 214 rfl) rfl
theorem q3436 : (Jvm.Cond.selects "TaxWorkbench" ({ cls := "TaxWorkbench", name := "steepest", desc := "(I)I" } : Jvm.MethodName) ({ cls := "TaxWorkbench", name := "steepest", desc := "(I)I" } : Jvm.MethodName)) ∈ lw_all := lw_g (lw_at lw_m14 215 rfl) rfl
theorem q3437 : (Jvm.Cond.code ({ cls := "TaxWorkbench", name := "steepest", desc := "(I)I" } : Jvm.MethodName) prog_1_method_62_code (10 : Nat) (Option.some Jvm.ClassFile.FieldType.int)) ∈ lw_all := lw_g (lw_at lw_m14 216 rfl) rfl
theorem q3438 : (Jvm.Cond.constantLong "TaxWorkbench" (358 : Nat) (-9223372036854775808 : Int64)) ∈ lw_all := lw_g (lw_at lw_m14 217 rfl) rfl
theorem q3439 : (Jvm.Cond.methodLink "TaxWorkbench" (360 : Nat) ({ cls := "java/lang/Math", name := "max", desc := "(JJ)J" } : Jvm.MethodName)) ∈ lw_all := lw_g (lw_at lw_m14 218 rfl) rfl
theorem q3458 : (Jvm.Cond.instanceMethod ({ cls := "TaxWorkbench", name := "averageRate", desc := "(I)D" } : Jvm.MethodName)) ∈ lw_all := lw_g (lw_at lw_m14 237 rfl) rfl
theorem q3459 : (Jvm.Cond.selects "TaxWorkbench" ({ cls := "TaxWorkbench", name := "averageRate", desc := "(I)D" } : Jvm.MethodName) ({ cls := "TaxWorkbench", name := "averageRate", desc := "(I)D" } : Jvm.MethodName)) ∈ lw_all := lw_g (lw_at lw_m14 238 rfl) rfl
theorem q3460 : (Jvm.Cond.code ({ cls := "TaxWorkbench", name := "averageRate", desc := "(I)D" } : Jvm.MethodName) prog_1_method_63_code (5 : Nat) (Option.some Jvm.ClassFile.FieldType.double)) ∈ lw_all := lw_g (lw_at lw_m14 239 rfl) rfl
theorem q3461 : (Jvm.Cond.classLink "TaxWorkbench" (362 : Nat) "java/lang/ArithmeticException") ∈ lw_all := lw_g (lw_at lw_m15 0 rfl) rfl
theorem q3462 : (Jvm.Cond.methodLink "TaxWorkbench" (364 : Nat) ({ cls := "java/lang/ArithmeticException", name := "<init>", desc := "()V" } : Jvm.MethodName)) ∈ lw_all := lw_g (lw_at lw_m15 1 rfl) rfl
theorem q3466 : (Jvm.Cond.constantLong "TaxWorkbench" (365 : Nat) (1000000 : Int64)) ∈ lw_all := lw_g (lw_at lw_m15 5 rfl) rfl
theorem q3471 : (Jvm.Cond.instanceMethod ({ cls := "TaxWorkbench", name := "undo", desc := "()I" } : Jvm.MethodName)) ∈ lw_all := lw_g (lw_at lw_m15 10 rfl) rfl
theorem q3472 : (Jvm.Cond.selects "TaxWorkbench" ({ cls := "TaxWorkbench", name := "undo", desc := "()I" } : Jvm.MethodName) ({ cls := "TaxWorkbench", name := "undo", desc := "()I" } : Jvm.MethodName)) ∈ lw_all := lw_g (lw_at lw_m15 11 rfl) rfl
theorem q3473 : (Jvm.Cond.code ({ cls := "TaxWorkbench", name := "undo", desc := "()I" } : Jvm.MethodName) prog_1_method_65_code (1 : Nat) (Option.some Jvm.ClassFile.FieldType.int)) ∈ lw_all := lw_g (lw_at lw_m15 12 rfl) rfl
theorem q3474 : (Jvm.Cond.methodLink "TaxWorkbench" (368 : Nat) ({ cls := "java/util/ArrayDeque", name := "isEmpty", desc := "()Z" } : Jvm.MethodName)) ∈ lw_all := lw_g (lw_at lw_m15 13 rfl) rfl
theorem q3478 : (Jvm.Cond.methodLink "TaxWorkbench" (371 : Nat) ({ cls := "java/util/ArrayDeque", name := "removeLast", desc := "()Ljava/lang/Object;" } : Jvm.MethodName)) ∈ lw_all := lw_g (lw_at lw_m15 17 rfl) rfl
theorem q3490 : (Jvm.Cond.instanceMethod ({ cls := "TaxWorkbench", name := "restore", desc := "()V" } : Jvm.MethodName)) ∈ lw_all := lw_g (lw_at lw_m15 29 rfl) rfl
theorem q3491 : (Jvm.Cond.selects "TaxWorkbench" ({ cls := "TaxWorkbench", name := "restore", desc := "()V" } : Jvm.MethodName) ({ cls := "TaxWorkbench", name := "restore", desc := "()V" } : Jvm.MethodName)) ∈ lw_all := lw_g (lw_at lw_m15 30 rfl) rfl
theorem q3492 : (Jvm.Cond.code ({ cls := "TaxWorkbench", name := "restore", desc := "()V" } : Jvm.MethodName) prog_1_method_67_code (1 : Nat) (Option.none : Option Jvm.ClassFile.FieldType)) ∈ lw_all := lw_g (lw_at lw_m15 31 rfl) rfl
theorem q3949 : (Jvm.Cond.castable "TaxWorkbench" "java/lang/Object") ∈ lw_tbl := lw_at lw_m17 8 rfl

