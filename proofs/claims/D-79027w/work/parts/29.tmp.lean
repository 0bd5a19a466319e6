theorem q125 : (Jvm.Cond.initialized "TaxWorkbenchModel") ∈ lw_all := lw_g (lw_at lw_m1 24 rfl) rfl
theorem q397 : (Jvm.Cond.selects "TaxWorkbenchModel" ({ cls := "java/lang/Object", name := "getClass", desc := "()Ljava/lang/Class;" } : Jvm.MethodName) ({ cls := "java/lang/Object", name := "getClass", desc := "()Ljava/lang/Class;" } : Jvm.MethodName)) ∈ lw_all := lw_g (lw_at lw_m2 56 rfl) rfl
theorem q3494 : (Jvm.Cond.instantiable "TaxWorkbenchModel" (23 : Nat)) ∈ lw_all := lw_g (lw_at lw_m15 33 rfl) rfl
theorem q3496 : (Jvm.Cond.instanceMethod ({ cls := "TaxWorkbenchModel", name := "<init>", desc := "()V" } : Jvm.MethodName)) ∈ lw_all := lw_g (lw_at lw_m15 35 rfl) rfl
theorem q3497 : (Jvm.Cond.code ({ cls := "TaxWorkbenchModel", name := "<init>", desc := "()V" } : Jvm.MethodName) prog_13_method_1_code (2 : Nat) (Option.none : Option Jvm.ClassFile.FieldType)) ∈ lw_all := lw_g (lw_at lw_m15 36 rfl) rfl
theorem q3498 : (Jvm.Cond.methodLink "TaxWorkbenchModel" (1 : Nat) ({ cls := "java/lang/Object", name := "<init>", desc := "()V" } : Jvm.MethodName)) ∈ lw_all := lw_g (lw_at lw_m15 37 rfl) rfl
theorem q3499 : (Jvm.Cond.fieldLink "TaxWorkbenchModel" (7 : Nat) "TaxWorkbenchModel" "g" "[I") ∈ lw_all := lw_g (lw_at lw_m15 38 rfl) rfl
theorem q3500 : (Jvm.Cond.fieldLink "TaxWorkbenchModel" (13 : Nat) "TaxWorkbenchModel" "h" "[J") ∈ lw_all := lw_g (lw_at lw_m15 39 rfl) rfl
theorem q3501 : (Jvm.Cond.fieldLink "TaxWorkbenchModel" (17 : Nat) "TaxWorkbenchModel" "kept" "[I") ∈ lw_all := lw_g (lw_at lw_m15 40 rfl) rfl
theorem q3502 : (Jvm.Cond.fieldLink "TaxWorkbenchModel" (20 : Nat) "TaxWorkbenchModel" "keptCarried" "[J") ∈ lw_all := lw_g (lw_at lw_m15 41 rfl) rfl
theorem q3503 : (Jvm.Cond.fieldLink "TaxWorkbenchModel" (71 : Nat) "TaxWorkbenchModel" "hasKept" "Z") ∈ lw_all := lw_g (lw_at lw_m15 42 rfl) rfl
theorem q3504 : (Jvm.Cond.fieldLink "TaxWorkbenchModel" (23 : Nat) "TaxWorkbenchModel" "past" "[I") ∈ lw_all := lw_g (lw_at lw_m15 43 rfl) rfl
theorem q3505 : (Jvm.Cond.fieldLink "TaxWorkbenchModel" (26 : Nat) "TaxWorkbenchModel" "pastCarried" "[J") ∈ lw_all := lw_g (lw_at lw_m15 44 rfl) rfl
theorem q3506 : (Jvm.Cond.fieldLink "TaxWorkbenchModel" (64 : Nat) "TaxWorkbenchModel" "pasts" "I") ∈ lw_all := lw_g (lw_at lw_m15 45 rfl) rfl
theorem q3507 : (Jvm.Cond.fieldLink "TaxWorkbenchModel" (57 : Nat) "TaxWorkbenchModel" "thrown" "I") ∈ lw_all := lw_g (lw_at lw_m15 46 rfl) rfl
theorem q3508 : (Jvm.Cond.fieldLink "TaxWorkbenchModel" (29 : Nat) "TaxWorkbenchModel" "text" "[I") ∈ lw_all := lw_g (lw_at lw_m15 47 rfl) rfl
theorem q3509 : (Jvm.Cond.fieldLink "TaxWorkbenchModel" (78 : Nat) "TaxWorkbenchModel" "length" "I") ∈ lw_all := lw_g (lw_at lw_m15 48 rfl) rfl
theorem q3510 : (Jvm.Cond.fieldLink "TaxWorkbenchModel" (81 : Nat) "TaxWorkbenchModel" "spot" "I") ∈ lw_all := lw_g (lw_at lw_m15 49 rfl) rfl
theorem q3511 : (Jvm.Cond.fieldLink "TaxWorkbenchModel" (88 : Nat) "TaxWorkbenchModel" "number" "I") ∈ lw_all := lw_g (lw_at lw_m15 50 rfl) rfl
theorem q3512 : (Jvm.Cond.fieldLink "TaxWorkbenchModel" (32 : Nat) "TaxWorkbenchModel" "fault" "I") ∈ lw_all := lw_g (lw_at lw_m15 51 rfl) rfl
theorem q3513 : (Jvm.Cond.fieldLink "TaxWorkbenchModel" (91 : Nat) "TaxWorkbenchModel" "isOdd" "Z") ∈ lw_all := lw_g (lw_at lw_m15 52 rfl) rfl
theorem q3514 : (Jvm.Cond.fieldLink "TaxWorkbenchModel" (36 : Nat) "TaxWorkbenchModel" "tried" "[I") ∈ lw_all := lw_g (lw_at lw_m15 53 rfl) rfl
theorem q3515 : (Jvm.Cond.fieldLink "TaxWorkbenchModel" (39 : Nat) "TaxWorkbenchModel" "parts" "[J") ∈ lw_all := lw_g (lw_at lw_m15 54 rfl) rfl
theorem q3516 : (Jvm.Cond.fieldLink "TaxWorkbenchModel" (42 : Nat) "TaxWorkbenchModel" "brought" "[J") ∈ lw_all := lw_g (lw_at lw_m15 55 rfl) rfl
theorem q3517 : (Jvm.Cond.fieldLink "TaxWorkbenchModel" (45 : Nat) "TaxWorkbenchModel" "value" "[J") ∈ lw_all := lw_g (lw_at lw_m15 56 rfl) rfl
theorem q3518 : (Jvm.Cond.fieldLink "TaxWorkbenchModel" (48 : Nat) "TaxWorkbenchModel" "used" "[J") ∈ lw_all := lw_g (lw_at lw_m15 57 rfl) rfl
theorem q3519 : (Jvm.Cond.fieldLink "TaxWorkbenchModel" (51 : Nat) "TaxWorkbenchModel" "rest" "[J") ∈ lw_all := lw_g (lw_at lw_m15 58 rfl) rfl
theorem q3520 : (Jvm.Cond.fieldLink "TaxWorkbenchModel" (200 : Nat) "TaxWorkbenchModel" "parted" "I") ∈ lw_all := lw_g (lw_at lw_m15 59 rfl) rfl
theorem q3521 : (Jvm.Cond.fieldLink "TaxWorkbenchModel" (54 : Nat) "TaxWorkbenchModel" "next" "[J") ∈ lw_all := lw_g (lw_at lw_m15 60 rfl) rfl
theorem q3522 : (Jvm.Cond.laysFinal "TaxWorkbenchModel" "TaxWorkbenchModel" "g" "[I") ∈ lw_all := lw_g (lw_at lw_m15 61 rfl) rfl
theorem q3523 : (Jvm.Cond.soleField "TaxWorkbenchModel" "g") ∈ lw_all := lw_g (lw_at lw_m15 62 rfl) rfl
theorem q3524 : (Jvm.Cond.laysFinal "TaxWorkbenchModel" "TaxWorkbenchModel" "h" "[J") ∈ lw_all := lw_g (lw_at lw_m15 63 rfl) rfl
theorem q3525 : (Jvm.Cond.soleField "TaxWorkbenchModel" "h") ∈ lw_all := lw_g (lw_at lw_m15 64 rfl) rfl
theorem q3526 : (Jvm.Cond.laysFinal "TaxWorkbenchModel" "TaxWorkbenchModel" "kept" "[I") ∈ lw_all := lw_g (lw_at lw_m15 65 rfl) rfl
theorem q3527 : (Jvm.Cond.soleField "TaxWorkbenchModel" "kept") ∈ lw_all := lw_g (lw_at lw_m15 66 rfl) rfl
theorem q3528 : (Jvm.Cond.laysFinal "TaxWorkbenchModel" "TaxWorkbenchModel" "keptCarried" "[J") ∈ lw_all := lw_g (lw_at lw_m15 67 rfl) rfl
theorem q3529 : (Jvm.Cond.soleField "TaxWorkbenchModel" "keptCarried") ∈ lw_all := lw_g (lw_at lw_m15 68 rfl) rfl
theorem q3530 : (Jvm.Cond.lays "TaxWorkbenchModel" "TaxWorkbenchModel" "hasKept" "Z") ∈ lw_all := lw_g (lw_at lw_m15 69 rfl) rfl
theorem q3531 : (Jvm.Cond.soleField "TaxWorkbenchModel" "hasKept") ∈ lw_all := lw_g (lw_at lw_m15 70 rfl) rfl
theorem q3532 : (Jvm.Cond.laysFinal "TaxWorkbenchModel" "TaxWorkbenchModel" "past" "[I") ∈ lw_all := lw_g (lw_at lw_m15 71 rfl) rfl
theorem q3533 : (Jvm.Cond.soleField "TaxWorkbenchModel" "past") ∈ lw_all := lw_g (lw_at lw_m15 72 rfl) rfl
theorem q3534 : (Jvm.Cond.laysFinal "TaxWorkbenchModel" "TaxWorkbenchModel" "pastCarried" "[J") ∈ lw_all := lw_g (lw_at lw_m15 73 rfl) rfl
theorem q3535 : (Jvm.Cond.soleField "TaxWorkbenchModel" "pastCarried") ∈ lw_all := lw_g (lw_at lw_m15 74 rfl) rfl
theorem q3536 : (Jvm.Cond.lays "TaxWorkbenchModel" "TaxWorkbenchModel" "pasts" "I") ∈ lw_all := lw_g (lw_at lw_m15 75 rfl) rfl
theorem q3537 : (Jvm.Cond.soleField "TaxWorkbenchModel" "pasts") ∈ lw_all := lw_g (lw_at lw_m15 76 rfl) rfl
theorem q3538 : (Jvm.Cond.lays "TaxWorkbenchModel" "TaxWorkbenchModel" "thrown" "I") ∈ lw_all := lw_g (lw_at lw_m15 77 rfl) rfl
theorem q3539 : (Jvm.Cond.soleField "TaxWorkbenchModel" "thrown") ∈ lw_all := lw_g (lw_at lw_m15 78 rfl) rfl
theorem q3540 : (Jvm.Cond.laysFinal "TaxWorkbenchModel" "TaxWorkbenchModel" "text" "[I") ∈ lw_all := lw_g (lw_at lw_m15 79 rfl) rfl
theorem q3541 : (Jvm.Cond.soleField "TaxWorkbenchModel" "text") ∈ lw_all := lw_g (lw_at lw_m15 80 rfl) rfl
theorem q3542 : (Jvm.Cond.lays "TaxWorkbenchModel" "TaxWorkbenchModel" "length" "I") ∈ lw_all := lw_g (lw_at lw_m15 81 rfl) rfl
theorem q3543 : (Jvm.Cond.soleField "TaxWorkbenchModel" "length") ∈ lw_all := lw_g (lw_at lw_m15 82 rfl) rfl
theorem q3544 : (Jvm.Cond.lays "TaxWorkbenchModel" "TaxWorkbenchModel" "spot" "I") ∈ lw_all := lw_g (lw_at lw_m15 83 rfl) rfl
theorem q3545 : (Jvm.Cond.soleField "TaxWorkbenchModel" "spot") ∈ lw_all := lw_g (lw_at lw_m15 84 rfl) rfl
theorem q3546 : (Jvm.Cond.lays "TaxWorkbenchModel" "TaxWorkbenchModel" "number" "I") ∈ lw_all := lw_g (lw_at lw_m15 85 rfl) rfl
theorem q3547 : (Jvm.Cond.soleField "TaxWorkbenchModel" "number") ∈ lw_all := lw_g (lw_at lw_m15 86 rfl) rfl
theorem q3548 : (Jvm.Cond.lays "TaxWorkbenchModel" "TaxWorkbenchModel" "fault" "I") ∈ lw_all := lw_g (lw_at lw_m15 87 rfl) rfl
theorem q3549 : (Jvm.Cond.soleField "TaxWorkbenchModel" "fault") ∈ lw_all := lw_g (lw_at lw_m15 88 rfl) rfl
theorem q3550 : (Jvm.Cond.lays "TaxWorkbenchModel" "TaxWorkbenchModel" "isOdd" "Z") ∈ lw_all := lw_g (lw_at lw_m15 89 rfl) rfl
theorem q3551 : (Jvm.Cond.soleField "TaxWorkbenchModel" "isOdd") ∈ lw_all := lw_g (lw_at lw_m15 90 rfl) rfl
theorem q3552 : (Jvm.Cond.laysFinal "TaxWorkbenchModel" "TaxWorkbenchModel" "tried" "[I") ∈ lw_all := lw_g (lw_at lw_m15 91 rfl) rfl
theorem q3553 : (Jvm.Cond.soleField "TaxWorkbenchModel" "tried") ∈ lw_all := lw_g (lw_at lw_m15 92 rfl) rfl
theorem q3554 : (Jvm.Cond.laysFinal "TaxWorkbenchModel" "TaxWorkbenchModel" "parts" "[J") ∈ lw_all := lw_g (lw_at lw_m15 93 rfl) rfl
theorem q3555 : (Jvm.Cond.soleField "TaxWorkbenchModel" "parts") ∈ lw_all := lw_g (lw_at lw_m15 94 rfl) rfl
theorem q3556 : (Jvm.Cond.laysFinal "TaxWorkbenchModel" "TaxWorkbenchModel" "brought" "[J") ∈ lw_all := lw_g (lw_at lw_m15 95 rfl) rfl
theorem q3557 : (Jvm.Cond.soleField "TaxWorkbenchModel" "brought") ∈ lw_all := lw_g (lw_at lw_m15 96 rfl) rfl
theorem q3558 : (Jvm.Cond.laysFinal "TaxWorkbenchModel" "TaxWorkbenchModel" "value" "[J") ∈ lw_all := lw_g (lw_at lw_m15 97 rfl) rfl
theorem q3559 : (Jvm.Cond.soleField "TaxWorkbenchModel" "value") ∈ lw_all := lw_g (lw_at lw_m15 98 rfl) rfl
theorem q3560 : (Jvm.Cond.laysFinal "TaxWorkbenchModel" "TaxWorkbenchModel" "used" "[J") ∈ lw_all := lw_g (lw_at lw_m15 99 rfl) rfl
theorem q3561 : (Jvm.Cond.soleField "TaxWorkbenchModel" "used") ∈ lw_all := lw_g (lw_at lw_m15 100 rfl) rfl
theorem q3562 : (Jvm.Cond.laysFinal "TaxWorkbenchModel" "TaxWorkbenchModel" "rest" "[J") ∈ lw_all := lw_g (lw_at lw_m15 101 rfl) rfl
theorem q3563 : (Jvm.Cond.soleField "TaxWorkbenchModel" "rest") ∈ lw_all := lw_g (lw_at lw_m15 102 rfl) rfl
theorem q3564 : (Jvm.Cond.lays "TaxWorkbenchModel" "TaxWorkbenchModel" "parted" "I") ∈ lw_all := lw_g (lw_at lw_m15 103 rfl) rfl
theorem q3565 : (Jvm.Cond.soleField "TaxWorkbenchModel" "parted") ∈ lw_all := lw_g (lw_at lw_m15 104 rfl) rfl
theorem q3566 : (Jvm.Cond.laysFinal "TaxWorkbenchModel" "TaxWorkbenchModel" "next" "[J") ∈ lw_all := lw_g (lw_at lw_m15 105 rfl) rfl
theorem q3567 : (Jvm.Cond.soleField "TaxWorkbenchModel" "next") ∈ lw_all := lw_g (lw_at lw_m15 106 rfl) rfl
theorem q3568 : (Jvm.Cond.superclass "TaxWorkbenchModel" "java/lang/Object") ∈ lw_all := lw_g (lw_at lw_m15 107 rfl) rfl
theorem q3570 : (Jvm.Cond.instanceMethod ({ cls := "TaxWorkbenchModel", name := "thrown", desc := "()I" } : Jvm.MethodName)) ∈ lw_all := lw_g (lw_at lw_m15 109 rfl) rfl
theorem q3571 : (Jvm.Cond.selects "TaxWorkbenchModel" ({ cls := "TaxWorkbenchModel", name := "thrown", desc := "()I" } : Jvm.MethodName) ({ cls := "TaxWorkbenchModel", name := "thrown", desc := "()I" } : Jvm.MethodName)) ∈ lw_all := lw_g (lw_at lw_m15 110 rfl) rfl
theorem q3572 : (Jvm.Cond.code ({ cls := "TaxWorkbenchModel", name := "thrown", desc := "()I" } : Jvm.MethodName) prog_13_method_2_code (1 : Nat) (Option.some Jvm.ClassFile.FieldType.int)) ∈ lw_all := lw_g (lw_at lw_m15 111 rfl) rfl
theorem q3574 : (Jvm.Cond.instanceMethod ({ cls := "TaxWorkbenchModel", name := "undo", desc := "()I" } : Jvm.MethodName)) ∈ lw_all := lw_g (lw_at lw_m15 113 rfl) rfl
theorem q3575 : (Jvm.Cond.selects "TaxWorkbenchModel" ({ cls := "TaxWorkbenchModel", name := "undo", desc := "()I" } : Jvm.MethodName) ({ cls := "TaxWorkbenchModel", name := "undo", desc := "()I" } : Jvm.MethodName)) ∈ lw_all := lw_g (lw_at lw_m15 114 rfl) rfl
theorem q3576 : (Jvm.Cond.code ({ cls := "TaxWorkbenchModel", name := "undo", desc := "()I" } : Jvm.MethodName) prog_13_method_9_code (2 : Nat) (Option.some Jvm.ClassFile.FieldType.int)) ∈ lw_all := lw_g (lw_at lw_m15 115 rfl) rfl
theorem q3577 : (Jvm.Cond.methodLink "TaxWorkbenchModel" (67 : Nat) ({ cls := "TaxWorkbenchModel", name := "fails", desc := "(I)I" } : Jvm.MethodName)) ∈ lw_all := lw_g (lw_at lw_m15 116 rfl) rfl
theorem q3578 : (Jvm.Cond.privateMethod ({ cls := "TaxWorkbenchModel", name := "fails", desc := "(I)I" } : Jvm.MethodName)) ∈ lw_tbl := lw_at lw_m15 117 rfl
theorem q3579 : (Jvm.Cond.instanceMethod ({ cls := "TaxWorkbenchModel", name := "fails", desc := "(I)I" } : Jvm.MethodName)) ∈ lw_all := lw_g (lw_at lw_m15 118 rfl) rfl
theorem q3580 : (Jvm.Cond.code ({ cls := "TaxWorkbenchModel", name := "fails", desc := "(I)I" } : Jvm.MethodName) prog_13_method_3_code (2 : Nat) (Option.some Jvm.ClassFile.FieldType.int)) ∈ lw_all := lw_g (lw_at lw_m15 119 rfl) rfl
theorem q3582 : (Jvm.Cond.instanceMethod ({ cls := "TaxWorkbenchModel", name := "save", desc := "()V" } : Jvm.MethodName)) ∈ lw_all := lw_g (lw_at lw_m15 121 rfl) rfl
theorem q3583 : (Jvm.Cond.selects "TaxWorkbenchModel" ({ cls := "TaxWorkbenchModel", name := "save", desc := "()V" } : Jvm.MethodName) ({ cls := "TaxWorkbenchModel", name := "save", desc := "()V" } : Jvm.MethodName)) ∈ lw_all := lw_g (lw_at lw_m15 122 rfl) rfl
theorem q3584 : (Jvm.Cond.code ({ cls := "TaxWorkbenchModel", name := "save", desc := "()V" } : Jvm.MethodName) prog_13_method_10_code (2 : Nat) (Option.none : Option Jvm.ClassFile.FieldType)) ∈ lw_all := lw_g (lw_at lw_m15 123 rfl) rfl
theorem q3586 : (Jvm.Cond.instanceMethod ({ cls := "TaxWorkbenchModel", name := "restore", desc := "()V" } : Jvm.MethodName)) ∈ lw_all := lw_g (lw_at lw_m15 125 rfl) rfl
theorem q3587 : (Jvm.Cond.selects "TaxWorkbenchModel" ({ cls := "TaxWorkbenchModel", name := "restore", desc := "()V" } : Jvm.MethodName) ({ cls := "TaxWorkbenchModel", name := "restore", desc := "()V" } : Jvm.MethodName)) ∈ lw_all := lw_g (lw_at lw_m15 126 rfl) rfl
theorem q3588 : (Jvm.Cond.code ({ cls := "TaxWorkbenchModel", name := "restore", desc := "()V" } : Jvm.MethodName) prog_13_method_11_code (2 : Nat) (Option.none : Option Jvm.ClassFile.FieldType)) ∈ lw_all := lw_g (lw_at lw_m15 127 rfl) rfl
theorem q3589 : (Jvm.Cond.methodLink "TaxWorkbenchModel" (75 : Nat) ({ cls := "TaxWorkbenchModel", name := "changes", desc := "()V" } : Jvm.MethodName)) ∈ lw_all := lw_g (lw_at lw_m15 128 rfl) rfl
theorem q3590 : (Jvm.Cond.privateMethod ({ cls := "TaxWorkbenchModel", name := "changes", desc := "()V" } : Jvm.MethodName)) ∈ lw_tbl := lw_at lw_m15 129 rfl
theorem q3591 : (Jvm.Cond.instanceMethod ({ cls := "TaxWorkbenchModel", name := "changes", desc := "()V" } : Jvm.MethodName)) ∈ lw_all := lw_g (lw_at lw_m15 130 rfl) rfl
theorem q3592 : (Jvm.Cond.code ({ cls := "TaxWorkbenchModel", name := "changes", desc := "()V" } : Jvm.MethodName) prog_13_method_8_code (2 : Nat) (Option.none : Option Jvm.ClassFile.FieldType)) ∈ lw_all := lw_g (lw_at lw_m15 131 rfl) rfl
theorem q3594 : (Jvm.Cond.instanceMethod ({ cls := "TaxWorkbenchModel", name := "appendCharacter", desc := "(I)I" } : Jvm.MethodName)) ∈ lw_all := lw_g (lw_at lw_m15 133 rfl) rfl
theorem q3595 : (Jvm.Cond.selects "TaxWorkbenchModel" ({ cls := "TaxWorkbenchModel", name := "appendCharacter", desc := "(I)I" } : Jvm.MethodName) ({ cls := "TaxWorkbenchModel", name := "appendCharacter", desc := "(I)I" } : Jvm.MethodName)) ∈ lw_all := lw_g (lw_at lw_m15 134 rfl) rfl
theorem q3596 : (Jvm.Cond.code ({ cls := "TaxWorkbenchModel", name := "appendCharacter", desc := "(I)I" } : Jvm.MethodName) prog_13_method_12_code (2 : Nat) (Option.some Jvm.ClassFile.FieldType.int)) ∈ lw_all := lw_g (lw_at lw_m15 135 rfl) rfl
theorem q3597 : (Jvm.Cond.methodLink "TaxWorkbenchModel" (60 : Nat) ({ cls := "TaxWorkbenchModel", name := "in", desc := "(III)Z" } : Jvm.MethodName)) ∈ lw_all := lw_g (lw_at lw_m15 136 rfl) rfl
theorem q3598 : (Jvm.Cond.static ({ cls := "TaxWorkbenchModel", name := "in", desc := "(III)Z" } : Jvm.MethodName)) ∈ lw_all := lw_g (lw_at lw_m15 137 rfl) rfl
theorem q3599 : (Jvm.Cond.code ({ cls := "TaxWorkbenchModel", name := "in", desc := "(III)Z" } : Jvm.MethodName) prog_13_method_4_code (3 : Nat) (Option.some Jvm.ClassFile.FieldType.boolean)) ∈ lw_all := lw_g (lw_at lw_m15 138 rfl) rfl
theorem q3601 : (Jvm.Cond.instanceMethod ({ cls := "TaxWorkbenchModel", name := "faultPosition", desc := "()I" } : Jvm.MethodName)) ∈ lw_all := lw_g (lw_at lw_m15 140 rfl) rfl
theorem q3602 : (Jvm.Cond.selects "TaxWorkbenchModel" ({ cls := "TaxWorkbenchModel", name := "faultPosition", desc := "()I" } : Jvm.MethodName) ({ cls := "TaxWorkbenchModel", name := "faultPosition", desc := "()I" } : Jvm.MethodName)) ∈ lw_all := lw_g (lw_at lw_m15 141 rfl) rfl
theorem q3603 : (Jvm.Cond.code ({ cls := "TaxWorkbenchModel", name := "faultPosition", desc := "()I" } : Jvm.MethodName) prog_13_method_13_code (1 : Nat) (Option.some Jvm.ClassFile.FieldType.int)) ∈ lw_all := lw_g (lw_at lw_m15 142 rfl) rfl
theorem q3605 : (Jvm.Cond.instanceMethod ({ cls := "TaxWorkbenchModel", name := "addRules", desc := "()I" } : Jvm.MethodName)) ∈ lw_all := lw_g (lw_at lw_m15 144 rfl) rfl
theorem q3606 : (Jvm.Cond.selects "TaxWorkbenchModel" ({ cls := "TaxWorkbenchModel", name := "addRules", desc := "()I" } : Jvm.MethodName) ({ cls := "TaxWorkbenchModel", name := "addRules", desc := "()I" } : Jvm.MethodName)) ∈ lw_all := lw_g (lw_at lw_m15 145 rfl) rfl
theorem q3607 : (Jvm.Cond.code ({ cls := "TaxWorkbenchModel", name := "addRules", desc := "()I" } : Jvm.MethodName) prog_13_method_24_code (3 : Nat) (Option.some Jvm.ClassFile.FieldType.int)) ∈ lw_all := lw_g (lw_at lw_m15 146 rfl) rfl
theorem q3608 : (Jvm.Cond.methodLink "TaxWorkbenchModel" (119 : Nat) ({ cls := "TaxWorkbenchModel", name := "items", desc := "()I" } : Jvm.MethodName)) ∈ lw_all := lw_g (lw_at lw_m15 147 rfl) rfl
theorem q3609 : (Jvm.Cond.privateMethod ({ cls := "TaxWorkbenchModel", name := "items", desc := "()I" } : Jvm.MethodName)) ∈ lw_tbl := lw_at lw_m15 148 rfl
theorem q3610 : (Jvm.Cond.instanceMethod ({ cls := "TaxWorkbenchModel", name := "items", desc := "()I" } : Jvm.MethodName)) ∈ lw_all := lw_g (lw_at lw_m15 149 rfl) rfl
theorem q3611 : (Jvm.Cond.code ({ cls := "TaxWorkbenchModel", name := "items", desc := "()I" } : Jvm.MethodName) prog_13_method_23_code (3 : Nat) (Option.some Jvm.ClassFile.FieldType.int)) ∈ lw_all := lw_g (lw_at lw_m15 150 rfl) rfl
theorem q3612 : (Jvm.Cond.methodLink "TaxWorkbenchModel" (116 : Nat) ({ cls := "TaxWorkbenchModel", name := "item", desc := "()Z" } : Jvm.MethodName)) ∈ lw_all := lw_g (lw_at lw_m15 151 rfl) rfl
theorem q3613 : (Jvm.Cond.privateMethod ({ cls := "TaxWorkbenchModel", name := "item", desc := "()Z" } : Jvm.MethodName)) ∈ lw_tbl := lw_at lw_m15 152 rfl
theorem q3614 : (Jvm.Cond.instanceMethod ({ cls := "TaxWorkbenchModel", name := "item", desc := "()Z" } : Jvm.MethodName)) ∈ lw_all := lw_g (lw_at lw_m15 153 rfl) rfl
theorem q3615 : (Jvm.Cond.code ({ cls := "TaxWorkbenchModel", name := "item", desc := "()Z" } : Jvm.MethodName) prog_13_method_22_code (2 : Nat) (Option.some Jvm.ClassFile.FieldType.boolean)) ∈ lw_all := lw_g (lw_at lw_m15 154 rfl) rfl
theorem q3616 : (Jvm.Cond.methodLink "TaxWorkbenchModel" (97 : Nat) ({ cls := "TaxWorkbenchModel", name := "skips", desc := "(I)Z" } : Jvm.MethodName)) ∈ lw_all := lw_g (lw_at lw_m15 155 rfl) rfl
theorem q3617 : (Jvm.Cond.privateMethod ({ cls := "TaxWorkbenchModel", name := "skips", desc := "(I)Z" } : Jvm.MethodName)) ∈ lw_tbl := lw_at lw_m15 156 rfl
theorem q3618 : (Jvm.Cond.instanceMethod ({ cls := "TaxWorkbenchModel", name := "skips", desc := "(I)Z" } : Jvm.MethodName)) ∈ lw_all := lw_g (lw_at lw_m15 157 rfl) rfl
theorem q3619 : (Jvm.Cond.code ({ cls := "TaxWorkbenchModel", name := "skips", desc := "(I)Z" } : Jvm.MethodName) prog_13_method_15_code (2 : Nat) (Option.some Jvm.ClassFile.FieldType.boolean)) ∈ lw_all := lw_g (lw_at lw_m15 158 rfl) rfl
theorem q3620 : (Jvm.Cond.methodLink "TaxWorkbenchModel" (84 : Nat) ({ cls := "TaxWorkbenchModel", name := "here", desc := "()I" } : Jvm.MethodName)) ∈ lw_all := lw_g (lw_at lw_m15 159 rfl) rfl
theorem q3621 : (Jvm.Cond.privateMethod ({ cls := "TaxWorkbenchModel", name := "here", desc := "()I" } : Jvm.MethodName)) ∈ lw_tbl := lw_at lw_m15 160 rfl
theorem q3622 : (Jvm.Cond.instanceMethod ({ cls := "TaxWorkbenchModel", name := "here", desc := "()I" } : Jvm.MethodName)) ∈ lw_all := lw_g (lw_at lw_m15 161 rfl) rfl
theorem q3623 : (Jvm.Cond.code ({ cls := "TaxWorkbenchModel", name := "here", desc := "()I" } : Jvm.MethodName) prog_13_method_14_code (1 : Nat) (Option.some Jvm.ClassFile.FieldType.int)) ∈ lw_all := lw_g (lw_at lw_m15 162 rfl) rfl
theorem q3624 : (Jvm.Cond.methodLink "TaxWorkbenchModel" (107 : Nat) ({ cls := "TaxWorkbenchModel", name := "brackets", desc := "()Z" } : Jvm.MethodName)) ∈ lw_all := lw_g (lw_at lw_m15 163 rfl) rfl
theorem q3625 : (Jvm.Cond.privateMethod ({ cls := "TaxWorkbenchModel", name := "brackets", desc := "()Z" } : Jvm.MethodName)) ∈ lw_tbl := lw_at lw_m15 164 rfl
theorem q3626 : (Jvm.Cond.instanceMethod ({ cls := "TaxWorkbenchModel", name := "brackets", desc := "()Z" } : Jvm.MethodName)) ∈ lw_all := lw_g (lw_at lw_m15 165 rfl) rfl
theorem q3627 : (Jvm.Cond.code ({ cls := "TaxWorkbenchModel", name := "brackets", desc := "()Z" } : Jvm.MethodName) prog_13_method_18_code (3 : Nat) (Option.some Jvm.ClassFile.FieldType.boolean)) ∈ lw_all := lw_g (lw_at lw_m15 166 rfl) rfl
theorem q3628 : (Jvm.Cond.methodLink "TaxWorkbenchModel" (94 : Nat) ({ cls := "TaxWorkbenchModel", name := "number", desc := "()Z" } : Jvm.MethodName)) ∈ lw_all := lw_g (lw_at lw_m15 167 rfl) rfl
theorem q3629 : (Jvm.Cond.privateMethod ({ cls := "TaxWorkbenchModel", name := "number", desc := "()Z" } : Jvm.MethodName)) ∈ lw_tbl := lw_at lw_m15 168 rfl
theorem q3630 : (Jvm.Cond.instanceMethod ({ cls := "TaxWorkbenchModel", name := "number", desc := "()Z" } : Jvm.MethodName)) ∈ lw_all := lw_g (lw_at lw_m15 169 rfl) rfl
theorem q3631 : (Jvm.Cond.code ({ cls := "TaxWorkbenchModel", name := "number", desc := "()Z" } : Jvm.MethodName) prog_13_method_16_code (2 : Nat) (Option.some Jvm.ClassFile.FieldType.boolean)) ∈ lw_all := lw_g (lw_at lw_m15 170 rfl) rfl
theorem q3632 : (Jvm.Cond.methodLink "TaxWorkbenchModel" (101 : Nat) ({ cls := "TaxWorkbenchModel", name := "rate", desc := "()V" } : Jvm.MethodName)) ∈ lw_all := lw_g (lw_at lw_m15 171 rfl) rfl
theorem q3633 : (Jvm.Cond.privateMethod ({ cls := "TaxWorkbenchModel", name := "rate", desc := "()V" } : Jvm.MethodName)) ∈ lw_tbl := lw_at lw_m15 172 rfl
theorem q3634 : (Jvm.Cond.instanceMethod ({ cls := "TaxWorkbenchModel", name := "rate", desc := "()V" } : Jvm.MethodName)) ∈ lw_all := lw_g (lw_at lw_m15 173 rfl) rfl
theorem q3635 : (Jvm.Cond.code ({ cls := "TaxWorkbenchModel", name := "rate", desc := "()V" } : Jvm.MethodName) prog_13_method_17_code (1 : Nat) (Option.none : Option Jvm.ClassFile.FieldType)) ∈ lw_all := lw_g (lw_at lw_m15 174 rfl) rfl
theorem q3636 : (Jvm.Cond.methodLink "TaxWorkbenchModel" (104 : Nat) ({ cls := "TaxWorkbenchModel", name := "numbers", desc := "(III)Z" } : Jvm.MethodName)) ∈ lw_all := lw_g (lw_at lw_m15 175 rfl) rfl
theorem q3637 : (Jvm.Cond.privateMethod ({ cls := "TaxWorkbenchModel", name := "numbers", desc := "(III)Z" } : Jvm.MethodName)) ∈ lw_tbl := lw_at lw_m15 176 rfl
theorem q3638 : (Jvm.Cond.instanceMethod ({ cls := "TaxWorkbenchModel", name := "numbers", desc := "(III)Z" } : Jvm.MethodName)) ∈ lw_all := lw_g (lw_at lw_m15 177 rfl) rfl
theorem q3639 : (Jvm.Cond.code ({ cls := "TaxWorkbenchModel", name := "numbers", desc := "(III)Z" } : Jvm.MethodName) prog_13_method_19_code (5 : Nat) (Option.some Jvm.ClassFile.FieldType.boolean)) ∈ lw_all := lw_g (lw_at lw_m15 178 rfl) rfl
theorem q3640 : (Jvm.Cond.methodLink "TaxWorkbenchModel" (110 : Nat) ({ cls := "TaxWorkbenchModel", name := "chargeComes", desc := "()Z" } : Jvm.MethodName)) ∈ lw_all := lw_g (lw_at lw_m15 179 rfl) rfl
theorem q3641 : (Jvm.Cond.privateMethod ({ cls := "TaxWorkbenchModel", name := "chargeComes", desc := "()Z" } : Jvm.MethodName)) ∈ lw_tbl := lw_at lw_m15 180 rfl
theorem q3642 : (Jvm.Cond.instanceMethod ({ cls := "TaxWorkbenchModel", name := "chargeComes", desc := "()Z" } : Jvm.MethodName)) ∈ lw_all := lw_g (lw_at lw_m15 181 rfl) rfl
theorem q3643 : (Jvm.Cond.code ({ cls := "TaxWorkbenchModel", name := "chargeComes", desc := "()Z" } : Jvm.MethodName) prog_13_method_20_code (2 : Nat) (Option.some Jvm.ClassFile.FieldType.boolean)) ∈ lw_all := lw_g (lw_at lw_m15 182 rfl) rfl
theorem q3644 : (Jvm.Cond.methodLink "TaxWorkbenchModel" (113 : Nat) ({ cls := "TaxWorkbenchModel", name := "creditComes", desc := "(I)Z" } : Jvm.MethodName)) ∈ lw_all := lw_g (lw_at lw_m15 183 rfl) rfl
theorem q3645 : (Jvm.Cond.privateMethod ({ cls := "TaxWorkbenchModel", name := "creditComes", desc := "(I)Z" } : Jvm.MethodName)) ∈ lw_tbl := lw_at lw_m15 184 rfl
theorem q3646 : (Jvm.Cond.instanceMethod ({ cls := "TaxWorkbenchModel", name := "creditComes", desc := "(I)Z" } : Jvm.MethodName)) ∈ lw_all := lw_g (lw_at lw_m15 185 rfl) rfl
theorem q3647 : (Jvm.Cond.code ({ cls := "TaxWorkbenchModel", name := "creditComes", desc := "(I)Z" } : Jvm.MethodName) prog_13_method_21_code (5 : Nat) (Option.some Jvm.ClassFile.FieldType.boolean)) ∈ lw_all := lw_g (lw_at lw_m15 186 rfl) rfl
theorem q3648 : (Jvm.Cond.methodLink "TaxWorkbenchModel" (122 : Nat) ({ cls := "TaxWorkbenchModel", name := "forgets", desc := "(I)V" } : Jvm.MethodName)) ∈ lw_all := lw_g (lw_at lw_m15 187 rfl) rfl
theorem q3649 : (Jvm.Cond.privateMethod ({ cls := "TaxWorkbenchModel", name := "forgets", desc := "(I)V" } : Jvm.MethodName)) ∈ lw_tbl := lw_at lw_m15 188 rfl
theorem q3650 : (Jvm.Cond.instanceMethod ({ cls := "TaxWorkbenchModel", name := "forgets", desc := "(I)V" } : Jvm.MethodName)) ∈ lw_all := lw_g (lw_at lw_m15 189 rfl) rfl
theorem q3651 : (Jvm.Cond.code ({ cls := "TaxWorkbenchModel", name := "forgets", desc := "(I)V" } : Jvm.MethodName) prog_13_method_25_code (3 : Nat) (Option.none : Option Jvm.ClassFile.FieldType)) ∈ lw_all := lw_g (lw_at lw_m15 190 rfl) rfl
theorem q3653 : (Jvm.Cond.instanceMethod ({ cls := "TaxWorkbenchModel", name := "clearRules", desc := "()I" } : Jvm.MethodName)) ∈ lw_all := lw_g (lw_at lw_m15 192 rfl) rfl
theorem q3654 : (Jvm.Cond.selects "TaxWorkbenchModel" ({ cls := "TaxWorkbenchModel", name := "clearRules", desc := "()I" } : Jvm.MethodName) ({ cls := "TaxWorkbenchModel", name := "clearRules", desc := "()I" } : Jvm.MethodName)) ∈ lw_all := lw_g (lw_at lw_m15 193 rfl) rfl
theorem q3655 : (Jvm.Cond.code ({ cls := "TaxWorkbenchModel", name := "clearRules", desc := "()I" } : Jvm.MethodName) prog_13_method_26_code (3 : Nat) (Option.some Jvm.ClassFile.FieldType.int)) ∈ lw_all := lw_g (lw_at lw_m15 194 rfl) rfl
theorem q3657 : (Jvm.Cond.instanceMethod ({ cls := "TaxWorkbenchModel", name := "bracketCount", desc := "()I" } : Jvm.MethodName)) ∈ lw_all := lw_g (lw_at lw_m15 196 rfl) rfl
theorem q3658 : (Jvm.Cond.selects "TaxWorkbenchModel" ({ cls := "TaxWorkbenchModel", name := "bracketCount", desc := "()I" } : Jvm.MethodName) ({ cls := "TaxWorkbenchModel", name := "bracketCount", desc := "()I" } : Jvm.MethodName)) ∈ lw_all := lw_g (lw_at lw_m15 197 rfl) rfl
theorem q3659 : (Jvm.Cond.code ({ cls := "TaxWorkbenchModel", name := "bracketCount", desc := "()I" } : Jvm.MethodName) prog_13_method_27_code (1 : Nat) (Option.some Jvm.ClassFile.FieldType.int)) ∈ lw_all := lw_g (lw_at lw_m15 198 rfl) rfl
theorem q3661 : (Jvm.Cond.instanceMethod ({ cls := "TaxWorkbenchModel", name := "bracket", desc := "(II)I" } : Jvm.MethodName)) ∈ lw_all := lw_g (lw_at lw_m15 200 rfl) rfl
theorem q3662 : (Jvm.Cond.selects "TaxWorkbenchModel" ({ cls := "TaxWorkbenchModel", name := "bracket", desc := "(II)I" } : Jvm.MethodName) ({ cls := "TaxWorkbenchModel", name := "bracket", desc := "(II)I" } : Jvm.MethodName)) ∈ lw_all := lw_g (lw_at lw_m15 201 rfl) rfl
theorem q3663 : (Jvm.Cond.code ({ cls := "TaxWorkbenchModel", name := "bracket", desc := "(II)I" } : Jvm.MethodName) prog_13_method_28_code (3 : Nat) (Option.some Jvm.ClassFile.FieldType.int)) ∈ lw_all := lw_g (lw_at lw_m15 202 rfl) rfl
theorem q3665 : (Jvm.Cond.instanceMethod ({ cls := "TaxWorkbenchModel", name := "allowance", desc := "(I)I" } : Jvm.MethodName)) ∈ lw_all := lw_g (lw_at lw_m15 204 rfl) rfl
theorem q3666 : (Jvm.Cond.selects "TaxWorkbenchModel" ({ cls := "TaxWorkbenchModel", name := "allowance", desc := "(I)I" } : Jvm.MethodName) ({ cls := "TaxWorkbenchModel", name := "allowance", desc := "(I)I" } : Jvm.MethodName)) ∈ lw_all := lw_g (lw_at lw_m15 205 rfl) rfl
theorem q3667 : (Jvm.Cond.code ({ cls := "TaxWorkbenchModel", name := "allowance", desc := "(I)I" } : Jvm.MethodName) prog_13_method_29_code (2 : Nat) (Option.some Jvm.ClassFile.FieldType.int)) ∈ lw_all := lw_g (lw_at lw_m15 206 rfl) rfl
theorem q3669 : (Jvm.Cond.instanceMethod ({ cls := "TaxWorkbenchModel", name := "chargeCount", desc := "()I" } : Jvm.MethodName)) ∈ lw_all := lw_g (lw_at lw_m15 208 rfl) rfl
theorem q3670 : (Jvm.Cond.selects "TaxWorkbenchModel" ({ cls := "TaxWorkbenchModel", name := "chargeCount", desc := "()I" } : Jvm.MethodName) ({ cls := "TaxWorkbenchModel", name := "chargeCount", desc := "()I" } : Jvm.MethodName)) ∈ lw_all := lw_g (lw_at lw_m15 209 rfl) rfl
theorem q3671 : (Jvm.Cond.code ({ cls := "TaxWorkbenchModel", name := "chargeCount", desc := "()I" } : Jvm.MethodName) prog_13_method_30_code (1 : Nat) (Option.some Jvm.ClassFile.FieldType.int)) ∈ lw_all := lw_g (lw_at lw_m15 210 rfl) rfl
theorem q3673 : (Jvm.Cond.instanceMethod ({ cls := "TaxWorkbenchModel", name := "charge", desc := "(II)I" } : Jvm.MethodName)) ∈ lw_all := lw_g (lw_at lw_m15 212 rfl) rfl
theorem q3674 : (Jvm.Cond.selects "TaxWorkbenchModel" ({ cls := "TaxWorkbenchModel", name := "charge", desc := "(II)I" } : Jvm.MethodName) ({ cls := "TaxWorkbenchModel", name := "charge", desc := "(II)I" } : Jvm.MethodName)) ∈ lw_all := lw_g (lw_at lw_m15 213 rfl) rfl
theorem q3675 : (Jvm.Cond.code ({ cls := "TaxWorkbenchModel", name := "charge", desc := "(II)I" } : Jvm.MethodName) prog_13_method_31_code (3 : Nat) (Option.some Jvm.ClassFile.FieldType.int)) ∈ lw_all := lw_g (lw_at lw_m15 214 rfl) rfl
theorem q3677 : (Jvm.Cond.instanceMethod ({ cls := "TaxWorkbenchModel", name := "creditCount", desc := "()I" } : Jvm.MethodName)) ∈ lw_all := lw_g (lw_at lw_m15 216 rfl) rfl
theorem q3678 : (Jvm.Cond.selects "TaxWorkbenchModel" ({ cls := "TaxWorkbenchModel", name := "creditCount", desc := "()I" } : Jvm.MethodName) ({ cls := "TaxWorkbenchModel", name := "creditCount", desc := "()I" } : Jvm.MethodName)) ∈ lw_all := lw_g (lw_at lw_m15 217 rfl) rfl
theorem q3679 : (Jvm.Cond.code ({ cls := "TaxWorkbenchModel", name := "creditCount", desc := "()I" } : Jvm.MethodName) prog_13_method_32_code (1 : Nat) (Option.some Jvm.ClassFile.FieldType.int)) ∈ lw_all := lw_g (lw_at lw_m15 218 rfl) rfl
theorem q3681 : (Jvm.Cond.instanceMethod ({ cls := "TaxWorkbenchModel", name := "credit", desc := "(II)I" } : Jvm.MethodName)) ∈ lw_all := lw_g (lw_at lw_m15 220 rfl) rfl
theorem q3682 : (Jvm.Cond.selects "TaxWorkbenchModel" ({ cls := "TaxWorkbenchModel", name := "credit", desc := "(II)I" } : Jvm.MethodName) ({ cls := "TaxWorkbenchModel", name := "credit", desc := "(II)I" } : Jvm.MethodName)) ∈ lw_all := lw_g (lw_at lw_m15 221 rfl) rfl
theorem q3683 : (Jvm.Cond.code ({ cls := "TaxWorkbenchModel", name := "credit", desc := "(II)I" } : Jvm.MethodName) prog_13_method_33_code (3 : Nat) (Option.some Jvm.ClassFile.FieldType.int)) ∈ lw_all := lw_g (lw_at lw_m15 222 rfl) rfl
theorem q3684 : (Jvm.Cond.methodLink "TaxWorkbenchModel" (126 : Nat) ({ cls := "TaxWorkbenchModel", name := "isCredit", desc := "(I)Z" } : Jvm.MethodName)) ∈ lw_all := lw_g (lw_at lw_m15 223 rfl) rfl
theorem q3685 : (Jvm.Cond.privateMethod ({ cls := "TaxWorkbenchModel", name := "isCredit", desc := "(I)Z" } : Jvm.MethodName)) ∈ lw_tbl := lw_at lw_m15 224 rfl
theorem q3686 : (Jvm.Cond.instanceMethod ({ cls := "TaxWorkbenchModel", name := "isCredit", desc := "(I)Z" } : Jvm.MethodName)) ∈ lw_all := lw_g (lw_at lw_m15 225 rfl) rfl
theorem q3687 : (Jvm.Cond.code ({ cls := "TaxWorkbenchModel", name := "isCredit", desc := "(I)Z" } : Jvm.MethodName) prog_13_method_6_code (2 : Nat) (Option.some Jvm.ClassFile.FieldType.boolean)) ∈ lw_all := lw_g (lw_at lw_m15 226 rfl) rfl
theorem q3688 : (Jvm.Cond.methodLink "TaxWorkbenchModel" (129 : Nat) ({ cls := "TaxWorkbenchModel", name := "creditOf", desc := "(II)I" } : Jvm.MethodName)) ∈ lw_all := lw_g (lw_at lw_m15 227 rfl) rfl
theorem q3689 : (Jvm.Cond.privateMethod ({ cls := "TaxWorkbenchModel", name := "creditOf", desc := "(II)I" } : Jvm.MethodName)) ∈ lw_tbl := lw_at lw_m15 228 rfl
theorem q3690 : (Jvm.Cond.instanceMethod ({ cls := "TaxWorkbenchModel", name := "creditOf", desc := "(II)I" } : Jvm.MethodName)) ∈ lw_all := lw_g (lw_at lw_m15 229 rfl) rfl
theorem q3691 : (Jvm.Cond.code ({ cls := "TaxWorkbenchModel", name := "creditOf", desc := "(II)I" } : Jvm.MethodName) prog_13_method_7_code (3 : Nat) (Option.some Jvm.ClassFile.FieldType.int)) ∈ lw_all := lw_g (lw_at lw_m15 230 rfl) rfl
theorem q3693 : (Jvm.Cond.instanceMethod ({ cls := "TaxWorkbenchModel", name := "removeCredit", desc := "(I)I" } : Jvm.MethodName)) ∈ lw_all := lw_g (lw_at lw_m15 232 rfl) rfl
theorem q3694 : (Jvm.Cond.selects "TaxWorkbenchModel" ({ cls := "TaxWorkbenchModel", name := "removeCredit", desc := "(I)I" } : Jvm.MethodName) ({ cls := "TaxWorkbenchModel", name := "removeCredit", desc := "(I)I" } : Jvm.MethodName)) ∈ lw_all := lw_g (lw_at lw_m15 233 rfl) rfl
theorem q3695 : (Jvm.Cond.code ({ cls := "TaxWorkbenchModel", name := "removeCredit", desc := "(I)I" } : Jvm.MethodName) prog_13_method_36_code (2 : Nat) (Option.some Jvm.ClassFile.FieldType.int)) ∈ lw_all := lw_g (lw_at lw_m15 234 rfl) rfl
theorem q3696 : (Jvm.Cond.methodLink "TaxWorkbenchModel" (137 : Nat) ({ cls := "TaxWorkbenchModel", name := "moves", desc := "(II)V" } : Jvm.MethodName)) ∈ lw_all := lw_g (lw_at lw_m15 235 rfl) rfl
theorem q3697 : (Jvm.Cond.privateMethod ({ cls := "TaxWorkbenchModel", name := "moves", desc := "(II)V" } : Jvm.MethodName)) ∈ lw_tbl := lw_at lw_m15 236 rfl
theorem q3698 : (Jvm.Cond.instanceMethod ({ cls := "TaxWorkbenchModel", name := "moves", desc := "(II)V" } : Jvm.MethodName)) ∈ lw_all := lw_g (lw_at lw_m15 237 rfl) rfl
theorem q3699 : (Jvm.Cond.code ({ cls := "TaxWorkbenchModel", name := "moves", desc := "(II)V" } : Jvm.MethodName) prog_13_method_35_code (4 : Nat) (Option.none : Option Jvm.ClassFile.FieldType)) ∈ lw_all := lw_g (lw_at lw_m15 238 rfl) rfl
theorem q3700 : (Jvm.Cond.methodLink "TaxWorkbenchModel" (133 : Nat) ({ cls := "TaxWorkbenchModel", name := "exchanges", desc := "(II)V" } : Jvm.MethodName)) ∈ lw_all := lw_g (lw_at lw_m15 239 rfl) rfl
theorem q3701 : (Jvm.Cond.privateMethod ({ cls := "TaxWorkbenchModel", name := "exchanges", desc := "(II)V" } : Jvm.MethodName)) ∈ lw_tbl := lw_at lw_m16 0 rfl
theorem q3702 : (Jvm.Cond.instanceMethod ({ cls := "TaxWorkbenchModel", name := "exchanges", desc := "(II)V" } : Jvm.MethodName)) ∈ lw_all := lw_g (lw_at lw_m16 1 rfl) rfl
theorem q3703 : (Jvm.Cond.code ({ cls := "TaxWorkbenchModel", name := "exchanges", desc := "(II)V" } : Jvm.MethodName) prog_13_method_34_code (7 : Nat) (Option.none : Option Jvm.ClassFile.FieldType)) ∈ lw_all := lw_g (lw_at lw_m16 2 rfl) rfl
theorem q3705 : (Jvm.Cond.instanceMethod ({ cls := "TaxWorkbenchModel", name := "moveCredit", desc := "(II)V" } : Jvm.MethodName)) ∈ lw_all := lw_g (lw_at lw_m16 4 rfl) rfl
theorem q3706 : (Jvm.Cond.selects "TaxWorkbenchModel" ({ cls := "TaxWorkbenchModel", name := "moveCredit", desc := "(II)V" } : Jvm.MethodName) ({ cls := "TaxWorkbenchModel", name := "moveCredit", desc := "(II)V" } : Jvm.MethodName)) ∈ lw_all := lw_g (lw_at lw_m16 5 rfl) rfl
theorem q3707 : (Jvm.Cond.code ({ cls := "TaxWorkbenchModel", name := "moveCredit", desc := "(II)V" } : Jvm.MethodName) prog_13_method_37_code (3 : Nat) (Option.none : Option Jvm.ClassFile.FieldType)) ∈ lw_all := lw_g (lw_at lw_m16 6 rfl) rfl
theorem q3709 : (Jvm.Cond.instanceMethod ({ cls := "TaxWorkbenchModel", name := "setPerson", desc := "(IIII)V" } : Jvm.MethodName)) ∈ lw_all := lw_g (lw_at lw_m16 8 rfl) rfl
theorem q3710 : (Jvm.Cond.selects "TaxWorkbenchModel" ({ cls := "TaxWorkbenchModel", name := "setPerson", desc := "(IIII)V" } : Jvm.MethodName) ({ cls := "TaxWorkbenchModel", name := "setPerson", desc := "(IIII)V" } : Jvm.MethodName)) ∈ lw_all := lw_g (lw_at lw_m16 9 rfl) rfl
theorem q3711 : (Jvm.Cond.code ({ cls := "TaxWorkbenchModel", name := "setPerson", desc := "(IIII)V" } : Jvm.MethodName) prog_13_method_38_code (5 : Nat) (Option.none : Option Jvm.ClassFile.FieldType)) ∈ lw_all := lw_g (lw_at lw_m16 10 rfl) rfl
theorem q3712 : (Jvm.Cond.methodLink "TaxWorkbenchModel" (140 : Nat) ({ cls := "TaxWorkbenchModel", name := "isPerson", desc := "(I)Z" } : Jvm.MethodName)) ∈ lw_all := lw_g (lw_at lw_m16 11 rfl) rfl
theorem q3713 : (Jvm.Cond.static ({ cls := "TaxWorkbenchModel", name := "isPerson", desc := "(I)Z" } : Jvm.MethodName)) ∈ lw_all := lw_g (lw_at lw_m16 12 rfl) rfl
theorem q3714 : (Jvm.Cond.code ({ cls := "TaxWorkbenchModel", name := "isPerson", desc := "(I)Z" } : Jvm.MethodName) prog_13_method_5_code (1 : Nat) (Option.some Jvm.ClassFile.FieldType.boolean)) ∈ lw_all := lw_g (lw_at lw_m16 13 rfl) rfl
theorem q3716 : (Jvm.Cond.instanceMethod ({ cls := "TaxWorkbenchModel", name := "personData", desc := "(II)I" } : Jvm.MethodName)) ∈ lw_all := lw_g (lw_at lw_m16 15 rfl) rfl
theorem q3717 : (Jvm.Cond.selects "TaxWorkbenchModel" ({ cls := "TaxWorkbenchModel", name := "personData", desc := "(II)I" } : Jvm.MethodName) ({ cls := "TaxWorkbenchModel", name := "personData", desc := "(II)I" } : Jvm.MethodName)) ∈ lw_all := lw_g (lw_at lw_m16 16 rfl) rfl
theorem q3718 : (Jvm.Cond.code ({ cls := "TaxWorkbenchModel", name := "personData", desc := "(II)I" } : Jvm.MethodName) prog_13_method_40_code (3 : Nat) (Option.some Jvm.ClassFile.FieldType.int)) ∈ lw_all := lw_g (lw_at lw_m16 17 rfl) rfl
theorem q3719 : (Jvm.Cond.methodLink "TaxWorkbenchModel" (143 : Nat) ({ cls := "TaxWorkbenchModel", name := "of", desc := "(II)I" } : Jvm.MethodName)) ∈ lw_all := lw_g (lw_at lw_m16 18 rfl) rfl
theorem q3720 : (Jvm.Cond.privateMethod ({ cls := "TaxWorkbenchModel", name := "of", desc := "(II)I" } : Jvm.MethodName)) ∈ lw_tbl := lw_at lw_m16 19 rfl
theorem q3721 : (Jvm.Cond.instanceMethod ({ cls := "TaxWorkbenchModel", name := "of", desc := "(II)I" } : Jvm.MethodName)) ∈ lw_all := lw_g (lw_at lw_m16 20 rfl) rfl
theorem q3722 : (Jvm.Cond.code ({ cls := "TaxWorkbenchModel", name := "of", desc := "(II)I" } : Jvm.MethodName) prog_13_method_39_code (3 : Nat) (Option.some Jvm.ClassFile.FieldType.int)) ∈ lw_all := lw_g (lw_at lw_m16 21 rfl) rfl
theorem q3724 : (Jvm.Cond.instanceMethod ({ cls := "TaxWorkbenchModel", name := "marry", desc := "(II)V" } : Jvm.MethodName)) ∈ lw_all := lw_g (lw_at lw_m16 23 rfl) rfl
theorem q3725 : (Jvm.Cond.selects "TaxWorkbenchModel" ({ cls := "TaxWorkbenchModel", name := "marry", desc := "(II)V" } : Jvm.MethodName) ({ cls := "TaxWorkbenchModel", name := "marry", desc := "(II)V" } : Jvm.MethodName)) ∈ lw_all := lw_g (lw_at lw_m16 24 rfl) rfl
theorem q3726 : (Jvm.Cond.code ({ cls := "TaxWorkbenchModel", name := "marry", desc := "(II)V" } : Jvm.MethodName) prog_13_method_41_code (3 : Nat) (Option.none : Option Jvm.ClassFile.FieldType)) ∈ lw_all := lw_g (lw_at lw_m16 25 rfl) rfl
theorem q3728 : (Jvm.Cond.instanceMethod ({ cls := "TaxWorkbenchModel", name := "part", desc := "(I)I" } : Jvm.MethodName)) ∈ lw_all := lw_g (lw_at lw_m16 27 rfl) rfl
theorem q3729 : (Jvm.Cond.selects "TaxWorkbenchModel" ({ cls := "TaxWorkbenchModel", name := "part", desc := "(I)I" } : Jvm.MethodName) ({ cls := "TaxWorkbenchModel", name := "part", desc := "(I)I" } : Jvm.MethodName)) ∈ lw_all := lw_g (lw_at lw_m16 28 rfl) rfl
theorem q3730 : (Jvm.Cond.code ({ cls := "TaxWorkbenchModel", name := "part", desc := "(I)I" } : Jvm.MethodName) prog_13_method_43_code (3 : Nat) (Option.some Jvm.ClassFile.FieldType.int)) ∈ lw_all := lw_g (lw_at lw_m16 29 rfl) rfl
theorem q3731 : (Jvm.Cond.methodLink "TaxWorkbenchModel" (146 : Nat) ({ cls := "TaxWorkbenchModel", name := "coupled", desc := "(I)I" } : Jvm.MethodName)) ∈ lw_all := lw_g (lw_at lw_m16 30 rfl) rfl
theorem q3732 : (Jvm.Cond.privateMethod ({ cls := "TaxWorkbenchModel", name := "coupled", desc := "(I)I" } : Jvm.MethodName)) ∈ lw_tbl := lw_at lw_m16 31 rfl
theorem q3733 : (Jvm.Cond.instanceMethod ({ cls := "TaxWorkbenchModel", name := "coupled", desc := "(I)I" } : Jvm.MethodName)) ∈ lw_all := lw_g (lw_at lw_m16 32 rfl) rfl
theorem q3734 : (Jvm.Cond.code ({ cls := "TaxWorkbenchModel", name := "coupled", desc := "(I)I" } : Jvm.MethodName) prog_13_method_42_code (2 : Nat) (Option.some Jvm.ClassFile.FieldType.int)) ∈ lw_all := lw_g (lw_at lw_m16 33 rfl) rfl
theorem q3736 : (Jvm.Cond.instanceMethod ({ cls := "TaxWorkbenchModel", name := "partner", desc := "(I)I" } : Jvm.MethodName)) ∈ lw_all := lw_g (lw_at lw_m16 35 rfl) rfl
theorem q3737 : (Jvm.Cond.selects "TaxWorkbenchModel" ({ cls := "TaxWorkbenchModel", name := "partner", desc := "(I)I" } : Jvm.MethodName) ({ cls := "TaxWorkbenchModel", name := "partner", desc := "(I)I" } : Jvm.MethodName)) ∈ lw_all := lw_g (lw_at lw_m16 36 rfl) rfl
theorem q3738 : (Jvm.Cond.code ({ cls := "TaxWorkbenchModel", name := "partner", desc := "(I)I" } : Jvm.MethodName) prog_13_method_44_code (2 : Nat) (Option.some Jvm.ClassFile.FieldType.int)) ∈ lw_all := lw_g (lw_at lw_m16 37 rfl) rfl
theorem q3740 : (Jvm.Cond.instanceMethod ({ cls := "TaxWorkbenchModel", name := "tax", desc := "(I)J" } : Jvm.MethodName)) ∈ lw_all := lw_g (lw_at lw_m16 39 rfl) rfl
theorem q3741 : (Jvm.Cond.selects "TaxWorkbenchModel" ({ cls := "TaxWorkbenchModel", name := "tax", desc := "(I)J" } : Jvm.MethodName) ({ cls := "TaxWorkbenchModel", name := "tax", desc := "(I)J" } : Jvm.MethodName)) ∈ lw_all := lw_g (lw_at lw_m16 40 rfl) rfl
theorem q3742 : (Jvm.Cond.code ({ cls := "TaxWorkbenchModel", name := "tax", desc := "(I)J" } : Jvm.MethodName) prog_13_method_55_code (2 : Nat) (Option.some Jvm.ClassFile.FieldType.long)) ∈ lw_all := lw_g (lw_at lw_m16 41 rfl) rfl
theorem q3743 : (Jvm.Cond.methodLink "TaxWorkbenchModel" (187 : Nat) ({ cls := "TaxWorkbenchModel", name := "taxOfPerson", desc := "(I)J" } : Jvm.MethodName)) ∈ lw_all := lw_g (lw_at lw_m16 42 rfl) rfl
theorem q3744 : (Jvm.Cond.privateMethod ({ cls := "TaxWorkbenchModel", name := "taxOfPerson", desc := "(I)J" } : Jvm.MethodName)) ∈ lw_tbl := lw_at lw_m16 43 rfl
theorem q3745 : (Jvm.Cond.instanceMethod ({ cls := "TaxWorkbenchModel", name := "taxOfPerson", desc := "(I)J" } : Jvm.MethodName)) ∈ lw_all := lw_g (lw_at lw_m16 44 rfl) rfl
theorem q3746 : (Jvm.Cond.code ({ cls := "TaxWorkbenchModel", name := "taxOfPerson", desc := "(I)J" } : Jvm.MethodName) prog_13_method_54_code (2 : Nat) (Option.some Jvm.ClassFile.FieldType.long)) ∈ lw_all := lw_g (lw_at lw_m16 45 rfl) rfl
theorem q3747 : (Jvm.Cond.methodLink "TaxWorkbenchModel" (184 : Nat) ({ cls := "TaxWorkbenchModel", name := "alone", desc := "(III)J" } : Jvm.MethodName)) ∈ lw_all := lw_g (lw_at lw_m16 46 rfl) rfl
theorem q3748 : (Jvm.Cond.privateMethod ({ cls := "TaxWorkbenchModel", name := "alone", desc := "(III)J" } : Jvm.MethodName)) ∈ lw_tbl := lw_at lw_m16 47 rfl
theorem q3749 : (Jvm.Cond.instanceMethod ({ cls := "TaxWorkbenchModel", name := "alone", desc := "(III)J" } : Jvm.MethodName)) ∈ lw_all := lw_g (lw_at lw_m16 48 rfl) rfl
theorem q3750 : (Jvm.Cond.code ({ cls := "TaxWorkbenchModel", name := "alone", desc := "(III)J" } : Jvm.MethodName) prog_13_method_53_code (4 : Nat) (Option.some Jvm.ClassFile.FieldType.long)) ∈ lw_all := lw_g (lw_at lw_m16 49 rfl) rfl
theorem q3751 : (Jvm.Cond.methodLink "TaxWorkbenchModel" (177 : Nat) ({ cls := "TaxWorkbenchModel", name := "brings", desc := "(II)V" } : Jvm.MethodName)) ∈ lw_all := lw_g (lw_at lw_m16 50 rfl) rfl
theorem q3752 : (Jvm.Cond.privateMethod ({ cls := "TaxWorkbenchModel", name := "brings", desc := "(II)V" } : Jvm.MethodName)) ∈ lw_tbl := lw_at lw_m16 51 rfl
theorem q3753 : (Jvm.Cond.instanceMethod ({ cls := "TaxWorkbenchModel", name := "brings", desc := "(II)V" } : Jvm.MethodName)) ∈ lw_all := lw_g (lw_at lw_m16 52 rfl) rfl
theorem q3754 : (Jvm.Cond.code ({ cls := "TaxWorkbenchModel", name := "brings", desc := "(II)V" } : Jvm.MethodName) prog_13_method_52_code (4 : Nat) (Option.none : Option Jvm.ClassFile.FieldType)) ∈ lw_all := lw_g (lw_at lw_m16 53 rfl) rfl
theorem q3755 : (Jvm.Cond.methodLink "TaxWorkbenchModel" (180 : Nat) ({ cls := "TaxWorkbenchModel", name := "taxOf", desc := "(IIII)J" } : Jvm.MethodName)) ∈ lw_all := lw_g (lw_at lw_m16 54 rfl) rfl
theorem q3756 : (Jvm.Cond.privateMethod ({ cls := "TaxWorkbenchModel", name := "taxOf", desc := "(IIII)J" } : Jvm.MethodName)) ∈ lw_tbl := lw_at lw_m16 55 rfl
theorem q3757 : (Jvm.Cond.instanceMethod ({ cls := "TaxWorkbenchModel", name := "taxOf", desc := "(IIII)J" } : Jvm.MethodName)) ∈ lw_all := lw_g (lw_at lw_m16 56 rfl) rfl
theorem q3758 : (Jvm.Cond.code ({ cls := "TaxWorkbenchModel", name := "taxOf", desc := "(IIII)J" } : Jvm.MethodName) prog_13_method_51_code (10 : Nat) (Option.some Jvm.ClassFile.FieldType.long)) ∈ lw_all := lw_g (lw_at lw_m16 57 rfl) rfl
theorem q3759 : (Jvm.Cond.constantLong "TaxWorkbenchModel" (151 : Nat) (1000000 : Int64)) ∈ lw_all := lw_g (lw_at lw_m16 58 rfl) rfl
theorem q3760 : (Jvm.Cond.methodLink "TaxWorkbenchModel" (161 : Nat) ({ cls := "TaxWorkbenchModel", name := "above", desc := "(III)J" } : Jvm.MethodName)) ∈ lw_all := lw_g (lw_at lw_m16 59 rfl) rfl
theorem q3761 : (Jvm.Cond.static ({ cls := "TaxWorkbenchModel", name := "above", desc := "(III)J" } : Jvm.MethodName)) ∈ lw_all := lw_g (lw_at lw_m16 60 rfl) rfl
theorem q3762 : (Jvm.Cond.code ({ cls := "TaxWorkbenchModel", name := "above", desc := "(III)J" } : Jvm.MethodName) prog_13_method_47_code (3 : Nat) (Option.some Jvm.ClassFile.FieldType.long)) ∈ lw_all := lw_g (lw_at lw_m16 61 rfl) rfl
theorem q3763 : (Jvm.Cond.constantLong "TaxWorkbenchModel" (149 : Nat) (1000 : Int64)) ∈ lw_all := lw_g (lw_at lw_m16 62 rfl) rfl
theorem q3764 : (Jvm.Cond.methodLink "TaxWorkbenchModel" (157 : Nat) ({ cls := "TaxWorkbenchModel", name := "positive", desc := "(J)J" } : Jvm.MethodName)) ∈ lw_all := lw_g (lw_at lw_m16 63 rfl) rfl
theorem q3765 : (Jvm.Cond.static ({ cls := "TaxWorkbenchModel", name := "positive", desc := "(J)J" } : Jvm.MethodName)) ∈ lw_all := lw_g (lw_at lw_m16 64 rfl) rfl
theorem q3766 : (Jvm.Cond.code ({ cls := "TaxWorkbenchModel", name := "positive", desc := "(J)J" } : Jvm.MethodName) prog_13_method_45_code (2 : Nat) (Option.some Jvm.ClassFile.FieldType.long)) ∈ lw_all := lw_g (lw_at lw_m16 65 rfl) rfl
theorem q3767 : (Jvm.Cond.methodLink "TaxWorkbenchModel" (165 : Nat) ({ cls := "TaxWorkbenchModel", name := "scheduled", desc := "(JI)J" } : Jvm.MethodName)) ∈ lw_all := lw_g (lw_at lw_m16 66 rfl) rfl
theorem q3768 : (Jvm.Cond.privateMethod ({ cls := "TaxWorkbenchModel", name := "scheduled", desc := "(JI)J" } : Jvm.MethodName)) ∈ lw_tbl := lw_at lw_m16 67 rfl
theorem q3769 : (Jvm.Cond.instanceMethod ({ cls := "TaxWorkbenchModel", name := "scheduled", desc := "(JI)J" } : Jvm.MethodName)) ∈ lw_all := lw_g (lw_at lw_m16 68 rfl) rfl
theorem q3770 : (Jvm.Cond.code ({ cls := "TaxWorkbenchModel", name := "scheduled", desc := "(JI)J" } : Jvm.MethodName) prog_13_method_48_code (11 : Nat) (Option.some Jvm.ClassFile.FieldType.long)) ∈ lw_all := lw_g (lw_at lw_m16 69 rfl) rfl
theorem q3771 : (Jvm.Cond.methodLink "TaxWorkbenchModel" (153 : Nat) ({ cls := "TaxWorkbenchModel", name := "lesser", desc := "(JJ)J" } : Jvm.MethodName)) ∈ lw_all := lw_g (lw_at lw_m16 70 rfl) rfl
theorem q3772 : (Jvm.Cond.static ({ cls := "TaxWorkbenchModel", name := "lesser", desc := "(JJ)J" } : Jvm.MethodName)) ∈ lw_all := lw_g (lw_at lw_m16 71 rfl) rfl
theorem q3773 : (Jvm.Cond.code ({ cls := "TaxWorkbenchModel", name := "lesser", desc := "(JJ)J" } : Jvm.MethodName) prog_13_method_46_code (4 : Nat) (Option.some Jvm.ClassFile.FieldType.long)) ∈ lw_all := lw_g (lw_at lw_m16 72 rfl) rfl
theorem q3774 : (Jvm.Cond.methodLink "TaxWorkbenchModel" (169 : Nat) ({ cls := "TaxWorkbenchModel", name := "charges", desc := "(II)J" } : Jvm.MethodName)) ∈ lw_all := lw_g (lw_at lw_m16 73 rfl) rfl
theorem q3775 : (Jvm.Cond.privateMethod ({ cls := "TaxWorkbenchModel", name := "charges", desc := "(II)J" } : Jvm.MethodName)) ∈ lw_tbl := lw_at lw_m16 74 rfl
theorem q3776 : (Jvm.Cond.instanceMethod ({ cls := "TaxWorkbenchModel", name := "charges", desc := "(II)J" } : Jvm.MethodName)) ∈ lw_all := lw_g (lw_at lw_m16 75 rfl) rfl
theorem q3777 : (Jvm.Cond.code ({ cls := "TaxWorkbenchModel", name := "charges", desc := "(II)J" } : Jvm.MethodName) prog_13_method_49_code (6 : Nat) (Option.some Jvm.ClassFile.FieldType.long)) ∈ lw_all := lw_g (lw_at lw_m16 76 rfl) rfl
theorem q3778 : (Jvm.Cond.methodLink "TaxWorkbenchModel" (173 : Nat) ({ cls := "TaxWorkbenchModel", name := "valueOf", desc := "(IIIII)J" } : Jvm.MethodName)) ∈ lw_all := lw_g (lw_at lw_m16 77 rfl) rfl
theorem q3779 : (Jvm.Cond.privateMethod ({ cls := "TaxWorkbenchModel", name := "valueOf", desc := "(IIIII)J" } : Jvm.MethodName)) ∈ lw_tbl := lw_at lw_m16 78 rfl
theorem q3780 : (Jvm.Cond.instanceMethod ({ cls := "TaxWorkbenchModel", name := "valueOf", desc := "(IIIII)J" } : Jvm.MethodName)) ∈ lw_all := lw_g (lw_at lw_m16 79 rfl) rfl
theorem q3781 : (Jvm.Cond.code ({ cls := "TaxWorkbenchModel", name := "valueOf", desc := "(IIIII)J" } : Jvm.MethodName) prog_13_method_50_code (8 : Nat) (Option.some Jvm.ClassFile.FieldType.long)) ∈ lw_all := lw_g (lw_at lw_m16 80 rfl) rfl
theorem q3783 : (Jvm.Cond.instanceMethod ({ cls := "TaxWorkbenchModel", name := "taxPart", desc := "(II)J" } : Jvm.MethodName)) ∈ lw_all := lw_g (lw_at lw_m16 82 rfl) rfl
theorem q3784 : (Jvm.Cond.selects "TaxWorkbenchModel" ({ cls := "TaxWorkbenchModel", name := "taxPart", desc := "(II)J" } : Jvm.MethodName) ({ cls := "TaxWorkbenchModel", name := "taxPart", desc := "(II)J" } : Jvm.MethodName)) ∈ lw_all := lw_g (lw_at lw_m16 83 rfl) rfl
theorem q3785 : (Jvm.Cond.code ({ cls := "TaxWorkbenchModel", name := "taxPart", desc := "(II)J" } : Jvm.MethodName) prog_13_method_56_code (3 : Nat) (Option.some Jvm.ClassFile.FieldType.long)) ∈ lw_all := lw_g (lw_at lw_m16 84 rfl) rfl
theorem q3787 : (Jvm.Cond.instanceMethod ({ cls := "TaxWorkbenchModel", name := "creditPart", desc := "(III)J" } : Jvm.MethodName)) ∈ lw_all := lw_g (lw_at lw_m16 86 rfl) rfl
theorem q3788 : (Jvm.Cond.selects "TaxWorkbenchModel" ({ cls := "TaxWorkbenchModel", name := "creditPart", desc := "(III)J" } : Jvm.MethodName) ({ cls := "TaxWorkbenchModel", name := "creditPart", desc := "(III)J" } : Jvm.MethodName)) ∈ lw_all := lw_g (lw_at lw_m16 87 rfl) rfl
theorem q3789 : (Jvm.Cond.code ({ cls := "TaxWorkbenchModel", name := "creditPart", desc := "(III)J" } : Jvm.MethodName) prog_13_method_59_code (4 : Nat) (Option.some Jvm.ClassFile.FieldType.long)) ∈ lw_all := lw_g (lw_at lw_m16 88 rfl) rfl
theorem q3790 : (Jvm.Cond.methodLink "TaxWorkbenchModel" (194 : Nat) ({ cls := "TaxWorkbenchModel", name := "creditTold", desc := "(II)J" } : Jvm.MethodName)) ∈ lw_all := lw_g (lw_at lw_m16 89 rfl) rfl
theorem q3791 : (Jvm.Cond.privateMethod ({ cls := "TaxWorkbenchModel", name := "creditTold", desc := "(II)J" } : Jvm.MethodName)) ∈ lw_tbl := lw_at lw_m16 90 rfl
theorem q3792 : (Jvm.Cond.instanceMethod ({ cls := "TaxWorkbenchModel", name := "creditTold", desc := "(II)J" } : Jvm.MethodName)) ∈ lw_all := lw_g (lw_at lw_m16 91 rfl) rfl
theorem q3793 : (Jvm.Cond.code ({ cls := "TaxWorkbenchModel", name := "creditTold", desc := "(II)J" } : Jvm.MethodName) prog_13_method_58_code (3 : Nat) (Option.some Jvm.ClassFile.FieldType.long)) ∈ lw_all := lw_g (lw_at lw_m16 92 rfl) rfl
theorem q3794 : (Jvm.Cond.methodLink "TaxWorkbenchModel" (191 : Nat) ({ cls := "TaxWorkbenchModel", name := "unused", desc := "(II)J" } : Jvm.MethodName)) ∈ lw_all := lw_g (lw_at lw_m16 93 rfl) rfl
theorem q3795 : (Jvm.Cond.privateMethod ({ cls := "TaxWorkbenchModel", name := "unused", desc := "(II)J" } : Jvm.MethodName)) ∈ lw_tbl := lw_at lw_m16 94 rfl
theorem q3796 : (Jvm.Cond.instanceMethod ({ cls := "TaxWorkbenchModel", name := "unused", desc := "(II)J" } : Jvm.MethodName)) ∈ lw_all := lw_g (lw_at lw_m16 95 rfl) rfl
theorem q3797 : (Jvm.Cond.code ({ cls := "TaxWorkbenchModel", name := "unused", desc := "(II)J" } : Jvm.MethodName) prog_13_method_57_code (3 : Nat) (Option.some Jvm.ClassFile.FieldType.long)) ∈ lw_all := lw_g (lw_at lw_m16 96 rfl) rfl
theorem q3799 : (Jvm.Cond.instanceMethod ({ cls := "TaxWorkbenchModel", name := "carried", desc := "(II)J" } : Jvm.MethodName)) ∈ lw_all := lw_g (lw_at lw_m16 98 rfl) rfl
theorem q3800 : (Jvm.Cond.selects "TaxWorkbenchModel" ({ cls := "TaxWorkbenchModel", name := "carried", desc := "(II)J" } : Jvm.MethodName) ({ cls := "TaxWorkbenchModel", name := "carried", desc := "(II)J" } : Jvm.MethodName)) ∈ lw_all := lw_g (lw_at lw_m16 99 rfl) rfl
theorem q3801 : (Jvm.Cond.code ({ cls := "TaxWorkbenchModel", name := "carried", desc := "(II)J" } : Jvm.MethodName) prog_13_method_60_code (3 : Nat) (Option.some Jvm.ClassFile.FieldType.long)) ∈ lw_all := lw_g (lw_at lw_m16 100 rfl) rfl
theorem q3803 : (Jvm.Cond.instanceMethod ({ cls := "TaxWorkbenchModel", name := "jointTax", desc := "(I)J" } : Jvm.MethodName)) ∈ lw_all := lw_g (lw_at lw_m16 102 rfl) rfl
theorem q3804 : (Jvm.Cond.selects "TaxWorkbenchModel" ({ cls := "TaxWorkbenchModel", name := "jointTax", desc := "(I)J" } : Jvm.MethodName) ({ cls := "TaxWorkbenchModel", name := "jointTax", desc := "(I)J" } : Jvm.MethodName)) ∈ lw_all := lw_g (lw_at lw_m16 103 rfl) rfl
theorem q3805 : (Jvm.Cond.code ({ cls := "TaxWorkbenchModel", name := "jointTax", desc := "(I)J" } : Jvm.MethodName) prog_13_method_64_code (2 : Nat) (Option.some Jvm.ClassFile.FieldType.long)) ∈ lw_all := lw_g (lw_at lw_m16 104 rfl) rfl
theorem q3806 : (Jvm.Cond.methodLink "TaxWorkbenchModel" (203 : Nat) ({ cls := "TaxWorkbenchModel", name := "jointly", desc := "(I)J" } : Jvm.MethodName)) ∈ lw_all := lw_g (lw_at lw_m16 105 rfl) rfl
theorem q3807 : (Jvm.Cond.privateMethod ({ cls := "TaxWorkbenchModel", name := "jointly", desc := "(I)J" } : Jvm.MethodName)) ∈ lw_tbl := lw_at lw_m16 106 rfl
theorem q3808 : (Jvm.Cond.instanceMethod ({ cls := "TaxWorkbenchModel", name := "jointly", desc := "(I)J" } : Jvm.MethodName)) ∈ lw_all := lw_g (lw_at lw_m16 107 rfl) rfl
theorem q3809 : (Jvm.Cond.code ({ cls := "TaxWorkbenchModel", name := "jointly", desc := "(I)J" } : Jvm.MethodName) prog_13_method_62_code (4 : Nat) (Option.some Jvm.ClassFile.FieldType.long)) ∈ lw_all := lw_g (lw_at lw_m16 108 rfl) rfl
theorem q3811 : (Jvm.Cond.instanceMethod ({ cls := "TaxWorkbenchModel", name := "separateTax", desc := "(I)J" } : Jvm.MethodName)) ∈ lw_all := lw_g (lw_at lw_m16 110 rfl) rfl
theorem q3812 : (Jvm.Cond.selects "TaxWorkbenchModel" ({ cls := "TaxWorkbenchModel", name := "separateTax", desc := "(I)J" } : Jvm.MethodName) ({ cls := "TaxWorkbenchModel", name := "separateTax", desc := "(I)J" } : Jvm.MethodName)) ∈ lw_all := lw_g (lw_at lw_m16 111 rfl) rfl
theorem q3813 : (Jvm.Cond.code ({ cls := "TaxWorkbenchModel", name := "separateTax", desc := "(I)J" } : Jvm.MethodName) prog_13_method_65_code (2 : Nat) (Option.some Jvm.ClassFile.FieldType.long)) ∈ lw_all := lw_g (lw_at lw_m16 112 rfl) rfl
theorem q3814 : (Jvm.Cond.methodLink "TaxWorkbenchModel" (206 : Nat) ({ cls := "TaxWorkbenchModel", name := "apart", desc := "(I)J" } : Jvm.MethodName)) ∈ lw_all := lw_g (lw_at lw_m16 113 rfl) rfl
theorem q3815 : (Jvm.Cond.privateMethod ({ cls := "TaxWorkbenchModel", name := "apart", desc := "(I)J" } : Jvm.MethodName)) ∈ lw_tbl := lw_at lw_m16 114 rfl
theorem q3816 : (Jvm.Cond.instanceMethod ({ cls := "TaxWorkbenchModel", name := "apart", desc := "(I)J" } : Jvm.MethodName)) ∈ lw_all := lw_g (lw_at lw_m16 115 rfl) rfl
theorem q3817 : (Jvm.Cond.code ({ cls := "TaxWorkbenchModel", name := "apart", desc := "(I)J" } : Jvm.MethodName) prog_13_method_63_code (10 : Nat) (Option.some Jvm.ClassFile.FieldType.long)) ∈ lw_all := lw_g (lw_at lw_m16 116 rfl) rfl
theorem q3818 : (Jvm.Cond.methodLink "TaxWorkbenchModel" (197 : Nat) ({ cls := "TaxWorkbenchModel", name := "firstOf", desc := "(I)I" } : Jvm.MethodName)) ∈ lw_all := lw_g (lw_at lw_m16 117 rfl) rfl
theorem q3819 : (Jvm.Cond.privateMethod ({ cls := "TaxWorkbenchModel", name := "firstOf", desc := "(I)I" } : Jvm.MethodName)) ∈ lw_tbl := lw_at lw_m16 118 rfl
theorem q3820 : (Jvm.Cond.instanceMethod ({ cls := "TaxWorkbenchModel", name := "firstOf", desc := "(I)I" } : Jvm.MethodName)) ∈ lw_all := lw_g (lw_at lw_m16 119 rfl) rfl
theorem q3821 : (Jvm.Cond.code ({ cls := "TaxWorkbenchModel", name := "firstOf", desc := "(I)I" } : Jvm.MethodName) prog_13_method_61_code (2 : Nat) (Option.some Jvm.ClassFile.FieldType.int)) ∈ lw_all := lw_g (lw_at lw_m16 120 rfl) rfl
theorem q3823 : (Jvm.Cond.instanceMethod ({ cls := "TaxWorkbenchModel", name := "division", desc := "(I)I" } : Jvm.MethodName)) ∈ lw_all := lw_g (lw_at lw_m16 122 rfl) rfl
theorem q3824 : (Jvm.Cond.selects "TaxWorkbenchModel" ({ cls := "TaxWorkbenchModel", name := "division", desc := "(I)I" } : Jvm.MethodName) ({ cls := "TaxWorkbenchModel", name := "division", desc := "(I)I" } : Jvm.MethodName)) ∈ lw_all := lw_g (lw_at lw_m16 123 rfl) rfl
theorem q3825 : (Jvm.Cond.code ({ cls := "TaxWorkbenchModel", name := "division", desc := "(I)I" } : Jvm.MethodName) prog_13_method_66_code (2 : Nat) (Option.some Jvm.ClassFile.FieldType.int)) ∈ lw_all := lw_g (lw_at lw_m16 124 rfl) rfl
theorem q3827 : (Jvm.Cond.instanceMethod ({ cls := "TaxWorkbenchModel", name := "choosesJoint", desc := "(I)Z" } : Jvm.MethodName)) ∈ lw_all := lw_g (lw_at lw_m16 126 rfl) rfl
theorem q3828 : (Jvm.Cond.selects "TaxWorkbenchModel" ({ cls := "TaxWorkbenchModel", name := "choosesJoint", desc := "(I)Z" } : Jvm.MethodName) ({ cls := "TaxWorkbenchModel", name := "choosesJoint", desc := "(I)Z" } : Jvm.MethodName)) ∈ lw_all := lw_g (lw_at lw_m16 127 rfl) rfl
theorem q3829 : (Jvm.Cond.code ({ cls := "TaxWorkbenchModel", name := "choosesJoint", desc := "(I)Z" } : Jvm.MethodName) prog_13_method_67_code (2 : Nat) (Option.some Jvm.ClassFile.FieldType.boolean)) ∈ lw_all := lw_g (lw_at lw_m16 128 rfl) rfl
theorem q3831 : (Jvm.Cond.instanceMethod ({ cls := "TaxWorkbenchModel", name := "householdTax", desc := "(I)J" } : Jvm.MethodName)) ∈ lw_all := lw_g (lw_at lw_m16 130 rfl) rfl
theorem q3832 : (Jvm.Cond.selects "TaxWorkbenchModel" ({ cls := "TaxWorkbenchModel", name := "householdTax", desc := "(I)J" } : Jvm.MethodName) ({ cls := "TaxWorkbenchModel", name := "householdTax", desc := "(I)J" } : Jvm.MethodName)) ∈ lw_all := lw_g (lw_at lw_m16 131 rfl) rfl
theorem q3833 : (Jvm.Cond.code ({ cls := "TaxWorkbenchModel", name := "householdTax", desc := "(I)J" } : Jvm.MethodName) prog_13_method_69_code (2 : Nat) (Option.some Jvm.ClassFile.FieldType.long)) ∈ lw_all := lw_g (lw_at lw_m16 132 rfl) rfl
theorem q3834 : (Jvm.Cond.methodLink "TaxWorkbenchModel" (209 : Nat) ({ cls := "TaxWorkbenchModel", name := "household", desc := "(I)J" } : Jvm.MethodName)) ∈ lw_all := lw_g (lw_at lw_m16 133 rfl) rfl
theorem q3835 : (Jvm.Cond.privateMethod ({ cls := "TaxWorkbenchModel", name := "household", desc := "(I)J" } : Jvm.MethodName)) ∈ lw_tbl := lw_at lw_m16 134 rfl
theorem q3836 : (Jvm.Cond.instanceMethod ({ cls := "TaxWorkbenchModel", name := "household", desc := "(I)J" } : Jvm.MethodName)) ∈ lw_all := lw_g (lw_at lw_m16 135 rfl) rfl
theorem q3837 : (Jvm.Cond.code ({ cls := "TaxWorkbenchModel", name := "household", desc := "(I)J" } : Jvm.MethodName) prog_13_method_68_code (2 : Nat) (Option.some Jvm.ClassFile.FieldType.long)) ∈ lw_all := lw_g (lw_at lw_m16 136 rfl) rfl
theorem q3839 : (Jvm.Cond.instanceMethod ({ cls := "TaxWorkbenchModel", name := "totalTax", desc := "()J" } : Jvm.MethodName)) ∈ lw_all := lw_g (lw_at lw_m16 138 rfl) rfl
theorem q3840 : (Jvm.Cond.selects "TaxWorkbenchModel" ({ cls := "TaxWorkbenchModel", name := "totalTax", desc := "()J" } : Jvm.MethodName) ({ cls := "TaxWorkbenchModel", name := "totalTax", desc := "()J" } : Jvm.MethodName)) ∈ lw_all := lw_g (lw_at lw_m16 139 rfl) rfl
theorem q3841 : (Jvm.Cond.code ({ cls := "TaxWorkbenchModel", name := "totalTax", desc := "()J" } : Jvm.MethodName) prog_13_method_71_code (4 : Nat) (Option.some Jvm.ClassFile.FieldType.long)) ∈ lw_all := lw_g (lw_at lw_m16 140 rfl) rfl
theorem q3842 : (Jvm.Cond.methodLink "TaxWorkbenchModel" (212 : Nat) ({ cls := "TaxWorkbenchModel", name := "isCounted", desc := "(I)Z" } : Jvm.MethodName)) ∈ lw_all := lw_g (lw_at lw_m16 141 rfl) rfl
theorem q3843 : (Jvm.Cond.privateMethod ({ cls := "TaxWorkbenchModel", name := "isCounted", desc := "(I)Z" } : Jvm.MethodName)) ∈ lw_tbl := lw_at lw_m16 142 rfl
theorem q3844 : (Jvm.Cond.instanceMethod ({ cls := "TaxWorkbenchModel", name := "isCounted", desc := "(I)Z" } : Jvm.MethodName)) ∈ lw_all := lw_g (lw_at lw_m16 143 rfl) rfl
theorem q3845 : (Jvm.Cond.code ({ cls := "TaxWorkbenchModel", name := "isCounted", desc := "(I)Z" } : Jvm.MethodName) prog_13_method_70_code (2 : Nat) (Option.some Jvm.ClassFile.FieldType.boolean)) ∈ lw_all := lw_g (lw_at lw_m16 144 rfl) rfl
theorem q3847 : (Jvm.Cond.instanceMethod ({ cls := "TaxWorkbenchModel", name := "closeYear", desc := "()I" } : Jvm.MethodName)) ∈ lw_all := lw_g (lw_at lw_m16 146 rfl) rfl
theorem q3848 : (Jvm.Cond.selects "TaxWorkbenchModel" ({ cls := "TaxWorkbenchModel", name := "closeYear", desc := "()I" } : Jvm.MethodName) ({ cls := "TaxWorkbenchModel", name := "closeYear", desc := "()I" } : Jvm.MethodName)) ∈ lw_all := lw_g (lw_at lw_m16 147 rfl) rfl
theorem q3849 : (Jvm.Cond.code ({ cls := "TaxWorkbenchModel", name := "closeYear", desc := "()I" } : Jvm.MethodName) prog_13_method_74_code (2 : Nat) (Option.some Jvm.ClassFile.FieldType.int)) ∈ lw_all := lw_g (lw_at lw_m16 148 rfl) rfl
theorem q3850 : (Jvm.Cond.methodLink "TaxWorkbenchModel" (218 : Nat) ({ cls := "TaxWorkbenchModel", name := "closes", desc := "(I)V" } : Jvm.MethodName)) ∈ lw_all := lw_g (lw_at lw_m16 149 rfl) rfl
theorem q3851 : (Jvm.Cond.privateMethod ({ cls := "TaxWorkbenchModel", name := "closes", desc := "(I)V" } : Jvm.MethodName)) ∈ lw_tbl := lw_at lw_m16 150 rfl
theorem q3852 : (Jvm.Cond.instanceMethod ({ cls := "TaxWorkbenchModel", name := "closes", desc := "(I)V" } : Jvm.MethodName)) ∈ lw_all := lw_g (lw_at lw_m16 151 rfl) rfl
theorem q3853 : (Jvm.Cond.code ({ cls := "TaxWorkbenchModel", name := "closes", desc := "(I)V" } : Jvm.MethodName) prog_13_method_73_code (5 : Nat) (Option.none : Option Jvm.ClassFile.FieldType)) ∈ lw_all := lw_g (lw_at lw_m16 152 rfl) rfl
theorem q3854 : (Jvm.Cond.methodLink "TaxWorkbenchModel" (215 : Nat) ({ cls := "TaxWorkbenchModel", name := "carries", desc := "(I)V" } : Jvm.MethodName)) ∈ lw_all := lw_g (lw_at lw_m16 153 rfl) rfl
theorem q3855 : (Jvm.Cond.privateMethod ({ cls := "TaxWorkbenchModel", name := "carries", desc := "(I)V" } : Jvm.MethodName)) ∈ lw_tbl := lw_at lw_m16 154 rfl
theorem q3856 : (Jvm.Cond.instanceMethod ({ cls := "TaxWorkbenchModel", name := "carries", desc := "(I)V" } : Jvm.MethodName)) ∈ lw_all := lw_g (lw_at lw_m16 155 rfl) rfl
theorem q3857 : (Jvm.Cond.code ({ cls := "TaxWorkbenchModel", name := "carries", desc := "(I)V" } : Jvm.MethodName) prog_13_method_72_code (3 : Nat) (Option.none : Option Jvm.ClassFile.FieldType)) ∈ lw_all := lw_g (lw_at lw_m16 156 rfl) rfl
theorem q3859 : (Jvm.Cond.instanceMethod ({ cls := "TaxWorkbenchModel", name := "years", desc := "()I" } : Jvm.MethodName)) ∈ lw_all := lw_g (lw_at lw_m16 158 rfl) rfl
theorem q3860 : (Jvm.Cond.selects "TaxWorkbenchModel" ({ cls := "TaxWorkbenchModel", name := "years", desc := "()I" } : Jvm.MethodName) ({ cls := "TaxWorkbenchModel", name := "years", desc := "()I" } : Jvm.MethodName)) ∈ lw_all := lw_g (lw_at lw_m16 159 rfl) rfl
theorem q3861 : (Jvm.Cond.code ({ cls := "TaxWorkbenchModel", name := "years", desc := "()I" } : Jvm.MethodName) prog_13_method_75_code (1 : Nat) (Option.some Jvm.ClassFile.FieldType.int)) ∈ lw_all := lw_g (lw_at lw_m16 160 rfl) rfl
theorem q3863 : (Jvm.Cond.instanceMethod ({ cls := "TaxWorkbenchModel", name := "curve", desc := "(II)J" } : Jvm.MethodName)) ∈ lw_all := lw_g (lw_at lw_m16 162 rfl) rfl
theorem q3864 : (Jvm.Cond.selects "TaxWorkbenchModel" ({ cls := "TaxWorkbenchModel", name := "curve", desc := "(II)J" } : Jvm.MethodName) ({ cls := "TaxWorkbenchModel", name := "curve", desc := "(II)J" } : Jvm.MethodName)) ∈ lw_all := lw_g (lw_at lw_m16 163 rfl) rfl
theorem q3865 : (Jvm.Cond.code ({ cls := "TaxWorkbenchModel", name := "curve", desc := "(II)J" } : Jvm.MethodName) prog_13_method_77_code (3 : Nat) (Option.some Jvm.ClassFile.FieldType.long)) ∈ lw_all := lw_g (lw_at lw_m16 164 rfl) rfl
theorem q3866 : (Jvm.Cond.methodLink "TaxWorkbenchModel" (221 : Nat) ({ cls := "TaxWorkbenchModel", name := "taxAt", desc := "(II)J" } : Jvm.MethodName)) ∈ lw_all := lw_g (lw_at lw_m16 165 rfl) rfl
theorem q3867 : (Jvm.Cond.privateMethod ({ cls := "TaxWorkbenchModel", name := "taxAt", desc := "(II)J" } : Jvm.MethodName)) ∈ lw_tbl := lw_at lw_m16 166 rfl
theorem q3868 : (Jvm.Cond.instanceMethod ({ cls := "TaxWorkbenchModel", name := "taxAt", desc := "(II)J" } : Jvm.MethodName)) ∈ lw_all := lw_g (lw_at lw_m16 167 rfl) rfl
theorem q3869 : (Jvm.Cond.code ({ cls := "TaxWorkbenchModel", name := "taxAt", desc := "(II)J" } : Jvm.MethodName) prog_13_method_76_code (3 : Nat) (Option.some Jvm.ClassFile.FieldType.long)) ∈ lw_all := lw_g (lw_at lw_m16 168 rfl) rfl
theorem q3871 : (Jvm.Cond.instanceMethod ({ cls := "TaxWorkbenchModel", name := "marginalRate", desc := "(II)J" } : Jvm.MethodName)) ∈ lw_all := lw_g (lw_at lw_m16 170 rfl) rfl
theorem q3872 : (Jvm.Cond.selects "TaxWorkbenchModel" ({ cls := "TaxWorkbenchModel", name := "marginalRate", desc := "(II)J" } : Jvm.MethodName) ({ cls := "TaxWorkbenchModel", name := "marginalRate", desc := "(II)J" } : Jvm.MethodName)) ∈ lw_all := lw_g (lw_at lw_m16 171 rfl) rfl
theorem q3873 : (Jvm.Cond.code ({ cls := "TaxWorkbenchModel", name := "marginalRate", desc := "(II)J" } : Jvm.MethodName) prog_13_method_79_code (3 : Nat) (Option.some Jvm.ClassFile.FieldType.long)) ∈ lw_all := lw_g (lw_at lw_m16 172 rfl) rfl
theorem q3874 : (Jvm.Cond.methodLink "TaxWorkbenchModel" (224 : Nat) ({ cls := "TaxWorkbenchModel", name := "marginal", desc := "(II)J" } : Jvm.MethodName)) ∈ lw_all := lw_g (lw_at lw_m16 173 rfl) rfl
theorem q3875 : (Jvm.Cond.privateMethod ({ cls := "TaxWorkbenchModel", name := "marginal", desc := "(II)J" } : Jvm.MethodName)) ∈ lw_tbl := lw_at lw_m16 174 rfl
theorem q3876 : (Jvm.Cond.instanceMethod ({ cls := "TaxWorkbenchModel", name := "marginal", desc := "(II)J" } : Jvm.MethodName)) ∈ lw_all := lw_g (lw_at lw_m16 175 rfl) rfl
theorem q3877 : (Jvm.Cond.code ({ cls := "TaxWorkbenchModel", name := "marginal", desc := "(II)J" } : Jvm.MethodName) prog_13_method_78_code (3 : Nat) (Option.some Jvm.ClassFile.FieldType.long)) ∈ lw_all := lw_g (lw_at lw_m16 176 rfl) rfl
theorem q3879 : (Jvm.Cond.instanceMethod ({ cls := "TaxWorkbenchModel", name := "kinks", desc := "(I)I" } : Jvm.MethodName)) ∈ lw_all := lw_g (lw_at lw_m16 178 rfl) rfl
theorem q3880 : (Jvm.Cond.selects "TaxWorkbenchModel" ({ cls := "TaxWorkbenchModel", name := "kinks", desc := "(I)I" } : Jvm.MethodName) ({ cls := "TaxWorkbenchModel", name := "kinks", desc := "(I)I" } : Jvm.MethodName)) ∈ lw_all := lw_g (lw_at lw_m16 179 rfl) rfl
theorem q3881 : (Jvm.Cond.code ({ cls := "TaxWorkbenchModel", name := "kinks", desc := "(I)I" } : Jvm.MethodName) prog_13_method_81_code (10 : Nat) (Option.some Jvm.ClassFile.FieldType.int)) ∈ lw_all := lw_g (lw_at lw_m16 180 rfl) rfl
theorem q3883 : (Jvm.Cond.instanceMethod ({ cls := "TaxWorkbenchModel", name := "nextKink", desc := "(II)I" } : Jvm.MethodName)) ∈ lw_all := lw_g (lw_at lw_m16 182 rfl) rfl
theorem q3884 : (Jvm.Cond.selects "TaxWorkbenchModel" ({ cls := "TaxWorkbenchModel", name := "nextKink", desc := "(II)I" } : Jvm.MethodName) ({ cls := "TaxWorkbenchModel", name := "nextKink", desc := "(II)I" } : Jvm.MethodName)) ∈ lw_all := lw_g (lw_at lw_m16 183 rfl) rfl
theorem q3885 : (Jvm.Cond.code ({ cls := "TaxWorkbenchModel", name := "nextKink", desc := "(II)I" } : Jvm.MethodName) prog_13_method_82_code (4 : Nat) (Option.some Jvm.ClassFile.FieldType.int)) ∈ lw_all := lw_g (lw_at lw_m16 184 rfl) rfl
theorem q3886 : (Jvm.Cond.methodLink "TaxWorkbenchModel" (227 : Nat) ({ cls := "TaxWorkbenchModel", name := "isKink", desc := "(II)Z" } : Jvm.MethodName)) ∈ lw_all := lw_g (lw_at lw_m16 185 rfl) rfl
theorem q3887 : (Jvm.Cond.privateMethod ({ cls := "TaxWorkbenchModel", name := "isKink", desc := "(II)Z" } : Jvm.MethodName)) ∈ lw_tbl := lw_at lw_m16 186 rfl
theorem q3888 : (Jvm.Cond.instanceMethod ({ cls := "TaxWorkbenchModel", name := "isKink", desc := "(II)Z" } : Jvm.MethodName)) ∈ lw_all := lw_g (lw_at lw_m16 187 rfl) rfl
theorem q3889 : (Jvm.Cond.code ({ cls := "TaxWorkbenchModel", name := "isKink", desc := "(II)Z" } : Jvm.MethodName) prog_13_method_80_code (3 : Nat) (Option.some Jvm.ClassFile.FieldType.boolean)) ∈ lw_all := lw_g (lw_at lw_m16 188 rfl) rfl
theorem q3891 : (Jvm.Cond.instanceMethod ({ cls := "TaxWorkbenchModel", name := "kinkCause", desc := "(II)I" } : Jvm.MethodName)) ∈ lw_all := lw_g (lw_at lw_m16 190 rfl) rfl
theorem q3892 : (Jvm.Cond.selects "TaxWorkbenchModel" ({ cls := "TaxWorkbenchModel", name := "kinkCause", desc := "(II)I" } : Jvm.MethodName) ({ cls := "TaxWorkbenchModel", name := "kinkCause", desc := "(II)I" } : Jvm.MethodName)) ∈ lw_all := lw_g (lw_at lw_m16 191 rfl) rfl
theorem q3893 : (Jvm.Cond.code ({ cls := "TaxWorkbenchModel", name := "kinkCause", desc := "(II)I" } : Jvm.MethodName) prog_13_method_84_code (4 : Nat) (Option.some Jvm.ClassFile.FieldType.int)) ∈ lw_all := lw_g (lw_at lw_m16 192 rfl) rfl
theorem q3894 : (Jvm.Cond.methodLink "TaxWorkbenchModel" (231 : Nat) ({ cls := "TaxWorkbenchModel", name := "partAt", desc := "(III)J" } : Jvm.MethodName)) ∈ lw_all := lw_g (lw_at lw_m16 193 rfl) rfl
theorem q3895 : (Jvm.Cond.privateMethod ({ cls := "TaxWorkbenchModel", name := "partAt", desc := "(III)J" } : Jvm.MethodName)) ∈ lw_tbl := lw_at lw_m16 194 rfl
theorem q3896 : (Jvm.Cond.instanceMethod ({ cls := "TaxWorkbenchModel", name := "partAt", desc := "(III)J" } : Jvm.MethodName)) ∈ lw_all := lw_g (lw_at lw_m16 195 rfl) rfl
theorem q3897 : (Jvm.Cond.code ({ cls := "TaxWorkbenchModel", name := "partAt", desc := "(III)J" } : Jvm.MethodName) prog_13_method_83_code (4 : Nat) (Option.some Jvm.ClassFile.FieldType.long)) ∈ lw_all := lw_g (lw_at lw_m16 196 rfl) rfl
theorem q3899 : (Jvm.Cond.instanceMethod ({ cls := "TaxWorkbenchModel", name := "steepest", desc := "(I)I" } : Jvm.MethodName)) ∈ lw_all := lw_g (lw_at lw_m16 198 rfl) rfl
theorem q3900 : (Jvm.Cond.selects "TaxWorkbenchModel" ({ cls := "TaxWorkbenchModel", name := "steepest", desc := "(I)I" } : Jvm.MethodName) ({ cls := "TaxWorkbenchModel", name := "steepest", desc := "(I)I" } : Jvm.MethodName)) ∈ lw_all := lw_g (lw_at lw_m16 199 rfl) rfl
theorem q3901 : (Jvm.Cond.code ({ cls := "TaxWorkbenchModel", name := "steepest", desc := "(I)I" } : Jvm.MethodName) prog_13_method_85_code (10 : Nat) (Option.some Jvm.ClassFile.FieldType.int)) ∈ lw_all := lw_g (lw_at lw_m16 200 rfl) rfl
theorem q3903 : (Jvm.Cond.instanceMethod ({ cls := "TaxWorkbenchModel", name := "averageRate", desc := "(I)D" } : Jvm.MethodName)) ∈ lw_all := lw_g (lw_at lw_m16 202 rfl) rfl
theorem q3904 : (Jvm.Cond.selects "TaxWorkbenchModel" ({ cls := "TaxWorkbenchModel", name := "averageRate", desc := "(I)D" } : Jvm.MethodName) ({ cls := "TaxWorkbenchModel", name := "averageRate", desc := "(I)D" } : Jvm.MethodName)) ∈ lw_all := lw_g (lw_at lw_m16 203 rfl) rfl
theorem q3905 : (Jvm.Cond.code ({ cls := "TaxWorkbenchModel", name := "averageRate", desc := "(I)D" } : Jvm.MethodName) prog_13_method_86_code (2 : Nat) (Option.some Jvm.ClassFile.FieldType.double)) ∈ lw_all := lw_g (lw_at lw_m16 204 rfl) rfl
theorem q3907 : (Jvm.Cond.instanceMethod ({ cls := "TaxWorkbenchModel", name := "averageDependents", desc := "()F" } : Jvm.MethodName)) ∈ lw_all := lw_g (lw_at lw_m16 206 rfl) rfl
theorem q3908 : (Jvm.Cond.selects "TaxWorkbenchModel" ({ cls := "TaxWorkbenchModel", name := "averageDependents", desc := "()F" } : Jvm.MethodName) ({ cls := "TaxWorkbenchModel", name := "averageDependents", desc := "()F" } : Jvm.MethodName)) ∈ lw_all := lw_g (lw_at lw_m16 207 rfl) rfl
theorem q3909 : (Jvm.Cond.code ({ cls := "TaxWorkbenchModel", name := "averageDependents", desc := "()F" } : Jvm.MethodName) prog_13_method_87_code (3 : Nat) (Option.some Jvm.ClassFile.FieldType.float)) ∈ lw_all := lw_g (lw_at lw_m16 208 rfl) rfl
theorem q3910 : (Jvm.Cond.constantFloat "TaxWorkbenchModel" (234 : Nat) (1086324736 : UInt32)) ∈ lw_all := lw_g (lw_at lw_m16 209 rfl) rfl
theorem q3959 : (Jvm.Cond.castable "TaxWorkbenchModel" "java/lang/Object") ∈ lw_tbl := lw_at lw_m17 18 rfl
/-! what the reference's methods reckon -/
def inB (v lo hi : Int32) : Bool := decide (¬ v < lo) && decide (¬ hi < v)
def posL (v : Int64) : Int64 := if 0 < v then v else 0
def lesL (a b : Int64) : Int64 := if a < b then a else b
def aboL (r x s : Int32) : Int64 := if x ≤ s then 0 else 1000 * r.toInt64 * (x - s).toInt64
/-- scheduled: the sum of k brackets -/
def schT (g : Nat → Int32) (nb : Nat) (tx : Int64) (f : Int32) (k : Nat) : Int64 := if k + 1 < nb then 1000000 * (f * g (1 + 2 * k + 2)).toInt64 else tx
def schS (g : Nat → Int32) (nb : Nat) (tx : Int64) (f : Int32) : Nat → Int64
  | 0 => 0
  | k + 1 => schS g nb tx f k + posL (lesL tx (schT g nb tx f k) - 1000000 * (f * g (1 + 2 * k)).toInt64) / 1000 * (g (1 + 2 * k + 1)).toInt64
def chaS (g : Nat → Int32) (x f : Int32) : Nat → Int64
  | 0 => 0
  | k + 1 => chaS g x f k + (if f * g (19 + 2 * k) ≤ x then 1000000 * (g (19 + 2 * k + 1)).toInt64 else 0)
def valC (g : Nat → Int32) (k : Nat) (e x d f : Int32) : Int64 := posL ((if g (28 + 6 * k + 2) = 0 then 1000000 * (g (28 + 6 * k + 1)).toInt64 * (if g (28 + 6 * k + 5) = 1 then d else 1).toInt64 else lesL (1000000 * (g (28 + 6 * k + 1)).toInt64 * (if g (28 + 6 * k + 5) = 1 then d else 1).toInt64) (1000 * (g (28 + 6 * k + 2)).toInt64 * e.toInt64)) - aboL (g (28 + 6 * k + 4)) x (f * g (28 + 6 * k + 3)))
def brgL (L : TL) (p : Nat) (oth : Int32) (o : Nat) : Nat → TL
  | 0 => L
  | k + 1 => upL (brgL L p oth o k) 4 k (brgL L p oth o k 0 (6 * p + k) + (if oth < 0 then 0 else brgL L p oth o k 0 (6 * o + k)))
def mayC (g : Nat → Int32) (br : Nat → Int64) (k : Nat) (e x d f : Int32) : Int64 := valC g k e x d f + (if g (28 + 6 * k + 0) = 2 then br k else 0)
def usdC (g : Nat → Int32) (br : Nat → Int64) (k : Nat) (e x d f : Int32) (left : Int64) : Int64 := if g (28 + 6 * k + 0) = 1 then mayC g br k e x d f else lesL (mayC g br k e x d f) (posL left)
def lefC (g : Nat → Int32) (br : Nat → Int64) (e x d f : Int32) (p5 : Int64) : Nat → Int64
  | 0 => p5
  | k + 1 => lefC g br e x d f p5 k - usdC g br k e x d f (lefC g br e x d f p5 k)
def txP0 (g : Nat → Int32) (x f : Int32) : Int64 := posL (1000000 * (f * g 13).toInt64 - aboL (g 15) x (f * g 14))
def txP1 (g : Nat → Int32) (x f : Int32) : Int64 := posL (1000000 * x.toInt64 - txP0 g x f)
def txP2 (g : Nat → Int32) (nb : Nat) (x f : Int32) : Int64 := schS g nb (txP1 g x f) f nb
def txP3 (g : Nat → Int32) (x f : Int32) : Int64 := aboL (g 17) x (f * g 16)
def txP4 (g : Nat → Int32) (nb : Nat) (x f : Int32) : Int64 := if txP3 g x f < txP2 g nb x f then txP2 g nb x f else txP3 g x f
def txP5 (g : Nat → Int32) (nb nch : Nat) (x f : Int32) : Int64 := txP4 g nb x f + chaS g x f nch
def txLp (g : Nat → Int32) (nb nch : Nat) (L : TL) (x f : Int32) : TL := upL (upL (upL (upL (upL (upL L 3 0 (txP0 g x f)) 3 1 (txP1 g x f)) 3 2 (txP2 g nb x f)) 3 3 (txP3 g x f)) 3 4 (txP4 g nb x f)) 3 5 (txP5 g nb nch x f)
def txLk (g : Nat → Int32) (L : TL) (e x d f : Int32) (p5 : Int64) : Nat → TL
  | 0 => L
  | k + 1 => upL (upL (upL (txLk g L e x d f p5 k) 5 k (valC g k e x d f)) 6 k (usdC g (L 4) k e x d f (lefC g (L 4) e x d f p5 k))) 7 k (lefC g (L 4) e x d f p5 (k + 1))
theorem txLk_4 (g : Nat → Int32) (L : TL) (e x d f : Int32) (p5 : Int64) : ∀ k, txLk g L e x d f p5 k 4 = L 4 := by
  intro k
  induction k with
  | zero => rfl
  | succ k ih => rw [← ih]; rfl
/-! what a state of rules, people, couples is: places in the row g -/
def nbG (g : Nat → Int32) : Nat := (g 0).toNatClampNeg
def nchG (g : Nat → Int32) : Nat := (g 18).toNatClampNeg
def ncrG (g : Nat → Int32) : Nat := (g 27).toNatClampNeg
def dnG (g : Nat → Int32) (p : Nat) : Nat := (g (64 + 3 * p + 2)).toNatClampNeg
def qG (g : Nat → Int32) (p : Nat) : Nat := (g (82 + p)).toNatClampNeg
/-- counts and ranges that hold all through -/
def WFg (g : Nat → Int32) : Prop :=
  (g 0 = nI (nbG g) ∧ 1 ≤ nbG g ∧ nbG g ≤ 6) ∧ (g 18 = nI (nchG g) ∧ nchG g ≤ 4) ∧ (g 27 = nI (ncrG g) ∧ ncrG g ≤ 6) ∧
  (∀ p, p < 6 → g (64 + 3 * p + 2) = nI (dnG g p) ∧ dnG g p ≤ 9) ∧
  (∀ p, p < 6 → g (82 + p) = -1 ∨ (g (82 + p) = nI (qG g p) ∧ qG g p < 6 ∧ qG g p ≠ p ∧ g (82 + qG g p) = nI p))
/-- the scratch arrays may differ -/
def scr (L L' : TL) : Prop := L' 0 = L 0 ∧ L' 1 = L 1 ∧ L' 2 = L 2 ∧ L' 8 = L 8
theorem scr.rf {L : TL} : scr L L := ⟨rfl, rfl, rfl, rfl⟩
theorem scr.trans {L L' L'' : TL} (h : scr L L') (k : scr L' L'') : scr L L'' := ⟨k.1.trans h.1, k.2.1.trans h.2.1, k.2.2.1.trans h.2.2.1, k.2.2.2.trans h.2.2.2⟩
def txV (g : Nat → Int32) (br : Nat → Int64) (e x d f : Int32) : Int64 := lefC g br e x d f (txP5 g (nbG g) (nchG g) x f) (ncrG g)
/-- what a case leaves in the scratch arrays -/
def caseL (g : Nat → Int32) (br : Nat → Int64) (e x d f : Int32) (L : TL) : Prop :=
  L 3 0 = txP0 g x f ∧ L 3 1 = txP1 g x f ∧ L 3 2 = txP2 g (nbG g) x f ∧ L 3 3 = txP3 g x f ∧ L 3 4 = txP4 g (nbG g) x f ∧ L 3 5 = txP5 g (nbG g) (nchG g) x f ∧
  ∀ k, k < ncrG g → L 4 k = br k ∧ L 5 k = valC g k e x d f ∧ L 6 k = usdC g br k e x d f (lefC g br e x d f (txP5 g (nbG g) (nchG g) x f) k) ∧ L 7 k = lefC g br e x d f (txP5 g (nbG g) (nchG g) x f) (k + 1)
theorem lefC_congr {g : Nat → Int32} {br br' : Nat → Int64} {e x d f : Int32} {p5 : Int64} : ∀ k, (∀ j, j < k → br j = br' j) → lefC g br e x d f p5 k = lefC g br' e x d f p5 k := by
  intro k
  induction k with
  | zero => intro _; rfl
  | succ k ih =>
    intro h
    have h1 := ih (fun j hj => h j (by omega))
    have h2 := h k (by omega)
    simp only [lefC, usdC, mayC, h1, h2]
theorem txLk_oth (g : Nat → Int32) (L : TL) (e x d f : Int32) (p5 : Int64) (j : Nat) (h : j ≠ 5 ∧ j ≠ 6 ∧ j ≠ 7) : ∀ k, txLk g L e x d f p5 k j = L j := by
  intro k
  induction k with
  | zero => rfl
  | succ k ih =>
    rw [← ih]
    simp [txLk, upL, va_up, h.1, h.2.1, h.2.2]
theorem txLk_567 (g : Nat → Int32) (L : TL) (e x d f : Int32) (p5 : Int64) : ∀ n k, k < n → txLk g L e x d f p5 n 5 k = valC g k e x d f ∧ txLk g L e x d f p5 n 6 k = usdC g (L 4) k e x d f (lefC g (L 4) e x d f p5 k) ∧ txLk g L e x d f p5 n 7 k = lefC g (L 4) e x d f p5 (k + 1) := by
  intro n
  induction n with
  | zero => intro k h; omega
  | succ n ih =>
    intro k h
    by_cases hk : k = n
    · subst hk; simp [txLk, va_up, vp_updL]
    · obtain ⟨h1, h2, h3⟩ := ih k (by omega)
      simp [txLk, va_up, vp_updL, hk, h1, h2, h3]
theorem txLp_oth (g : Nat → Int32) (nb nch : Nat) (L : TL) (x f : Int32) (j : Nat) (h : j ≠ 3) : txLp g nb nch L x f j = L j := by simp [txLp, va_up, h]
theorem brgL_oth (L : TL) (p : Nat) (oth : Int32) (o j : Nat) (h : j ≠ 4) : ∀ n, brgL L p oth o n j = L j := by
  intro n
  induction n with
  | zero => rfl
  | succ n ih => rw [← ih]; simp [brgL, va_up, h]
theorem brgL_4 (L : TL) (p : Nat) (oth : Int32) (o : Nat) : ∀ n k, k < n → brgL L p oth o n 4 k = L 0 (6 * p + k) + (if oth < 0 then 0 else L 0 (6 * o + k)) := by
  intro n
  induction n with
  | zero => intro k h; omega
  | succ n ih =>
    intro k h
    by_cases hk : k = n
    · subst hk; simp [brgL, va_up, vp_updL, brgL_oth L p oth o 0 (by decide)]
    · simp only [brgL, upL, va_up, vp_updL, if_pos, if_neg hk]
      exact ih k (by omega)
/-- brings and taxOf together -/
theorem case_of (g : Nat → Int32) (L : TL) (p : Nat) (oth : Int32) (o : Nat) (e x d f : Int32) (br : Nat → Int64) (hr : ncrG g ≤ 6) (hbr : ∀ k, k < 6 → br k = L 0 (6 * p + k) + (if oth < 0 then 0 else L 0 (6 * o + k))) :
    lefC g (brgL L p oth o 6 4) e x d f (txP5 g (nbG g) (nchG g) x f) (ncrG g) = txV g br e x d f ∧
    scr L (txLk g (txLp g (nbG g) (nchG g) (brgL L p oth o 6) x f) e x d f (txP5 g (nbG g) (nchG g) x f) (ncrG g)) ∧
    caseL g br e x d f (txLk g (txLp g (nbG g) (nchG g) (brgL L p oth o 6) x f) e x d f (txP5 g (nbG g) (nchG g) x f) (ncrG g)) := by
  have hb : ∀ k, k < 6 → brgL L p oth o 6 4 k = br k := fun k hk => (brgL_4 L p oth o 6 k hk).trans (hbr k hk).symm
  have hlef : ∀ k, k ≤ ncrG g → lefC g (brgL L p oth o 6 4) e x d f (txP5 g (nbG g) (nchG g) x f) k = lefC g br e x d f (txP5 g (nbG g) (nchG g) x f) k := fun k hk => lefC_congr k (fun j hj => hb j (by omega))
  refine ⟨hlef _ (Nat.le_refl _), ?_, ?_⟩
  · refine ⟨?_, ?_, ?_, ?_⟩ <;> rw [txLk_oth _ _ _ _ _ _ _ _ (by decide), txLp_oth _ _ _ _ _ _ _ (by decide), brgL_oth _ _ _ _ _ (by decide)]
  · refine ⟨?_, ?_, ?_, ?_, ?_, ?_, fun k hk => ?_⟩
    · rw [txLk_oth _ _ _ _ _ _ _ _ (by decide)]; simp [txLp, va_up, vp_updL]
    · rw [txLk_oth _ _ _ _ _ _ _ _ (by decide)]; simp [txLp, va_up, vp_updL]
    · rw [txLk_oth _ _ _ _ _ _ _ _ (by decide)]; simp [txLp, va_up, vp_updL]
    · rw [txLk_oth _ _ _ _ _ _ _ _ (by decide)]; simp [txLp, va_up, vp_updL]
    · rw [txLk_oth _ _ _ _ _ _ _ _ (by decide)]; simp [txLp, va_up, vp_updL]
    · rw [txLk_oth _ _ _ _ _ _ _ _ (by decide)]; simp [txLp, va_up, vp_updL]
    · obtain ⟨h5, h6, h7⟩ := txLk_567 g (txLp g (nbG g) (nchG g) (brgL L p oth o 6) x f) e x d f (txP5 g (nbG g) (nchG g) x f) (ncrG g) k hk
      have h4 : (txLp g (nbG g) (nchG g) (brgL L p oth o 6) x f) 4 = brgL L p oth o 6 4 := txLp_oth _ _ _ _ _ _ _ (by decide)
      rw [h4] at h6 h7
      refine ⟨?_, h5, ?_, ?_⟩
      · rw [txLk_oth _ _ _ _ _ _ _ _ (by decide), h4]; exact hb k (by omega)
      · rw [h6, hlef k (by omega)]; simp only [usdC, mayC, hb k (by omega)]
      · rw [h7, hlef (k + 1) (by omega)]
/-- a person alone; a couple -/
def aloV (g : Nat → Int32) (h : Nat → Int64) (p : Nat) (e d : Int32) : Int64 := txV g (fun k => h (6 * p + k)) e (e + g (64 + 3 * p + 1)) d 1
def joiE (g : Nat → Int32) (p q : Nat) : Int32 := g (64 + 3 * p + 0) + g (64 + 3 * q + 0)
def joiX (g : Nat → Int32) (p q : Nat) : Int32 := joiE g p q + g (64 + 3 * p + 1) + g (64 + 3 * q + 1)
def joiD (g : Nat → Int32) (p q : Nat) : Int32 := g (64 + 3 * p + 2) + g (64 + 3 * q + 2)
def joiV (g : Nat → Int32) (h : Nat → Int64) (p q : Nat) : Int64 := txV g (fun k => h (6 * p + k) + h (6 * q + k)) (joiE g p q) (joiX g p q) (joiD g p q) 2
def ownV (g : Nat → Int32) (h : Nat → Int64) (p : Nat) : Int64 := aloV g h p (g (64 + 3 * p + 0)) (g (64 + 3 * p + 2))
theorem Ct.weaken {D : DD} {l : Launch} {y : MethodName} {b : ByteArray} {L : Nat} {ret : Option FieldType} {f mc ms lo : Nat} {As : List Value} {H0 : Heap} {P P' : Option Value → Heap → Prop} {A : Nat → Prop} (h : Ct D l y b L ret f mc ms lo As H0 P A) (hw : ∀ r H, P r H → P' r H) : Ct D l y b L ret f mc ms lo As H0 P' A :=
  fun a1 a2 => MetFree.mono (h a1 a2) (fun _ _ h => h) (fun _ _ _ _ _ h => h) (fun a st o t _ ⟨⟨v, e, hp, hF⟩, k⟩ => ⟨⟨v, e, hw v t.heap hp, hF⟩, k⟩)
theorem Tc.weaken {D : DD} {l : Launch} {y : MethodName} {b : ByteArray} {Lm : Nat} {ret : Option FieldType} {f lo : Nat} {ad : Nat → Nat} {as : List Value} {I : TI} {L : TL} {C : TC} {P P' : Option Value → TI → TL → TC → Prop} (h : Tc D l y b Lm ret f lo ad as I L C P) (hw : ∀ r I' L' C', P r I' L' C' → P' r I' L' C') : Tc D l y b Lm ret f lo ad as I L C P' :=
  fun H0 h0 => (h H0 h0).weaken (fun r H ⟨I', L', C', hp, hH⟩ => ⟨I', L', C', hw r I' L' C' hp, hH⟩)
theorem per_in {p : Nat} (h : p < 6) : inB (nI p) 0 5 = true := by
  rcases (show p = 0 ∨ p = 1 ∨ p = 2 ∨ p = 3 ∨ p = 4 ∨ p = 5 by omega) with rfl | rfl | rfl | rfl | rfl | rfl <;> decide
theorem in_nat {x : Int32} {n : Nat} (hn : n < 2 ^ 31) (h : inB x 0 (nI n) = true) : ∃ j, j ≤ n ∧ x = nI j := by
  simp only [inB, Bool.and_eq_true, decide_eq_true_eq] at h
  refine nI_of2 (nI_toInt hn) h.1 ?_
  exact Int32.not_lt.mp h.2
theorem nat_in {j n : Nat} (hn : n < 2 ^ 31) (h : j ≤ n) : inB (nI j) 0 (nI n) = true := by
  simp only [inB, Bool.and_eq_true, decide_eq_true_eq]
  exact ⟨nI_pos (by omega), fun q => nI_nlt h hn q⟩
def txPn (g : Nat → Int32) (x f : Int32) (i : Nat) : Int64 := match i with
  | 0 => txP0 g x f | 1 => txP1 g x f | 2 => txP2 g (nbG g) x f | 3 => txP3 g x f | 4 => txP4 g (nbG g) x f | _ => txP5 g (nbG g) (nchG g) x f
theorem caseL.part {g : Nat → Int32} {br : Nat → Int64} {e x d f : Int32} {L : TL} (h : caseL g br e x d f L) {i : Nat} (hi : i < 6) : L 3 i = txPn g x f i := by
  obtain ⟨h0, h1, h2, h3, h4, h5, -⟩ := h
  rcases (show i = 0 ∨ i = 1 ∨ i = 2 ∨ i = 3 ∨ i = 4 ∨ i = 5 by omega) with rfl | rfl | rfl | rfl | rfl | rfl <;> simp [txPn, *]
def unuV (g : Nat → Int32) (L : TL) (k kd : Nat) : Int64 := if g (28 + 6 * k + 0) = nI kd then L 5 k + (if kd = 2 then L 4 k else 0) - L 6 k else 0
def tolV (g : Nat → Int32) (L : TL) (k pt : Nat) : Int64 := match pt with
  | 0 => L 5 k | 1 => L 6 k | 2 => unuV g L k 0 | 3 => unuV g L k 2 | _ => L 7 k
/-- a credit's part of a case -/
def lefV (g : Nat → Int32) (br : Nat → Int64) (e x d f : Int32) (k : Nat) : Int64 := lefC g br e x d f (txP5 g (nbG g) (nchG g) x f) k
def crpV (g : Nat → Int32) (br : Nat → Int64) (e x d f : Int32) (k pt : Nat) : Int64 := match pt with
  | 0 => valC g k e x d f
  | 1 => usdC g br k e x d f (lefV g br e x d f k)
  | 2 => if g (28 + 6 * k + 0) = nI 0 then valC g k e x d f + 0 - usdC g br k e x d f (lefV g br e x d f k) else 0
  | 3 => if g (28 + 6 * k + 0) = nI 2 then valC g k e x d f + br k - usdC g br k e x d f (lefV g br e x d f k) else 0
  | _ => lefV g br e x d f (k + 1)
theorem caseL.cred {g : Nat → Int32} {br : Nat → Int64} {e x d f : Int32} {L : TL} (h : caseL g br e x d f L) {k : Nat} (hk : k < ncrG g) (pt : Nat) : tolV g L k pt = crpV g br e x d f k pt := by
  obtain ⟨-, -, -, -, -, -, h⟩ := h
  obtain ⟨h4, h5, h6, h7⟩ := h k hk
  unfold tolV crpV unuV lefV
  split <;> simp [h4, h5, h6, h7]
def fiN (p q : Nat) : Nat := if q < p then q else p
def laN (p q : Nat) : Nat := if q < p then p else q
theorem fiN_lt {p q : Nat} (hp : p < 6) (hq : q < 6) : fiN p q < 6 ∧ laN p q < 6 := by unfold fiN laN; split <;> omega
theorem fiN_at {g : Nat → Int32} {p q : Nat} (h1 : g (82 + p) = nI q) (h2 : g (82 + q) = nI p) : g (82 + fiN p q) = nI (laN p q) := by unfold fiN laN; split <;> assumption
def sepS (g : Nat → Int32) (h : Nat → Int64) (a b i : Nat) : Int64 := aloV g h a (g (64 + 3 * a + 0)) (nI i) + aloV g h b (g (64 + 3 * b + 0)) (nI (dnG g a + dnG g b - i))
/-- the least of s 0 .. s n, and its first place -/
def apM (s : Nat → Int64) : Nat → Int64 × Nat
  | 0 => (s 0, 0)
  | i + 1 => if s (i + 1) < (apM s i).1 then (s (i + 1), i + 1) else apM s i
def apX (s : Nat → Int64) (C : TC) : Nat → Int64 × TC
  | 0 => (0, C)
  | i + 1 => if i = 0 ∨ s i < (apX s C i).1 then (s i, upC (apX s C i).2 21 (nI i)) else apX s C i
theorem upC_up (C : TC) (k : Nat) (x y : Int32) : upC (upC C k x) k y = upC C k y := by
  funext j; by_cases h : j = k <;> simp [upd, h]
theorem apX_eq (s : Nat → Int64) (C : TC) : ∀ n, apX s C (n + 1) = ((apM s n).1, upC C 21 (nI (apM s n).2)) := by
  intro n
  induction n with
  | zero => simp [apX, apM]
  | succ n ih =>
    rw [apX, ih, apM]
    by_cases h : s (n + 1) < (apM s n).1
    · simp [h, upC_up]
    · simp [h]
theorem apM_le (s : Nat → Int64) : ∀ n, (apM s n).2 ≤ n ∧ s (apM s n).2 = (apM s n).1 := by
  intro n
  induction n with
  | zero => simp [apM]
  | succ n ih =>
    rw [apM]
    split
    · exact ⟨Nat.le_refl _, rfl⟩
    · exact ⟨by omega, ih.2⟩
def sepV (g : Nat → Int32) (h : Nat → Int64) (p q : Nat) : Int64 := (apM (sepS g h (fiN p q) (laN p q)) (dnG g (fiN p q) + dnG g (laN p q))).1
def sepN (g : Nat → Int32) (h : Nat → Int64) (p q : Nat) : Nat := (apM (sepS g h (fiN p q) (laN p q)) (dnG g (fiN p q) + dnG g (laN p q))).2
def heV (t : Nat → Int32) (ln sp : Nat) : Int32 := if sp < ln then t sp else -1
def dgB (t : Nat → Int32) (ln sp : Nat) : Bool := inB (heV t ln sp) 48 57
def nuC (t : Nat → Int32) (ln : Nat) : Nat → Nat → Nat
  | 0, _ => 0
  | f + 1, sp => if dgB t ln sp = true then nuC t ln f (sp + 1) + 1 else 0
def nuA (t : Nat → Int32) (sp : Nat) : Nat → Int32
  | 0 => 0
  | n + 1 => 10 * nuA t sp n + t (sp + n) - 48
abbrev nuD (t : Nat → Int32) (ln sp : Nat) : Nat := nuC t ln 4 sp
abbrev PR : Type := Bool × Nat × Bool × (Nat → Int32)
def num1 (t : Nat → Int32) (ln : Nat) (at_ : Option Nat) (rb : Nat → Bool) (k sp : Nat) (od : Bool) (tr : Nat → Int32) : PR :=
  if 0 < k ∧ ¬ heV t ln sp = 44 then (false, sp, od, tr)
  else if nuD t ln (if k = 0 then sp else sp + 1) = 0 then (false, (if k = 0 then sp else sp + 1), od, tr)
  else (true, (if k = 0 then sp else sp + 1) + nuD t ln (if k = 0 then sp else sp + 1),
    (if rb k = true then od || decide (999 < nuA t (if k = 0 then sp else sp + 1) (nuD t ln (if k = 0 then sp else sp + 1))) else od),
    match at_ with
    | some a => upd tr (a + k) (nuA t (if k = 0 then sp else sp + 1) (nuD t ln (if k = 0 then sp else sp + 1)))
    | none => tr)
def nmR (t : Nat → Int32) (ln : Nat) (at_ : Option Nat) (rb : Nat → Bool) : Nat → Nat → Nat → Bool → (Nat → Int32) → PR
  | 0, _, sp, od, tr => (true, sp, od, tr)
  | m + 1, k, sp, od, tr =>
    match num1 t ln at_ rb k sp od tr with
    | (true, sp', od', tr') => nmR t ln at_ rb m (k + 1) sp' od' tr'
    | (false, r) => (false, r)
theorem dgB_lt {t : Nat → Int32} {ln sp : Nat} (h : dgB t ln sp = true) : sp < ln ∧ heV t ln sp = t sp := by
  unfold dgB heV at *
  split at h
  · exact ⟨by assumption, by rw [if_pos (by assumption)]⟩
  · exact absurd h (by decide)
theorem heV_lt {t : Nat → Int32} {ln sp : Nat} {c : Int32} (hc : ¬ c = -1) (h : heV t ln sp = c) : sp < ln := by
  unfold heV at h
  split at h
  · assumption
  · exact absurd h.symm hc
theorem nuC_le {t : Nat → Int32} {ln : Nat} : ∀ f sp, sp ≤ ln → sp + nuC t ln f sp ≤ ln ∧ nuC t ln f sp ≤ f := by
  intro f
  induction f with
  | zero => intro sp h; exact ⟨h, Nat.le_refl 0⟩
  | succ f ih =>
    intro sp h
    rw [nuC]
    split
    · next hd =>
      have h1 := (dgB_lt hd).1
      have := ih (sp + 1) h1
      omega
    · exact ⟨h, by omega⟩

theorem num1_le {t : Nat → Int32} {ln : Nat} {at_ : Option Nat} {rb : Nat → Bool} {k sp : Nat} {od : Bool} {tr : Nat → Int32} (h : sp ≤ ln) : sp ≤ (num1 t ln at_ rb k sp od tr).2.1 ∧ (num1 t ln at_ rb k sp od tr).2.1 ≤ ln := by
  unfold num1
  by_cases h1 : 0 < k ∧ ¬ heV t ln sp = 44
  · rw [if_pos h1]; exact ⟨Nat.le_refl _, h⟩
  · rw [if_neg h1]
    have h2 : sp ≤ (if k = 0 then sp else sp + 1) ∧ (if k = 0 then sp else sp + 1) ≤ ln := by
      split
      · exact ⟨Nat.le_refl _, h⟩
      · next hk =>
        have h3 : heV t ln sp = 44 := Classical.byContradiction (fun z => h1 ⟨by omega, z⟩)
        have := heV_lt (by decide) h3
        omega
    generalize (if k = 0 then sp else sp + 1) = s1 at h2 ⊢
    by_cases hd : nuD t ln s1 = 0
    · rw [if_pos hd]; exact h2
    · rw [if_neg hd]
      have := nuC_le (t := t) 4 s1 h2.2
      exact ⟨Nat.le_trans h2.1 (Nat.le_add_right _ _), this.1⟩
theorem nmR_le {t : Nat → Int32} {ln : Nat} {at_ : Option Nat} {rb : Nat → Bool} : ∀ (m k sp : Nat) (od : Bool) (tr : Nat → Int32), sp ≤ ln → sp ≤ (nmR t ln at_ rb m k sp od tr).2.1 ∧ (nmR t ln at_ rb m k sp od tr).2.1 ≤ ln := by
  intro m
  induction m with
  | zero => intro k sp od tr h; exact ⟨Nat.le_refl _, h⟩
  | succ m ih =>
    intro k sp od tr h
    have h1 := num1_le (t := t) (at_ := at_) (rb := rb) (k := k) (od := od) (tr := tr) h
    rw [nmR]
    generalize num1 t ln at_ rb k sp od tr = r at h1
    obtain ⟨b, s1, o1, t1⟩ := r
    cases b
    · exact h1
    · have := ih (k + 1) s1 o1 t1 h1.2
      exact ⟨Nat.le_trans h1.1 this.1, this.2⟩
def rb0 : Nat → Bool := fun _ => false
def rb4 : Nat → Bool := fun k => k == 2
def rb2 : Nat → Bool := fun k => k == 1
def rb10 : Nat → Bool := fun k => k == 1 || k == 3

def TT (tr : Nat → Int32) : Prop := (tr 18 = nI (nchG tr) ∧ nchG tr ≤ 4) ∧ (tr 27 = nI (ncrG tr) ∧ ncrG tr ≤ 6)
def chR (t : Nat → Int32) (ln sp : Nat) (od : Bool) (tr : Nat → Int32) : PR :=
  if nchG tr < 4 then
    match nmR t ln (some (19 + 2 * nchG tr)) rb0 2 0 sp od tr with
    | (true, s, o, u) => (true, s, o, upd u 18 (u 18 + 1))
    | (false, r) => (false, r)
  else
    match nmR t ln none rb0 2 0 sp od tr with
    | (true, s, _, u) => (true, s, true, upd u 18 (u 18 + 0))
    | (false, r) => (false, r)
def crU (u : Nat → Int32) (a : Nat) (kd : Int32) (e : Bool) : Nat → Int32 := upd (upd (upd u a kd) (a + 5) (zB e)) 27 (upd (upd u a kd) (a + 5) (zB e) 27 + 1)
def crR (t : Nat → Int32) (ln : Nat) (kd : Nat) (sp : Nat) (od : Bool) (tr : Nat → Int32) : PR :=
  if ncrG tr < 6 then
    match nmR t ln (some (28 + 6 * ncrG tr + 1)) rb10 4 0 sp od tr with
    | (true, s, o, u) => (true, (if heV t ln s = 42 then s + 1 else s), o, crU u (28 + 6 * ncrG tr) (nI kd) (decide (heV t ln s = 42)))
    | (false, r) => (false, r)
  else
    match nmR t ln none rb10 4 0 sp od tr with
    | (true, s, _, u) => (true, (if heV t ln s = 42 then s + 1 else s), true, u)
    | (false, r) => (false, r)
def bkO (od : Bool) (n : Nat) (v last : Int32) : Bool := od || decide (n = 6) || (if n = 0 then decide (¬ v = 0) else decide (v ≤ last))
def bkR (t : Nat → Int32) (ln : Nat) : Nat → Nat → Nat → Int32 → Bool → (Nat → Int32) → PR
  | 0, sp, _, _, od, tr => (false, sp, od, tr)
  | f + 1, sp, n, last, od, tr =>
    if nuD t ln sp = 0 then (false, sp, od, tr)
    else if ¬ heV t ln (sp + nuD t ln sp) = 58 then (false, sp + nuD t ln sp, od, tr)
    else if nuD t ln (sp + nuD t ln sp + 1) = 0 then (false, sp + nuD t ln sp + 1, od, tr)
    else if heV t ln (sp + nuD t ln sp + 1 + nuD t ln (sp + nuD t ln sp + 1)) = 44 then
      bkR t ln f (sp + nuD t ln sp + 1 + nuD t ln (sp + nuD t ln sp + 1) + 1) (if n < 6 then n + 1 else n) (nuA t sp (nuD t ln sp))
        (bkO od n (nuA t sp (nuD t ln sp)) last || decide (999 < nuA t (sp + nuD t ln sp + 1) (nuD t ln (sp + nuD t ln sp + 1))))
        (if n < 6 then upd (upd tr (1 + 2 * n) (nuA t sp (nuD t ln sp))) (1 + 2 * n + 1) (nuA t (sp + nuD t ln sp + 1) (nuD t ln (sp + nuD t ln sp + 1))) else tr)
    else (true, sp + nuD t ln sp + 1 + nuD t ln (sp + nuD t ln sp + 1),
        (bkO od n (nuA t sp (nuD t ln sp)) last || decide (999 < nuA t (sp + nuD t ln sp + 1) (nuD t ln (sp + nuD t ln sp + 1)))),
        upd (if n < 6 then upd (upd tr (1 + 2 * n) (nuA t sp (nuD t ln sp))) (1 + 2 * n + 1) (nuA t (sp + nuD t ln sp + 1) (nuD t ln (sp + nuD t ln sp + 1))) else tr) 0 (nI (if n < 6 then n + 1 else n)))
def itR (t : Nat → Int32) (ln sp : Nat) (od : Bool) (tr : Nat → Int32) : PR :=
  if heV t ln sp = 98 then bkR t ln (ln + 1) (sp + 1) 0 (-1) od tr
  else if heV t ln sp = 97 then nmR t ln (some 13) rb4 3 0 (sp + 1) od tr
  else if heV t ln sp = 109 then nmR t ln (some 16) rb2 2 0 (sp + 1) od tr
  else if heV t ln sp = 99 then chR t ln (sp + 1) od tr
  else if heV t ln sp = 110 then crR t ln 0 (sp + 1) od tr
  else if heV t ln sp = 114 then crR t ln 1 (sp + 1) od tr
  else if heV t ln sp = 107 then crR t ln 2 (sp + 1) od tr
  else (false, sp, od, tr)
def isR (t : Nat → Int32) (ln : Nat) : Nat → Nat → Nat → Bool → (Nat → Int32) → PR × Nat
  | 0, n, sp, od, tr => ((false, sp, od, tr), n)
  | f + 1, n, sp, od, tr =>
    match itR t ln sp od tr with
    | (true, s, o, u) => if heV t ln s = 59 then isR t ln f (n + 1) (s + 1) o u else ((decide (¬ s < ln), s, o, u), n + 1)
    | (false, r) => ((false, r), n)

theorem PR.no {R r : PR} (h : R = (false, r.2)) : R.1 = false := by rw [h]
theorem match_le {R : PR} {f : Nat → Bool → (Nat → Int32) → PR} {lo ln : Nat} (h : lo ≤ R.2.1 ∧ R.2.1 ≤ ln) (hf : ∀ s o u, lo ≤ s → s ≤ ln → R.1 = true → lo ≤ (f s o u).2.1 ∧ (f s o u).2.1 ≤ ln) :
    lo ≤ (match R with | (true, s, o, u) => f s o u | (false, r) => (false, r)).2.1 ∧ (match R with | (true, s, o, u) => f s o u | (false, r) => (false, r)).2.1 ≤ ln := by
  obtain ⟨b, s, o, u⟩ := R
  cases b
  · exact h
  · exact hf s o u h.1 h.2 rfl
theorem chR_le {t : Nat → Int32} {ln sp : Nat} {od : Bool} {tr : Nat → Int32} (h : sp ≤ ln) : sp ≤ (chR t ln sp od tr).2.1 ∧ (chR t ln sp od tr).2.1 ≤ ln := by
  unfold chR
  split
  · exact match_le (f := fun s o u => (true, s, o, upd u 18 (u 18 + 1))) (nmR_le _ _ _ _ _ h) (fun s o u h1 h2 _ => ⟨h1, h2⟩)
  · exact match_le (f := fun s o u => (true, s, true, upd u 18 (u 18 + 0))) (nmR_le _ _ _ _ _ h) (fun s o u h1 h2 _ => ⟨h1, h2⟩)
theorem star_le {t : Nat → Int32} {ln s lo : Nat} (h1 : lo ≤ s) (h2 : s ≤ ln) : lo ≤ (if heV t ln s = 42 then s + 1 else s) ∧ (if heV t ln s = 42 then s + 1 else s) ≤ ln := by
  split
  · next h => have := heV_lt (by decide) h; omega
  · exact ⟨h1, h2⟩
theorem crR_le {t : Nat → Int32} {ln kd sp : Nat} {od : Bool} {tr : Nat → Int32} (h : sp ≤ ln) : sp ≤ (crR t ln kd sp od tr).2.1 ∧ (crR t ln kd sp od tr).2.1 ≤ ln := by
  unfold crR
  split
  · exact match_le (f := fun s o u => (true, (if heV t ln s = 42 then s + 1 else s), o, crU u (28 + 6 * ncrG tr) (nI kd) (decide (heV t ln s = 42)))) (nmR_le _ _ _ _ _ h) (fun s o u h1 h2 _ => star_le h1 h2)
  · exact match_le (f := fun s o u => (true, (if heV t ln s = 42 then s + 1 else s), true, u)) (nmR_le _ _ _ _ _ h) (fun s o u h1 h2 _ => star_le h1 h2)
theorem bkR_le {t : Nat → Int32} {ln : Nat} : ∀ (f sp n : Nat) (last : Int32) (od : Bool) (tr : Nat → Int32), sp ≤ ln → sp ≤ (bkR t ln f sp n last od tr).2.1 ∧ (bkR t ln f sp n last od tr).2.1 ≤ ln := by
  intro f
  induction f with
  | zero => intro sp n last od tr h; exact ⟨Nat.le_refl _, h⟩
  | succ f ih =>
    intro sp n last od tr h
    have h1 := (nuC_le (t := t) (ln := ln) 4 sp h).1
    rw [bkR]
    by_cases a1 : nuD t ln sp = 0
    · rw [if_pos a1]; exact ⟨Nat.le_refl _, h⟩
    · rw [if_neg a1]
      by_cases a2 : heV t ln (sp + nuD t ln sp) = 58
      · rw [if_neg (fun z => z a2)]
        have h2 := heV_lt (by decide) a2
        have h3 := (nuC_le (t := t) (ln := ln) 4 (sp + nuD t ln sp + 1) h2).1
        by_cases a3 : nuD t ln (sp + nuD t ln sp + 1) = 0
        · rw [if_pos a3]; exact ⟨by show sp ≤ sp + nuD t ln sp + 1; omega, h2⟩
        · rw [if_neg a3]
          by_cases a4 : heV t ln (sp + nuD t ln sp + 1 + nuD t ln (sp + nuD t ln sp + 1)) = 44
          · rw [if_pos a4]
            have h4 := heV_lt (by decide) a4
            have := ih (sp + nuD t ln sp + 1 + nuD t ln (sp + nuD t ln sp + 1) + 1) (if n < 6 then n + 1 else n) (nuA t sp (nuD t ln sp))
              (bkO od n (nuA t sp (nuD t ln sp)) last || decide (999 < nuA t (sp + nuD t ln sp + 1) (nuD t ln (sp + nuD t ln sp + 1))))
              (if n < 6 then upd (upd tr (1 + 2 * n) (nuA t sp (nuD t ln sp))) (1 + 2 * n + 1) (nuA t (sp + nuD t ln sp + 1) (nuD t ln (sp + nuD t ln sp + 1))) else tr) h4
            exact ⟨by omega, this.2⟩
          · rw [if_neg a4]; exact ⟨by show sp ≤ sp + nuD t ln sp + 1 + nuD t ln (sp + nuD t ln sp + 1); omega, h3⟩
      · rw [if_pos a2]; exact ⟨by show sp ≤ sp + nuD t ln sp; omega, h1⟩

theorem PR.ok {R : PR} {sp : Nat} {od : Bool} {tr : Nat → Int32} (h : R.1 = true) (hp : sp = R.2.1) (hk : R.1 = true → od = R.2.2.1 ∧ tr = R.2.2.2) : R = (true, sp, od, tr) := by
  obtain ⟨b, s, o, u⟩ := R
  obtain ⟨h1, h2⟩ := hk h
  subst hp; subst h1; subst h2
  simp only at h
  subst h; rfl
theorem num1_oth {t : Nat → Int32} {ln : Nat} {at_ : Option Nat} {rb : Nat → Bool} {k sp : Nat} {od : Bool} {tr : Nat → Int32} {x : Nat} (hx : ∀ a, at_ = some a → x ≠ a + k) : (num1 t ln at_ rb k sp od tr).2.2.2 x = tr x := by
  unfold num1
  by_cases h1 : 0 < k ∧ ¬ heV t ln sp = 44
  · rw [if_pos h1]
  · rw [if_neg h1]
    by_cases h2 : nuD t ln (if k = 0 then sp else sp + 1) = 0
    · rw [if_pos h2]
    · rw [if_neg h2]
      cases at_ with
      | none => rfl
      | some a => simp [upd, hx a rfl]
theorem nmR_oth {t : Nat → Int32} {ln : Nat} {at_ : Option Nat} {rb : Nat → Bool} {x : Nat} : ∀ (m k sp : Nat) (od : Bool) (tr : Nat → Int32), (∀ a, at_ = some a → ¬ (a + k ≤ x ∧ x < a + k + m)) → (nmR t ln at_ rb m k sp od tr).2.2.2 x = tr x := by
  intro m
  induction m with
  | zero => intro k sp od tr h; rfl
  | succ m ih =>
    intro k sp od tr h
    have h1 := num1_oth (t := t) (ln := ln) (at_ := at_) (rb := rb) (k := k) (sp := sp) (od := od) (tr := tr) (x := x) (fun a ha => by have := h a ha; omega)
    rw [nmR]
    generalize num1 t ln at_ rb k sp od tr = r at h1
    obtain ⟨b, s1, o1, t1⟩ := r
    cases b
    · exact h1
    · exact (ih (k + 1) s1 o1 t1 (fun a ha => by have := h a ha; omega)).trans h1
theorem TT.of {tr u : Nat → Int32} (h : TT tr) (h1 : u 18 = tr 18) (h2 : u 27 = tr 27) : TT u := by
  unfold TT nchG ncrG at *; rw [h1, h2]; exact h
theorem num1_gt {t : Nat → Int32} {ln : Nat} {at_ : Option Nat} {rb : Nat → Bool} {k sp : Nat} {od : Bool} {tr : Nat → Int32} (h : (num1 t ln at_ rb k sp od tr).1 = true) : sp < (num1 t ln at_ rb k sp od tr).2.1 := by
  unfold num1 at *
  by_cases h1 : 0 < k ∧ ¬ heV t ln sp = 44
  · rw [if_pos h1] at h; cases h
  · rw [if_neg h1] at h ⊢
    by_cases h2 : nuD t ln (if k = 0 then sp else sp + 1) = 0
    · rw [if_pos h2] at h; cases h
    · rw [if_neg h2]
      show sp < _ + _
      by_cases hk : k = 0
      · simp only [hk, if_pos] at h2 ⊢; omega
      · simp only [hk, if_false] at h2 ⊢; omega
theorem itR_le {t : Nat → Int32} {ln sp : Nat} {od : Bool} {tr : Nat → Int32} (h : sp ≤ ln) : sp ≤ (itR t ln sp od tr).2.1 ∧ (itR t ln sp od tr).2.1 ≤ ln ∧ ((itR t ln sp od tr).1 = true → sp < (itR t ln sp od tr).2.1) := by
  have up : ∀ {R : PR}, sp + 1 ≤ R.2.1 ∧ R.2.1 ≤ ln → sp ≤ R.2.1 ∧ R.2.1 ≤ ln ∧ (R.1 = true → sp < R.2.1) := fun h => ⟨by omega, h.2, fun _ => by omega⟩
  unfold itR
  by_cases h1 : heV t ln sp = 98
  · rw [if_pos h1]; exact up (bkR_le _ _ _ _ _ _ (heV_lt (by decide) h1))
  · rw [if_neg h1]
    by_cases h2 : heV t ln sp = 97
    · rw [if_pos h2]; exact up (nmR_le _ _ _ _ _ (heV_lt (by decide) h2))
    · rw [if_neg h2]
      by_cases h3 : heV t ln sp = 109
      · rw [if_pos h3]; exact up (nmR_le _ _ _ _ _ (heV_lt (by decide) h3))
      · rw [if_neg h3]
        by_cases h4 : heV t ln sp = 99
        · rw [if_pos h4]; exact up (chR_le (heV_lt (by decide) h4))
        · rw [if_neg h4]
          by_cases h5 : heV t ln sp = 110
          · rw [if_pos h5]; exact up (crR_le (heV_lt (by decide) h5))
          · rw [if_neg h5]
            by_cases h6 : heV t ln sp = 114
            · rw [if_pos h6]; exact up (crR_le (heV_lt (by decide) h6))
            · rw [if_neg h6]
              by_cases h7 : heV t ln sp = 107
              · rw [if_pos h7]; exact up (crR_le (heV_lt (by decide) h7))
              · rw [if_neg h7]; exact ⟨Nat.le_refl _, h, fun z => by cases z⟩
theorem chR_TT {t : Nat → Int32} {ln sp : Nat} {od : Bool} {tr : Nat → Int32} (h : TT tr) (ho : (chR t ln sp od tr).1 = true) : TT (chR t ln sp od tr).2.2.2 := by
  unfold chR at *
  by_cases hm : nchG tr < 4
  · rw [if_pos hm] at ho ⊢
    have e18 := nmR_oth (t := t) (ln := ln) (at_ := some (19 + 2 * nchG tr)) (rb := rb0) (x := 18) 2 0 sp od tr (fun a ha => by cases ha; omega)
    have e27 := nmR_oth (t := t) (ln := ln) (at_ := some (19 + 2 * nchG tr)) (rb := rb0) (x := 27) 2 0 sp od tr (fun a ha => by cases ha; omega)
    generalize nmR t ln (some (19 + 2 * nchG tr)) rb0 2 0 sp od tr = r at ho e18 e27 ⊢
    obtain ⟨b, s, o, u⟩ := r
    cases b
    · cases ho
    · simp only at e18 e27 ⊢
      have e : upd u 18 (u 18 + 1) 18 = nI (nchG tr + 1) := by simp only [upd, if_pos]; rw [e18, h.1.1, nI_1]
      have hn : nchG (upd u 18 (u 18 + 1)) = nchG tr + 1 := by unfold nchG at e ⊢; rw [e, nI_clamp (by have := h.1.2; unfold nchG at this; omega)]
      have hr : ncrG (upd u 18 (u 18 + 1)) = ncrG tr := by unfold ncrG; simp [upd, e27]
      refine ⟨⟨by rw [hn]; exact e, by omega⟩, ⟨?_, by rw [hr]; exact h.2.2⟩⟩
      rw [hr]; simp [upd, e27]; exact h.2.1
  · rw [if_neg hm] at ho ⊢
    have e18 := nmR_oth (t := t) (ln := ln) (at_ := none) (rb := rb0) (x := 18) 2 0 sp od tr (fun a ha => by cases ha)
    have e27 := nmR_oth (t := t) (ln := ln) (at_ := none) (rb := rb0) (x := 27) 2 0 sp od tr (fun a ha => by cases ha)
    generalize nmR t ln none rb0 2 0 sp od tr = r at ho e18 e27 ⊢
    obtain ⟨b, s, o, u⟩ := r
    cases b
    · cases ho
    · exact h.of (by simp [upd]; exact e18) (by simp [upd]; exact e27)
theorem crR_TT {t : Nat → Int32} {ln kd sp : Nat} {od : Bool} {tr : Nat → Int32} (h : TT tr) (ho : (crR t ln kd sp od tr).1 = true) : TT (crR t ln kd sp od tr).2.2.2 := by
  unfold crR at *
  by_cases hm : ncrG tr < 6
  · rw [if_pos hm] at ho ⊢
    have e18 := nmR_oth (t := t) (ln := ln) (at_ := some (28 + 6 * ncrG tr + 1)) (rb := rb10) (x := 18) 4 0 sp od tr (fun a ha => by cases ha; omega)
    have e27 := nmR_oth (t := t) (ln := ln) (at_ := some (28 + 6 * ncrG tr + 1)) (rb := rb10) (x := 27) 4 0 sp od tr (fun a ha => by cases ha; omega)
    generalize nmR t ln (some (28 + 6 * ncrG tr + 1)) rb10 4 0 sp od tr = r at ho e18 e27 ⊢
    obtain ⟨b, s, o, u⟩ := r
    cases b
    · cases ho
    · simp only at e18 e27 ⊢
      generalize hb : decide (heV t ln s = 42) = bb
      have e0 : upd (upd u (28 + 6 * ncrG tr) (nI kd)) (28 + 6 * ncrG tr + 5) (zB bb) 27 = u 27 := by simp only [upd]; rw [if_neg (by omega), if_neg (by omega)]
      have e : crU u (28 + 6 * ncrG tr) (nI kd) bb 27 = nI (ncrG tr + 1) := by
        unfold crU; rw [e0]; simp only [upd, if_pos]; rw [e27, h.2.1, nI_1]
      have e1 : crU u (28 + 6 * ncrG tr) (nI kd) bb 18 = tr 18 := by
        unfold crU; simp only [upd]; rw [if_neg (by omega), if_neg (by omega), if_neg (by omega)]; exact e18
      have hn : ncrG (crU u (28 + 6 * ncrG tr) (nI kd) bb) = ncrG tr + 1 := by
        have := h.2.2
        generalize crU u (28 + 6 * ncrG tr) (nI kd) bb = w at e
        unfold ncrG at e this ⊢; rw [e, nI_clamp (by omega)]
      have hr : nchG (crU u (28 + 6 * ncrG tr) (nI kd) bb) = nchG tr := by unfold nchG; rw [e1]
      exact ⟨⟨by rw [hr, e1]; exact h.1.1, by rw [hr]; exact h.1.2⟩, ⟨by rw [hn]; exact e, by rw [hn]; omega⟩⟩
  · rw [if_neg hm] at ho ⊢
    have e18 := nmR_oth (t := t) (ln := ln) (at_ := none) (rb := rb10) (x := 18) 4 0 sp od tr (fun a ha => by cases ha)
    have e27 := nmR_oth (t := t) (ln := ln) (at_ := none) (rb := rb10) (x := 27) 4 0 sp od tr (fun a ha => by cases ha)
    generalize nmR t ln none rb10 4 0 sp od tr = r at ho e18 e27 ⊢
    obtain ⟨b, s, o, u⟩ := r
    cases b
    · cases ho
    · exact h.of e18 e27
theorem bkR_oth {t : Nat → Int32} {ln x : Nat} (hx : 13 ≤ x) : ∀ (f sp n : Nat) (last : Int32) (od : Bool) (tr : Nat → Int32), (bkR t ln f sp n last od tr).2.2.2 x = tr x := by
  intro f
  induction f with
  | zero => intro sp n last od tr; rfl
  | succ f ih =>
    intro sp n last od tr
    have hu : ∀ (n : Nat) (v w : Int32), (if n < 6 then upd (upd tr (1 + 2 * n) v) (1 + 2 * n + 1) w else tr) x = tr x := by
      intro n v w
      split
      · simp only [upd]; rw [if_neg (by omega), if_neg (by omega)]
      · rfl
    rw [bkR]
    split
    · rfl
    · split
      · rfl
      · split
        · rfl
        · split
          · rw [ih, hu]
          · show upd _ 0 _ x = _
            simp only [upd]; rw [if_neg (by omega)]; exact hu _ _ _
theorem itR_TT {t : Nat → Int32} {ln sp : Nat} {od : Bool} {tr : Nat → Int32} (h : TT tr) (ho : (itR t ln sp od tr).1 = true) : TT (itR t ln sp od tr).2.2.2 := by
  unfold itR at *
  by_cases h1 : heV t ln sp = 98
  · rw [if_pos h1]; exact h.of (bkR_oth (by omega) _ _ _ _ _ _) (bkR_oth (by omega) _ _ _ _ _ _)
  · rw [if_neg h1] at ho ⊢
    by_cases h2 : heV t ln sp = 97
    · rw [if_pos h2]; exact h.of (nmR_oth _ _ _ _ _ (fun a ha => by cases ha; omega)) (nmR_oth _ _ _ _ _ (fun a ha => by cases ha; omega))
    · rw [if_neg h2] at ho ⊢
      by_cases h3 : heV t ln sp = 109
      · rw [if_pos h3]; exact h.of (nmR_oth _ _ _ _ _ (fun a ha => by cases ha; omega)) (nmR_oth _ _ _ _ _ (fun a ha => by cases ha; omega))
      · rw [if_neg h3] at ho ⊢
        by_cases h4 : heV t ln sp = 99
        · rw [if_pos h4] at ho ⊢; exact chR_TT h ho
        · rw [if_neg h4] at ho ⊢
          by_cases h5 : heV t ln sp = 110
          · rw [if_pos h5] at ho ⊢; exact crR_TT h ho
          · rw [if_neg h5] at ho ⊢
            by_cases h6 : heV t ln sp = 114
            · rw [if_pos h6] at ho ⊢; exact crR_TT h ho
            · rw [if_neg h6] at ho ⊢
              by_cases h7 : heV t ln sp = 107
              · rw [if_pos h7] at ho ⊢; exact crR_TT h ho
              · rw [if_neg h7] at ho; cases ho
theorem isR_le {t : Nat → Int32} {ln : Nat} : ∀ (f n sp : Nat) (od : Bool) (tr : Nat → Int32), sp ≤ ln → (isR t ln f n sp od tr).1.2.1 ≤ ln ∧ (isR t ln f n sp od tr).2 ≤ n + f := by
  intro f
  induction f with
  | zero => intro n sp od tr h; exact ⟨h, Nat.le_refl _⟩
  | succ f ih =>
    intro n sp od tr h
    have h1 := (itR_le (t := t) (od := od) (tr := tr) h).2.1
    rw [isR]
    generalize itR t ln sp od tr = r at h1
    obtain ⟨b, s, o, u⟩ := r
    cases b
    · exact ⟨h1, by show n ≤ _; omega⟩
    · simp only
      split
      · next h59 => have := ih (n + 1) (s + 1) o u (heV_lt (by decide) h59); exact ⟨this.1, by omega⟩
      · exact ⟨h1, by show n + 1 ≤ _; omega⟩
theorem isR_TT {t : Nat → Int32} {ln : Nat} : ∀ (f n sp : Nat) (od : Bool) (tr : Nat → Int32), TT tr → (isR t ln f n sp od tr).1.1 = true → TT (isR t ln f n sp od tr).1.2.2.2 := by
  intro f
  induction f with
  | zero => intro n sp od tr h ho; cases ho
  | succ f ih =>
    intro n sp od tr h ho
    have h1 := itR_TT (t := t) (ln := ln) (sp := sp) (od := od) h
    rw [isR] at ho ⊢
    generalize itR t ln sp od tr = r at h1 ho ⊢
    obtain ⟨b, s, o, u⟩ := r
    cases b
    · cases ho
    · simp only at ho h1 ⊢
      split at ho
      · next h59 => rw [if_pos h59]; exact ih (n + 1) (s + 1) o u (h1 trivial) ho
      · next h59 => rw [if_neg h59]; exact h1 trivial
def okD : FP.Core.Datum → Prop
  | .nan => False
  | .inf _ => True
  | .fin _ c q => c < 2 ^ 53 ∧ q ≤ 971
theorem okD_settle {s : Bool} {c : Nat} {q : Int} : okD (FP.Core.settle FP.Core.b64 s c q) := by
  unfold FP.Core.settle FP.Core.bound
  have h1 : FP.Core.b64.qmax = 971 := by decide
  have h2 : FP.Core.b64.tails = 2 ^ 52 := by decide
  have h3 : FP.Core.b64.p = 53 := rfl
  rw [h1, h2, h3]
  split <;> split
  · exact ⟨by assumption, by assumption⟩
  · exact trivial
  · exact ⟨by decide, by assumption⟩
  · exact trivial
theorem okD_ratio {s : Bool} {a b : Nat} {e : Int} : okD (FP.Core.roundRatio FP.Core.b64 s a b e) := by
  unfold FP.Core.roundRatio
  split
  · exact ⟨by decide, by decide⟩
  · exact okD_settle
theorem asm_eq (s : Bool) (e t : Nat) : FP.Core.assemble FP.Core.b64 s e t = (s.toNat * 2048 + e) * 2 ^ 52 + t := by
  show (s.toNat * 2 ^ 11 + e) * 2 ^ (53 - 1) + t = _
  rfl
theorem enc_ok {d : FP.Core.Datum} (h : okD d) : FP.Core.encode FP.Core.b64 d < 2 ^ 64 ∧ FP.Core.encode FP.Core.b64 d % 2 ^ 63 ≤ 2047 * 2 ^ 52 := by
  have ht : FP.Core.b64.tails = 2 ^ 52 := by decide
  have he : FP.Core.b64.exps = 2048 := by decide
  have hq : FP.Core.b64.qmin = -1074 := by decide
  cases d with
  | nan => exact absurd h id
  | inf s =>
    show FP.Core.assemble FP.Core.b64 s (FP.Core.b64.exps - 1) 0 < _ ∧ FP.Core.assemble FP.Core.b64 s (FP.Core.b64.exps - 1) 0 % _ ≤ _
    rw [asm_eq, he]
    cases s <;> decide
  | fin s c q =>
    obtain ⟨h1, h2⟩ := h
    have hs : s.toNat ≤ 1 := by cases s <;> decide
    show (if c < FP.Core.b64.tails then _ else _) < _ ∧ (if c < FP.Core.b64.tails then _ else _) % _ ≤ _
    rw [ht]
    split
    · rw [asm_eq]; omega
    · rw [asm_eq, hq]
      have : (q - -1074).toNat ≤ 2045 := by omega
      generalize (q - -1074).toNat = m at this
      omega
theorem val_ok {n : Nat} (h : n % 2 ^ 63 ≤ 2047 * 2 ^ 52) : FP.Core.decode FP.Core.b64 n ≠ .nan := by
  have ht : FP.Core.b64.tails = 2 ^ 52 := by decide
  have he : FP.Core.b64.exps = 2048 := by decide
  unfold FP.Core.decode FP.Core.fieldE FP.Core.fieldT
  rw [ht, he]
  split
  · rename_i c
    rw [if_pos (by omega)]
    intro z; cases z
  · split <;> (intro z; cases z)
theorem dec_nz {s : Bool} {c : Nat} {q : Int} (h1 : c < 2 ^ 53) (h2 : q ≤ 971) (h3 : c ≠ 0) : ∃ t d r, FP.Core.decode FP.Core.b64 (FP.Core.encode FP.Core.b64 (.fin s c q)) = .fin t d r ∧ d ≠ 0 := by
  have ht : FP.Core.b64.tails = 2 ^ 52 := by decide
  have he : FP.Core.b64.exps = 2048 := by decide
  have hq : FP.Core.b64.qmin = -1074 := by decide
  have hs : s.toNat ≤ 1 := by cases s <;> decide
  have e : ∃ m u, FP.Core.encode FP.Core.b64 (.fin s c q) = (s.toNat * 2048 + m) * 2 ^ 52 + u ∧ u < 2 ^ 52 ∧ m ≤ 2046 ∧ (m = 0 → u ≠ 0) := by
    show ∃ m u, (if c < FP.Core.b64.tails then _ else _) = _ ∧ _
    rw [ht]
    split
    · exact ⟨0, c, asm_eq _ _ _, by assumption, by decide, fun _ => h3⟩
    · refine ⟨_, _, asm_eq _ _ _, by omega, by rw [hq]; omega, fun z => by omega⟩
  obtain ⟨m, u, e, h4, h5, h6⟩ := e
  rw [e]
  unfold FP.Core.decode FP.Core.fieldE FP.Core.fieldT
  rw [ht, he]
  have f1 : ((s.toNat * 2048 + m) * 2 ^ 52 + u) / 2 ^ 52 % 2048 = m := by omega
  have f2 : ((s.toNat * 2048 + m) * 2 ^ 52 + u) % 2 ^ 52 = u := by omega
  rw [f1, f2, if_neg (by omega)]
  split
  · rename_i z; exact ⟨_, _, _, rfl, h6 z⟩
  · exact ⟨_, _, _, rfl, by omega⟩
theorem round_nz {i : Int} (h0 : i ≠ 0) (h1 : i.natAbs ≤ 2 ^ 51) : ∃ s c q, FP.Core.round FP.Core.b64 (FP.Core.ofInt i) = .fin s c q ∧ c < 2 ^ 53 ∧ q ≤ 971 ∧ c ≠ 0 := by
  show ∃ s c q, FP.Core.roundRatio FP.Core.b64 (decide (i < 0)) i.natAbs 1 0 = _ ∧ _
  generalize decide (i < 0) = s
  have hn : 1 ≤ i.natAbs := by omega
  generalize i.natAbs = n at h1 hn
  unfold FP.Core.roundRatio
  rw [if_neg (by omega)]
  unfold FP.Core.roundAt
  have hl : FP.Core.leading n 1 ≤ 51 := by
    have : n.log2 < 52 := (Nat.log2_lt (by omega)).mpr (by omega)
    unfold FP.Core.leading
    have e1 : Nat.log2 1 = 0 := by decide
    simp only [e1]
    split <;> omega
  have hq : FP.Core.quantum FP.Core.b64 n 1 0 ≤ -1 := by
    unfold FP.Core.quantum
    have hm : FP.Core.b64.qmin = -1074 := by decide
    have h3 : (FP.Core.b64.p : Int) = 53 := rfl
    rw [hm, h3]
    omega
  generalize FP.Core.quantum FP.Core.b64 n 1 0 = q at hq
  have hd : FP.Core.unitsDen 1 0 q = 1 := by
    unfold FP.Core.unitsDen
    rw [show (q - 0).toNat = 0 by omega]
  have hu : 1 ≤ FP.Core.unitsNum n 0 q := by
    unfold FP.Core.unitsNum
    exact Nat.mul_pos hn (Nat.two_pow_pos _)
  rw [hd]
  generalize FP.Core.unitsNum n 0 q = u at hu
  have hnr : FP.Core.nearest u 1 = u := by
    unfold FP.Core.nearest
    rw [Nat.mod_one, if_pos (by decide), Nat.div_one]
  rw [hnr]
  unfold FP.Core.settle FP.Core.bound
  have g1 : FP.Core.b64.qmax = 971 := by decide
  have g2 : FP.Core.b64.tails = 2 ^ 52 := by decide
  have g3 : FP.Core.b64.p = 53 := rfl
  rw [g1, g2, g3]
  split
  · rw [if_pos (by omega)]; exact ⟨_, _, _, rfl, by assumption, by omega, by omega⟩
  · rw [if_pos (by omega)]; exact ⟨_, _, _, rfl, by decide, by omega, by decide⟩
theorem okD_round {i : Int} : okD (FP.Core.round FP.Core.b64 (FP.Core.ofInt i)) := okD_ratio
theorem l2d_nat (a : Int64) : (FP.Core.l2d a).toNat = FP.Core.encode FP.Core.b64 (FP.Core.round FP.Core.b64 (FP.Core.ofInt a.toInt)) := by
  show (UInt64.ofNat _).toNat = _
  rw [UInt64.toNat_ofNat_of_lt']
  · rfl
  · exact (enc_ok okD_round).1
theorem mil_bd {x : Int32} (h : ¬ x = 0) : ((1000000 : Int64) * x.toInt64).toInt ≠ 0 ∧ ((1000000 : Int64) * x.toInt64).toInt.natAbs ≤ 2 ^ 51 := by
  have h1 := x.toInt_lt
  have h2 := x.le_toInt
  have h3 : x.toInt ≠ 0 := fun z => h (Int32.toInt_inj.mp (by rw [z]; decide))
  have e : ((1000000 : Int64) * x.toInt64).toInt = 1000000 * x.toInt := by
    rw [Int64.toInt_mul, Int32.toInt_toInt64, show (1000000 : Int64).toInt = 1000000 by decide, Int.bmod_eq_of_le (by omega) (by omega)]
  rw [e]
  exact ⟨by omega, by omega⟩
