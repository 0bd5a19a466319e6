set_option maxHeartbeats 2000000 in
theorem cs_ntz_0 (D : DD) (l : Launch) (x : Int32) (hy : (x ^^^ (-1)) &&& (x - 1) = nI 0)  : Cs D l yJ28_numberOfTrailingZeros cJ28_numberOfTrailingZeros 2 (some .int) 0 0 [.int x] (.int (nI 0)) := by
  refine Cs.of (by decide) (Nat.le_of_ble_eq_true rfl) (fun s H0 A J hJ hR => ?_)
  have hp := hJ.pu H0 0 0
  show J H0 0 0 0 [] [(0, .int x)]
  refine r_iload_n 1 0 hp dJ28_numberOfTrailingZeros_0 rfl rfl ?_
  refine r_iconst 2 (-1) hp dJ28_numberOfTrailingZeros_1 (by decide) rfl ?_
  refine r_ixor 3 hp dJ28_numberOfTrailingZeros_2 rfl ?_
  refine r_iload_n 4 0 hp dJ28_numberOfTrailingZeros_3 rfl rfl ?_
  refine r_iconst 5 1 hp dJ28_numberOfTrailingZeros_4 (by decide) rfl ?_
  refine r_isub 6 hp dJ28_numberOfTrailingZeros_5 rfl ?_
  refine r_iand 7 hp dJ28_numberOfTrailingZeros_6 rfl ?_
  refine r_eqi (nI 0) (hy) ?_
  refine r_istore_n 8 [(0, .int (nI 0))] hp dJ28_numberOfTrailingZeros_7 rfl (by decide) rfl rfl ?_
  refine r_iload_n 9 0 hp dJ28_numberOfTrailingZeros_8 rfl rfl ?_
  refine r_if_gt 12 17 hp dJ28_numberOfTrailingZeros_9 (by decide) (fun c => absurd c (by decide)) rfl (fun _ => ?_)
  refine r_iload_n 13 0 hp dJ28_numberOfTrailingZeros_12 rfl rfl ?_
  refine r_bipush 15 32 hp dJ28_numberOfTrailingZeros_13 (by decide) rfl ?_
  refine r_iand 16 hp dJ28_numberOfTrailingZeros_15 rfl ?_
  refine r_eqi 0 (by decide) ?_
  exact hR.1 16 _ _ _ rfl rfl dJ28_numberOfTrailingZeros_16 rfl
set_option maxHeartbeats 2000000 in
theorem cs_ntz_1 (D : DD) (l : Launch) (x : Int32) (hy : (x ^^^ (-1)) &&& (x - 1) = nI 1)  : Cs D l yJ28_numberOfTrailingZeros cJ28_numberOfTrailingZeros 2 (some .int) 0 0 [.int x] (.int (nI 1)) := by
  refine Cs.of (by decide) (Nat.le_of_ble_eq_true rfl) (fun s H0 A J hJ hR => ?_)
  have hp := hJ.pu H0 0 0
  show J H0 0 0 0 [] [(0, .int x)]
  refine r_iload_n 1 0 hp dJ28_numberOfTrailingZeros_0 rfl rfl ?_
  refine r_iconst 2 (-1) hp dJ28_numberOfTrailingZeros_1 (by decide) rfl ?_
  refine r_ixor 3 hp dJ28_numberOfTrailingZeros_2 rfl ?_
  refine r_iload_n 4 0 hp dJ28_numberOfTrailingZeros_3 rfl rfl ?_
  refine r_iconst 5 1 hp dJ28_numberOfTrailingZeros_4 (by decide) rfl ?_
  refine r_isub 6 hp dJ28_numberOfTrailingZeros_5 rfl ?_
  refine r_iand 7 hp dJ28_numberOfTrailingZeros_6 rfl ?_
  refine r_eqi (nI 1) (hy) ?_
  refine r_istore_n 8 [(0, .int (nI 1))] hp dJ28_numberOfTrailingZeros_7 rfl (by decide) rfl rfl ?_
  refine r_iload_n 9 0 hp dJ28_numberOfTrailingZeros_8 rfl rfl ?_
  refine r_if_gt 12 17 hp dJ28_numberOfTrailingZeros_9 (by decide) (fun _ => ?_) rfl (fun c => absurd (by decide) c)
  refine r_iconst 18 1 hp dJ28_numberOfTrailingZeros_17 (by decide) rfl ?_
  refine r_istore_n 19 [(1, .int 1), (0, .int (nI 1))] hp dJ28_numberOfTrailingZeros_18 rfl (by decide) rfl rfl ?_
  refine r_iload_n 20 1 hp dJ28_numberOfTrailingZeros_19 rfl rfl ?_
  refine r_ldcw 23 hp dJ28_numberOfTrailingZeros_20 q3410 rfl ?_
  refine r_eqi (nI 65536) rfl ?_
  refine r_icmp_leN 1 65536 26 34 hp dJ28_numberOfTrailingZeros_23 (by omega) (by omega) (by decide) (fun c23 => ?_) rfl (fun c23 => absurd c23 (by decide))
  refine r_iload_n 35 1 hp dJ28_numberOfTrailingZeros_34 rfl rfl ?_
  refine r_sipush 38 256 hp dJ28_numberOfTrailingZeros_35 (by decide) rfl ?_
  refine r_icmp_leN 1 256 41 49 hp dJ28_numberOfTrailingZeros_38 (by omega) (by omega) (by decide) (fun c38 => ?_) rfl (fun c38 => absurd c38 (by decide))
  refine r_iload_n 50 1 hp dJ28_numberOfTrailingZeros_49 rfl rfl ?_
  refine r_bipush 52 16 hp dJ28_numberOfTrailingZeros_50 (by decide) rfl ?_
  refine r_icmp_leN 1 16 55 62 hp dJ28_numberOfTrailingZeros_52 (by omega) (by omega) (by decide) (fun c52 => ?_) rfl (fun c52 => absurd c52 (by decide))
  refine r_iload_n 63 1 hp dJ28_numberOfTrailingZeros_62 rfl rfl ?_
  refine r_iconst 64 4 hp dJ28_numberOfTrailingZeros_63 (by decide) rfl ?_
  refine r_icmp_leN 1 4 67 74 hp dJ28_numberOfTrailingZeros_64 (by omega) (by omega) (by decide) (fun c64 => ?_) rfl (fun c64 => absurd c64 (by decide))
  refine r_iload_n 75 0 hp dJ28_numberOfTrailingZeros_74 rfl rfl ?_
  refine r_iload_n 76 1 hp dJ28_numberOfTrailingZeros_75 rfl rfl ?_
  refine r_iconst 77 1 hp dJ28_numberOfTrailingZeros_76 (by decide) rfl ?_
  refine r_iushr 78 hp dJ28_numberOfTrailingZeros_77 rfl ?_
  refine r_eqi (nI 0) (by decide) ?_
  refine r_iaddN 1 0 1 79 hp dJ28_numberOfTrailingZeros_78 (by omega) rfl ?_
  exact hR.1 79 _ _ _ rfl rfl dJ28_numberOfTrailingZeros_79 rfl
set_option maxHeartbeats 2000000 in
theorem cs_ntz_2 (D : DD) (l : Launch) (x : Int32) (hy : (x ^^^ (-1)) &&& (x - 1) = nI 3)  : Cs D l yJ28_numberOfTrailingZeros cJ28_numberOfTrailingZeros 2 (some .int) 0 0 [.int x] (.int (nI 2)) := by
  refine Cs.of (by decide) (Nat.le_of_ble_eq_true rfl) (fun s H0 A J hJ hR => ?_)
  have hp := hJ.pu H0 0 0
  show J H0 0 0 0 [] [(0, .int x)]
  refine r_iload_n 1 0 hp dJ28_numberOfTrailingZeros_0 rfl rfl ?_
  refine r_iconst 2 (-1) hp dJ28_numberOfTrailingZeros_1 (by decide) rfl ?_
  refine r_ixor 3 hp dJ28_numberOfTrailingZeros_2 rfl ?_
  refine r_iload_n 4 0 hp dJ28_numberOfTrailingZeros_3 rfl rfl ?_
  refine r_iconst 5 1 hp dJ28_numberOfTrailingZeros_4 (by decide) rfl ?_
  refine r_isub 6 hp dJ28_numberOfTrailingZeros_5 rfl ?_
  refine r_iand 7 hp dJ28_numberOfTrailingZeros_6 rfl ?_
  refine r_eqi (nI 3) (hy) ?_
  refine r_istore_n 8 [(0, .int (nI 3))] hp dJ28_numberOfTrailingZeros_7 rfl (by decide) rfl rfl ?_
  refine r_iload_n 9 0 hp dJ28_numberOfTrailingZeros_8 rfl rfl ?_
  refine r_if_gt 12 17 hp dJ28_numberOfTrailingZeros_9 (by decide) (fun _ => ?_) rfl (fun c => absurd (by decide) c)
  refine r_iconst 18 1 hp dJ28_numberOfTrailingZeros_17 (by decide) rfl ?_
  refine r_istore_n 19 [(1, .int 1), (0, .int (nI 3))] hp dJ28_numberOfTrailingZeros_18 rfl (by decide) rfl rfl ?_
  refine r_iload_n 20 1 hp dJ28_numberOfTrailingZeros_19 rfl rfl ?_
  refine r_ldcw 23 hp dJ28_numberOfTrailingZeros_20 q3410 rfl ?_
  refine r_eqi (nI 65536) rfl ?_
  refine r_icmp_leN 3 65536 26 34 hp dJ28_numberOfTrailingZeros_23 (by omega) (by omega) (by decide) (fun c23 => ?_) rfl (fun c23 => absurd c23 (by decide))
  refine r_iload_n 35 1 hp dJ28_numberOfTrailingZeros_34 rfl rfl ?_
  refine r_sipush 38 256 hp dJ28_numberOfTrailingZeros_35 (by decide) rfl ?_
  refine r_icmp_leN 3 256 41 49 hp dJ28_numberOfTrailingZeros_38 (by omega) (by omega) (by decide) (fun c38 => ?_) rfl (fun c38 => absurd c38 (by decide))
  refine r_iload_n 50 1 hp dJ28_numberOfTrailingZeros_49 rfl rfl ?_
  refine r_bipush 52 16 hp dJ28_numberOfTrailingZeros_50 (by decide) rfl ?_
  refine r_icmp_leN 3 16 55 62 hp dJ28_numberOfTrailingZeros_52 (by omega) (by omega) (by decide) (fun c52 => ?_) rfl (fun c52 => absurd c52 (by decide))
  refine r_iload_n 63 1 hp dJ28_numberOfTrailingZeros_62 rfl rfl ?_
  refine r_iconst 64 4 hp dJ28_numberOfTrailingZeros_63 (by decide) rfl ?_
  refine r_icmp_leN 3 4 67 74 hp dJ28_numberOfTrailingZeros_64 (by omega) (by omega) (by decide) (fun c64 => ?_) rfl (fun c64 => absurd c64 (by decide))
  refine r_iload_n 75 0 hp dJ28_numberOfTrailingZeros_74 rfl rfl ?_
  refine r_iload_n 76 1 hp dJ28_numberOfTrailingZeros_75 rfl rfl ?_
  refine r_iconst 77 1 hp dJ28_numberOfTrailingZeros_76 (by decide) rfl ?_
  refine r_iushr 78 hp dJ28_numberOfTrailingZeros_77 rfl ?_
  refine r_eqi (nI 1) (by decide) ?_
  refine r_iaddN 1 1 2 79 hp dJ28_numberOfTrailingZeros_78 rfl rfl ?_
  exact hR.1 79 _ _ _ rfl rfl dJ28_numberOfTrailingZeros_79 rfl
set_option maxHeartbeats 2000000 in
theorem cs_ntz_3 (D : DD) (l : Launch) (x : Int32) (hy : (x ^^^ (-1)) &&& (x - 1) = nI 7)  : Cs D l yJ28_numberOfTrailingZeros cJ28_numberOfTrailingZeros 2 (some .int) 0 0 [.int x] (.int (nI 3)) := by
  refine Cs.of (by decide) (Nat.le_of_ble_eq_true rfl) (fun s H0 A J hJ hR => ?_)
  have hp := hJ.pu H0 0 0
  show J H0 0 0 0 [] [(0, .int x)]
  refine r_iload_n 1 0 hp dJ28_numberOfTrailingZeros_0 rfl rfl ?_
  refine r_iconst 2 (-1) hp dJ28_numberOfTrailingZeros_1 (by decide) rfl ?_
  refine r_ixor 3 hp dJ28_numberOfTrailingZeros_2 rfl ?_
  refine r_iload_n 4 0 hp dJ28_numberOfTrailingZeros_3 rfl rfl ?_
  refine r_iconst 5 1 hp dJ28_numberOfTrailingZeros_4 (by decide) rfl ?_
  refine r_isub 6 hp dJ28_numberOfTrailingZeros_5 rfl ?_
  refine r_iand 7 hp dJ28_numberOfTrailingZeros_6 rfl ?_
  refine r_eqi (nI 7) (hy) ?_
  refine r_istore_n 8 [(0, .int (nI 7))] hp dJ28_numberOfTrailingZeros_7 rfl (by decide) rfl rfl ?_
  refine r_iload_n 9 0 hp dJ28_numberOfTrailingZeros_8 rfl rfl ?_
  refine r_if_gt 12 17 hp dJ28_numberOfTrailingZeros_9 (by decide) (fun _ => ?_) rfl (fun c => absurd (by decide) c)
  refine r_iconst 18 1 hp dJ28_numberOfTrailingZeros_17 (by decide) rfl ?_
  refine r_istore_n 19 [(1, .int 1), (0, .int (nI 7))] hp dJ28_numberOfTrailingZeros_18 rfl (by decide) rfl rfl ?_
  refine r_iload_n 20 1 hp dJ28_numberOfTrailingZeros_19 rfl rfl ?_
  refine r_ldcw 23 hp dJ28_numberOfTrailingZeros_20 q3410 rfl ?_
  refine r_eqi (nI 65536) rfl ?_
  refine r_icmp_leN 7 65536 26 34 hp dJ28_numberOfTrailingZeros_23 (by omega) (by omega) (by decide) (fun c23 => ?_) rfl (fun c23 => absurd c23 (by decide))
  refine r_iload_n 35 1 hp dJ28_numberOfTrailingZeros_34 rfl rfl ?_
  refine r_sipush 38 256 hp dJ28_numberOfTrailingZeros_35 (by decide) rfl ?_
  refine r_icmp_leN 7 256 41 49 hp dJ28_numberOfTrailingZeros_38 (by omega) (by omega) (by decide) (fun c38 => ?_) rfl (fun c38 => absurd c38 (by decide))
  refine r_iload_n 50 1 hp dJ28_numberOfTrailingZeros_49 rfl rfl ?_
  refine r_bipush 52 16 hp dJ28_numberOfTrailingZeros_50 (by decide) rfl ?_
  refine r_icmp_leN 7 16 55 62 hp dJ28_numberOfTrailingZeros_52 (by omega) (by omega) (by decide) (fun c52 => ?_) rfl (fun c52 => absurd c52 (by decide))
  refine r_iload_n 63 1 hp dJ28_numberOfTrailingZeros_62 rfl rfl ?_
  refine r_iconst 64 4 hp dJ28_numberOfTrailingZeros_63 (by decide) rfl ?_
  refine r_icmp_leN 7 4 67 74 hp dJ28_numberOfTrailingZeros_64 (by omega) (by omega) (by decide) (fun c64 => absurd c64 (by decide)) rfl (fun c64 => ?_)
  refine r_iinc 70 (1 + 2) 0 [(1, .int (1 + 2)), (0, .int (nI 7))] hp dJ28_numberOfTrailingZeros_67 rfl rfl (by decide) rfl rfl ?_
  refine r_iload_n 71 1 hp dJ28_numberOfTrailingZeros_70 rfl rfl ?_
  refine r_iconst 72 2 hp dJ28_numberOfTrailingZeros_71 (by decide) rfl ?_
  refine r_iushr 73 hp dJ28_numberOfTrailingZeros_72 rfl ?_
  refine r_eqi (nI 1) (by decide) ?_
  refine r_istore_n 74 [(0, .int (nI 1)), (1, .int (1 + 2))] hp dJ28_numberOfTrailingZeros_73 rfl (by decide) rfl rfl ?_
  refine r_iload_n 75 1 hp dJ28_numberOfTrailingZeros_74 rfl rfl ?_
  refine r_iload_n 76 0 hp dJ28_numberOfTrailingZeros_75 rfl rfl ?_
  refine r_iconst 77 1 hp dJ28_numberOfTrailingZeros_76 (by decide) rfl ?_
  refine r_iushr 78 hp dJ28_numberOfTrailingZeros_77 rfl ?_
  refine r_eqi (nI 0) (by decide) ?_
  refine r_iadd 79 hp dJ28_numberOfTrailingZeros_78 rfl ?_
  exact hR.1 79 _ _ _ rfl rfl dJ28_numberOfTrailingZeros_79 rfl
set_option maxHeartbeats 2000000 in
theorem cs_ntz_4 (D : DD) (l : Launch) (x : Int32) (hy : (x ^^^ (-1)) &&& (x - 1) = nI 15)  : Cs D l yJ28_numberOfTrailingZeros cJ28_numberOfTrailingZeros 2 (some .int) 0 0 [.int x] (.int (nI 4)) := by
  refine Cs.of (by decide) (Nat.le_of_ble_eq_true rfl) (fun s H0 A J hJ hR => ?_)
  have hp := hJ.pu H0 0 0
  show J H0 0 0 0 [] [(0, .int x)]
  refine r_iload_n 1 0 hp dJ28_numberOfTrailingZeros_0 rfl rfl ?_
  refine r_iconst 2 (-1) hp dJ28_numberOfTrailingZeros_1 (by decide) rfl ?_
  refine r_ixor 3 hp dJ28_numberOfTrailingZeros_2 rfl ?_
  refine r_iload_n 4 0 hp dJ28_numberOfTrailingZeros_3 rfl rfl ?_
  refine r_iconst 5 1 hp dJ28_numberOfTrailingZeros_4 (by decide) rfl ?_
  refine r_isub 6 hp dJ28_numberOfTrailingZeros_5 rfl ?_
  refine r_iand 7 hp dJ28_numberOfTrailingZeros_6 rfl ?_
  refine r_eqi (nI 15) (hy) ?_
  refine r_istore_n 8 [(0, .int (nI 15))] hp dJ28_numberOfTrailingZeros_7 rfl (by decide) rfl rfl ?_
  refine r_iload_n 9 0 hp dJ28_numberOfTrailingZeros_8 rfl rfl ?_
  refine r_if_gt 12 17 hp dJ28_numberOfTrailingZeros_9 (by decide) (fun _ => ?_) rfl (fun c => absurd (by decide) c)
  refine r_iconst 18 1 hp dJ28_numberOfTrailingZeros_17 (by decide) rfl ?_
  refine r_istore_n 19 [(1, .int 1), (0, .int (nI 15))] hp dJ28_numberOfTrailingZeros_18 rfl (by decide) rfl rfl ?_
  refine r_iload_n 20 1 hp dJ28_numberOfTrailingZeros_19 rfl rfl ?_
  refine r_ldcw 23 hp dJ28_numberOfTrailingZeros_20 q3410 rfl ?_
  refine r_eqi (nI 65536) rfl ?_
  refine r_icmp_leN 15 65536 26 34 hp dJ28_numberOfTrailingZeros_23 (by omega) (by omega) (by decide) (fun c23 => ?_) rfl (fun c23 => absurd c23 (by decide))
  refine r_iload_n 35 1 hp dJ28_numberOfTrailingZeros_34 rfl rfl ?_
  refine r_sipush 38 256 hp dJ28_numberOfTrailingZeros_35 (by decide) rfl ?_
  refine r_icmp_leN 15 256 41 49 hp dJ28_numberOfTrailingZeros_38 (by omega) (by omega) (by decide) (fun c38 => ?_) rfl (fun c38 => absurd c38 (by decide))
  refine r_iload_n 50 1 hp dJ28_numberOfTrailingZeros_49 rfl rfl ?_
  refine r_bipush 52 16 hp dJ28_numberOfTrailingZeros_50 (by decide) rfl ?_
  refine r_icmp_leN 15 16 55 62 hp dJ28_numberOfTrailingZeros_52 (by omega) (by omega) (by decide) (fun c52 => ?_) rfl (fun c52 => absurd c52 (by decide))
  refine r_iload_n 63 1 hp dJ28_numberOfTrailingZeros_62 rfl rfl ?_
  refine r_iconst 64 4 hp dJ28_numberOfTrailingZeros_63 (by decide) rfl ?_
  refine r_icmp_leN 15 4 67 74 hp dJ28_numberOfTrailingZeros_64 (by omega) (by omega) (by decide) (fun c64 => absurd c64 (by decide)) rfl (fun c64 => ?_)
  refine r_iinc 70 (1 + 2) 0 [(1, .int (1 + 2)), (0, .int (nI 15))] hp dJ28_numberOfTrailingZeros_67 rfl rfl (by decide) rfl rfl ?_
  refine r_iload_n 71 1 hp dJ28_numberOfTrailingZeros_70 rfl rfl ?_
  refine r_iconst 72 2 hp dJ28_numberOfTrailingZeros_71 (by decide) rfl ?_
  refine r_iushr 73 hp dJ28_numberOfTrailingZeros_72 rfl ?_
  refine r_eqi (nI 3) (by decide) ?_
  refine r_istore_n 74 [(0, .int (nI 3)), (1, .int (1 + 2))] hp dJ28_numberOfTrailingZeros_73 rfl (by decide) rfl rfl ?_
  refine r_iload_n 75 1 hp dJ28_numberOfTrailingZeros_74 rfl rfl ?_
  refine r_iload_n 76 0 hp dJ28_numberOfTrailingZeros_75 rfl rfl ?_
  refine r_iconst 77 1 hp dJ28_numberOfTrailingZeros_76 (by decide) rfl ?_
  refine r_iushr 78 hp dJ28_numberOfTrailingZeros_77 rfl ?_
  refine r_eqi (nI 1) (by decide) ?_
  refine r_iadd 79 hp dJ28_numberOfTrailingZeros_78 rfl ?_
  exact hR.1 79 _ _ _ rfl rfl dJ28_numberOfTrailingZeros_79 rfl
set_option maxHeartbeats 2000000 in
theorem cs_ntz_5 (D : DD) (l : Launch) (x : Int32) (hy : (x ^^^ (-1)) &&& (x - 1) = nI 31)  : Cs D l yJ28_numberOfTrailingZeros cJ28_numberOfTrailingZeros 2 (some .int) 0 0 [.int x] (.int (nI 5)) := by
  refine Cs.of (by decide) (Nat.le_of_ble_eq_true rfl) (fun s H0 A J hJ hR => ?_)
  have hp := hJ.pu H0 0 0
  show J H0 0 0 0 [] [(0, .int x)]
  refine r_iload_n 1 0 hp dJ28_numberOfTrailingZeros_0 rfl rfl ?_
  refine r_iconst 2 (-1) hp dJ28_numberOfTrailingZeros_1 (by decide) rfl ?_
  refine r_ixor 3 hp dJ28_numberOfTrailingZeros_2 rfl ?_
  refine r_iload_n 4 0 hp dJ28_numberOfTrailingZeros_3 rfl rfl ?_
  refine r_iconst 5 1 hp dJ28_numberOfTrailingZeros_4 (by decide) rfl ?_
  refine r_isub 6 hp dJ28_numberOfTrailingZeros_5 rfl ?_
  refine r_iand 7 hp dJ28_numberOfTrailingZeros_6 rfl ?_
  refine r_eqi (nI 31) (hy) ?_
  refine r_istore_n 8 [(0, .int (nI 31))] hp dJ28_numberOfTrailingZeros_7 rfl (by decide) rfl rfl ?_
  refine r_iload_n 9 0 hp dJ28_numberOfTrailingZeros_8 rfl rfl ?_
  refine r_if_gt 12 17 hp dJ28_numberOfTrailingZeros_9 (by decide) (fun _ => ?_) rfl (fun c => absurd (by decide) c)
  refine r_iconst 18 1 hp dJ28_numberOfTrailingZeros_17 (by decide) rfl ?_
  refine r_istore_n 19 [(1, .int 1), (0, .int (nI 31))] hp dJ28_numberOfTrailingZeros_18 rfl (by decide) rfl rfl ?_
  refine r_iload_n 20 1 hp dJ28_numberOfTrailingZeros_19 rfl rfl ?_
  refine r_ldcw 23 hp dJ28_numberOfTrailingZeros_20 q3410 rfl ?_
  refine r_eqi (nI 65536) rfl ?_
  refine r_icmp_leN 31 65536 26 34 hp dJ28_numberOfTrailingZeros_23 (by omega) (by omega) (by decide) (fun c23 => ?_) rfl (fun c23 => absurd c23 (by decide))
  refine r_iload_n 35 1 hp dJ28_numberOfTrailingZeros_34 rfl rfl ?_
  refine r_sipush 38 256 hp dJ28_numberOfTrailingZeros_35 (by decide) rfl ?_
  refine r_icmp_leN 31 256 41 49 hp dJ28_numberOfTrailingZeros_38 (by omega) (by omega) (by decide) (fun c38 => ?_) rfl (fun c38 => absurd c38 (by decide))
  refine r_iload_n 50 1 hp dJ28_numberOfTrailingZeros_49 rfl rfl ?_
  refine r_bipush 52 16 hp dJ28_numberOfTrailingZeros_50 (by decide) rfl ?_
  refine r_icmp_leN 31 16 55 62 hp dJ28_numberOfTrailingZeros_52 (by omega) (by omega) (by decide) (fun c52 => absurd c52 (by decide)) rfl (fun c52 => ?_)
  refine r_iinc 58 (1 + 4) 0 [(1, .int (1 + 4)), (0, .int (nI 31))] hp dJ28_numberOfTrailingZeros_55 rfl rfl (by decide) rfl rfl ?_
  refine r_iload_n 59 1 hp dJ28_numberOfTrailingZeros_58 rfl rfl ?_
  refine r_iconst 60 4 hp dJ28_numberOfTrailingZeros_59 (by decide) rfl ?_
  refine r_iushr 61 hp dJ28_numberOfTrailingZeros_60 rfl ?_
  refine r_eqi (nI 1) (by decide) ?_
  refine r_istore_n 62 [(0, .int (nI 1)), (1, .int (1 + 4))] hp dJ28_numberOfTrailingZeros_61 rfl (by decide) rfl rfl ?_
  refine r_iload_n 63 0 hp dJ28_numberOfTrailingZeros_62 rfl rfl ?_
  refine r_iconst 64 4 hp dJ28_numberOfTrailingZeros_63 (by decide) rfl ?_
  refine r_icmp_leN 1 4 67 74 hp dJ28_numberOfTrailingZeros_64 (by omega) (by omega) (by decide) (fun c64 => ?_) rfl (fun c64 => absurd c64 (by decide))
  refine r_iload_n 75 1 hp dJ28_numberOfTrailingZeros_74 rfl rfl ?_
  refine r_iload_n 76 0 hp dJ28_numberOfTrailingZeros_75 rfl rfl ?_
  refine r_iconst 77 1 hp dJ28_numberOfTrailingZeros_76 (by decide) rfl ?_
  refine r_iushr 78 hp dJ28_numberOfTrailingZeros_77 rfl ?_
  refine r_eqi (nI 0) (by decide) ?_
  refine r_iadd 79 hp dJ28_numberOfTrailingZeros_78 rfl ?_
  exact hR.1 79 _ _ _ rfl rfl dJ28_numberOfTrailingZeros_79 rfl
set_option maxHeartbeats 2000000 in
theorem cs_ntz_6 (D : DD) (l : Launch) (x : Int32) (hy : (x ^^^ (-1)) &&& (x - 1) = nI 63)  : Cs D l yJ28_numberOfTrailingZeros cJ28_numberOfTrailingZeros 2 (some .int) 0 0 [.int x] (.int (nI 6)) := by
  refine Cs.of (by decide) (Nat.le_of_ble_eq_true rfl) (fun s H0 A J hJ hR => ?_)
  have hp := hJ.pu H0 0 0
  show J H0 0 0 0 [] [(0, .int x)]
  refine r_iload_n 1 0 hp dJ28_numberOfTrailingZeros_0 rfl rfl ?_
  refine r_iconst 2 (-1) hp dJ28_numberOfTrailingZeros_1 (by decide) rfl ?_
  refine r_ixor 3 hp dJ28_numberOfTrailingZeros_2 rfl ?_
  refine r_iload_n 4 0 hp dJ28_numberOfTrailingZeros_3 rfl rfl ?_
  refine r_iconst 5 1 hp dJ28_numberOfTrailingZeros_4 (by decide) rfl ?_
  refine r_isub 6 hp dJ28_numberOfTrailingZeros_5 rfl ?_
  refine r_iand 7 hp dJ28_numberOfTrailingZeros_6 rfl ?_
  refine r_eqi (nI 63) (hy) ?_
  refine r_istore_n 8 [(0, .int (nI 63))] hp dJ28_numberOfTrailingZeros_7 rfl (by decide) rfl rfl ?_
  refine r_iload_n 9 0 hp dJ28_numberOfTrailingZeros_8 rfl rfl ?_
  refine r_if_gt 12 17 hp dJ28_numberOfTrailingZeros_9 (by decide) (fun _ => ?_) rfl (fun c => absurd (by decide) c)
  refine r_iconst 18 1 hp dJ28_numberOfTrailingZeros_17 (by decide) rfl ?_
  refine r_istore_n 19 [(1, .int 1), (0, .int (nI 63))] hp dJ28_numberOfTrailingZeros_18 rfl (by decide) rfl rfl ?_
  refine r_iload_n 20 1 hp dJ28_numberOfTrailingZeros_19 rfl rfl ?_
  refine r_ldcw 23 hp dJ28_numberOfTrailingZeros_20 q3410 rfl ?_
  refine r_eqi (nI 65536) rfl ?_
  refine r_icmp_leN 63 65536 26 34 hp dJ28_numberOfTrailingZeros_23 (by omega) (by omega) (by decide) (fun c23 => ?_) rfl (fun c23 => absurd c23 (by decide))
  refine r_iload_n 35 1 hp dJ28_numberOfTrailingZeros_34 rfl rfl ?_
  refine r_sipush 38 256 hp dJ28_numberOfTrailingZeros_35 (by decide) rfl ?_
  refine r_icmp_leN 63 256 41 49 hp dJ28_numberOfTrailingZeros_38 (by omega) (by omega) (by decide) (fun c38 => ?_) rfl (fun c38 => absurd c38 (by decide))
  refine r_iload_n 50 1 hp dJ28_numberOfTrailingZeros_49 rfl rfl ?_
  refine r_bipush 52 16 hp dJ28_numberOfTrailingZeros_50 (by decide) rfl ?_
  refine r_icmp_leN 63 16 55 62 hp dJ28_numberOfTrailingZeros_52 (by omega) (by omega) (by decide) (fun c52 => absurd c52 (by decide)) rfl (fun c52 => ?_)
  refine r_iinc 58 (1 + 4) 0 [(1, .int (1 + 4)), (0, .int (nI 63))] hp dJ28_numberOfTrailingZeros_55 rfl rfl (by decide) rfl rfl ?_
  refine r_iload_n 59 1 hp dJ28_numberOfTrailingZeros_58 rfl rfl ?_
  refine r_iconst 60 4 hp dJ28_numberOfTrailingZeros_59 (by decide) rfl ?_
  refine r_iushr 61 hp dJ28_numberOfTrailingZeros_60 rfl ?_
  refine r_eqi (nI 3) (by decide) ?_
  refine r_istore_n 62 [(0, .int (nI 3)), (1, .int (1 + 4))] hp dJ28_numberOfTrailingZeros_61 rfl (by decide) rfl rfl ?_
  refine r_iload_n 63 0 hp dJ28_numberOfTrailingZeros_62 rfl rfl ?_
  refine r_iconst 64 4 hp dJ28_numberOfTrailingZeros_63 (by decide) rfl ?_
  refine r_icmp_leN 3 4 67 74 hp dJ28_numberOfTrailingZeros_64 (by omega) (by omega) (by decide) (fun c64 => ?_) rfl (fun c64 => absurd c64 (by decide))
  refine r_iload_n 75 1 hp dJ28_numberOfTrailingZeros_74 rfl rfl ?_
  refine r_iload_n 76 0 hp dJ28_numberOfTrailingZeros_75 rfl rfl ?_
  refine r_iconst 77 1 hp dJ28_numberOfTrailingZeros_76 (by decide) rfl ?_
  refine r_iushr 78 hp dJ28_numberOfTrailingZeros_77 rfl ?_
  refine r_eqi (nI 1) (by decide) ?_
  refine r_iadd 79 hp dJ28_numberOfTrailingZeros_78 rfl ?_
  exact hR.1 79 _ _ _ rfl rfl dJ28_numberOfTrailingZeros_79 rfl
set_option maxHeartbeats 2000000 in
theorem cs_ntz_7 (D : DD) (l : Launch) (x : Int32) (hy : (x ^^^ (-1)) &&& (x - 1) = nI 127)  : Cs D l yJ28_numberOfTrailingZeros cJ28_numberOfTrailingZeros 2 (some .int) 0 0 [.int x] (.int (nI 7)) := by
  refine Cs.of (by decide) (Nat.le_of_ble_eq_true rfl) (fun s H0 A J hJ hR => ?_)
  have hp := hJ.pu H0 0 0
  show J H0 0 0 0 [] [(0, .int x)]
  refine r_iload_n 1 0 hp dJ28_numberOfTrailingZeros_0 rfl rfl ?_
  refine r_iconst 2 (-1) hp dJ28_numberOfTrailingZeros_1 (by decide) rfl ?_
  refine r_ixor 3 hp dJ28_numberOfTrailingZeros_2 rfl ?_
  refine r_iload_n 4 0 hp dJ28_numberOfTrailingZeros_3 rfl rfl ?_
  refine r_iconst 5 1 hp dJ28_numberOfTrailingZeros_4 (by decide) rfl ?_
  refine r_isub 6 hp dJ28_numberOfTrailingZeros_5 rfl ?_
  refine r_iand 7 hp dJ28_numberOfTrailingZeros_6 rfl ?_
  refine r_eqi (nI 127) (hy) ?_
  refine r_istore_n 8 [(0, .int (nI 127))] hp dJ28_numberOfTrailingZeros_7 rfl (by decide) rfl rfl ?_
  refine r_iload_n 9 0 hp dJ28_numberOfTrailingZeros_8 rfl rfl ?_
  refine r_if_gt 12 17 hp dJ28_numberOfTrailingZeros_9 (by decide) (fun _ => ?_) rfl (fun c => absurd (by decide) c)
  refine r_iconst 18 1 hp dJ28_numberOfTrailingZeros_17 (by decide) rfl ?_
  refine r_istore_n 19 [(1, .int 1), (0, .int (nI 127))] hp dJ28_numberOfTrailingZeros_18 rfl (by decide) rfl rfl ?_
  refine r_iload_n 20 1 hp dJ28_numberOfTrailingZeros_19 rfl rfl ?_
  refine r_ldcw 23 hp dJ28_numberOfTrailingZeros_20 q3410 rfl ?_
  refine r_eqi (nI 65536) rfl ?_
  refine r_icmp_leN 127 65536 26 34 hp dJ28_numberOfTrailingZeros_23 (by omega) (by omega) (by decide) (fun c23 => ?_) rfl (fun c23 => absurd c23 (by decide))
  refine r_iload_n 35 1 hp dJ28_numberOfTrailingZeros_34 rfl rfl ?_
  refine r_sipush 38 256 hp dJ28_numberOfTrailingZeros_35 (by decide) rfl ?_
  refine r_icmp_leN 127 256 41 49 hp dJ28_numberOfTrailingZeros_38 (by omega) (by omega) (by decide) (fun c38 => ?_) rfl (fun c38 => absurd c38 (by decide))
  refine r_iload_n 50 1 hp dJ28_numberOfTrailingZeros_49 rfl rfl ?_
  refine r_bipush 52 16 hp dJ28_numberOfTrailingZeros_50 (by decide) rfl ?_
  refine r_icmp_leN 127 16 55 62 hp dJ28_numberOfTrailingZeros_52 (by omega) (by omega) (by decide) (fun c52 => absurd c52 (by decide)) rfl (fun c52 => ?_)
  refine r_iinc 58 (1 + 4) 0 [(1, .int (1 + 4)), (0, .int (nI 127))] hp dJ28_numberOfTrailingZeros_55 rfl rfl (by decide) rfl rfl ?_
  refine r_iload_n 59 1 hp dJ28_numberOfTrailingZeros_58 rfl rfl ?_
  refine r_iconst 60 4 hp dJ28_numberOfTrailingZeros_59 (by decide) rfl ?_
  refine r_iushr 61 hp dJ28_numberOfTrailingZeros_60 rfl ?_
  refine r_eqi (nI 7) (by decide) ?_
  refine r_istore_n 62 [(0, .int (nI 7)), (1, .int (1 + 4))] hp dJ28_numberOfTrailingZeros_61 rfl (by decide) rfl rfl ?_
  refine r_iload_n 63 0 hp dJ28_numberOfTrailingZeros_62 rfl rfl ?_
  refine r_iconst 64 4 hp dJ28_numberOfTrailingZeros_63 (by decide) rfl ?_
  refine r_icmp_leN 7 4 67 74 hp dJ28_numberOfTrailingZeros_64 (by omega) (by omega) (by decide) (fun c64 => absurd c64 (by decide)) rfl (fun c64 => ?_)
  refine r_iinc 70 ((1 + 4) + 2) 1 [(1, .int ((1 + 4) + 2)), (0, .int (nI 7))] hp dJ28_numberOfTrailingZeros_67 rfl rfl (by decide) rfl rfl ?_
  refine r_iload_n 71 1 hp dJ28_numberOfTrailingZeros_70 rfl rfl ?_
  refine r_iconst 72 2 hp dJ28_numberOfTrailingZeros_71 (by decide) rfl ?_
  refine r_iushr 73 hp dJ28_numberOfTrailingZeros_72 rfl ?_
  refine r_eqi (nI 1) (by decide) ?_
  refine r_istore_n 74 [(0, .int (nI 1)), (1, .int ((1 + 4) + 2))] hp dJ28_numberOfTrailingZeros_73 rfl (by decide) rfl rfl ?_
  refine r_iload_n 75 1 hp dJ28_numberOfTrailingZeros_74 rfl rfl ?_
  refine r_iload_n 76 0 hp dJ28_numberOfTrailingZeros_75 rfl rfl ?_
  refine r_iconst 77 1 hp dJ28_numberOfTrailingZeros_76 (by decide) rfl ?_
  refine r_iushr 78 hp dJ28_numberOfTrailingZeros_77 rfl ?_
  refine r_eqi (nI 0) (by decide) ?_
  refine r_iadd 79 hp dJ28_numberOfTrailingZeros_78 rfl ?_
  exact hR.1 79 _ _ _ rfl rfl dJ28_numberOfTrailingZeros_79 rfl
set_option maxHeartbeats 2000000 in
theorem cs_ntz_8 (D : DD) (l : Launch) (x : Int32) (hy : (x ^^^ (-1)) &&& (x - 1) = nI 255)  : Cs D l yJ28_numberOfTrailingZeros cJ28_numberOfTrailingZeros 2 (some .int) 0 0 [.int x] (.int (nI 8)) := by
  refine Cs.of (by decide) (Nat.le_of_ble_eq_true rfl) (fun s H0 A J hJ hR => ?_)
  have hp := hJ.pu H0 0 0
  show J H0 0 0 0 [] [(0, .int x)]
  refine r_iload_n 1 0 hp dJ28_numberOfTrailingZeros_0 rfl rfl ?_
  refine r_iconst 2 (-1) hp dJ28_numberOfTrailingZeros_1 (by decide) rfl ?_
  refine r_ixor 3 hp dJ28_numberOfTrailingZeros_2 rfl ?_
  refine r_iload_n 4 0 hp dJ28_numberOfTrailingZeros_3 rfl rfl ?_
  refine r_iconst 5 1 hp dJ28_numberOfTrailingZeros_4 (by decide) rfl ?_
  refine r_isub 6 hp dJ28_numberOfTrailingZeros_5 rfl ?_
  refine r_iand 7 hp dJ28_numberOfTrailingZeros_6 rfl ?_
  refine r_eqi (nI 255) (hy) ?_
  refine r_istore_n 8 [(0, .int (nI 255))] hp dJ28_numberOfTrailingZeros_7 rfl (by decide) rfl rfl ?_
  refine r_iload_n 9 0 hp dJ28_numberOfTrailingZeros_8 rfl rfl ?_
  refine r_if_gt 12 17 hp dJ28_numberOfTrailingZeros_9 (by decide) (fun _ => ?_) rfl (fun c => absurd (by decide) c)
  refine r_iconst 18 1 hp dJ28_numberOfTrailingZeros_17 (by decide) rfl ?_
  refine r_istore_n 19 [(1, .int 1), (0, .int (nI 255))] hp dJ28_numberOfTrailingZeros_18 rfl (by decide) rfl rfl ?_
  refine r_iload_n 20 1 hp dJ28_numberOfTrailingZeros_19 rfl rfl ?_
  refine r_ldcw 23 hp dJ28_numberOfTrailingZeros_20 q3410 rfl ?_
  refine r_eqi (nI 65536) rfl ?_
  refine r_icmp_leN 255 65536 26 34 hp dJ28_numberOfTrailingZeros_23 (by omega) (by omega) (by decide) (fun c23 => ?_) rfl (fun c23 => absurd c23 (by decide))
  refine r_iload_n 35 1 hp dJ28_numberOfTrailingZeros_34 rfl rfl ?_
  refine r_sipush 38 256 hp dJ28_numberOfTrailingZeros_35 (by decide) rfl ?_
  refine r_icmp_leN 255 256 41 49 hp dJ28_numberOfTrailingZeros_38 (by omega) (by omega) (by decide) (fun c38 => ?_) rfl (fun c38 => absurd c38 (by decide))
  refine r_iload_n 50 1 hp dJ28_numberOfTrailingZeros_49 rfl rfl ?_
  refine r_bipush 52 16 hp dJ28_numberOfTrailingZeros_50 (by decide) rfl ?_
  refine r_icmp_leN 255 16 55 62 hp dJ28_numberOfTrailingZeros_52 (by omega) (by omega) (by decide) (fun c52 => absurd c52 (by decide)) rfl (fun c52 => ?_)
  refine r_iinc 58 (1 + 4) 0 [(1, .int (1 + 4)), (0, .int (nI 255))] hp dJ28_numberOfTrailingZeros_55 rfl rfl (by decide) rfl rfl ?_
  refine r_iload_n 59 1 hp dJ28_numberOfTrailingZeros_58 rfl rfl ?_
  refine r_iconst 60 4 hp dJ28_numberOfTrailingZeros_59 (by decide) rfl ?_
  refine r_iushr 61 hp dJ28_numberOfTrailingZeros_60 rfl ?_
  refine r_eqi (nI 15) (by decide) ?_
  refine r_istore_n 62 [(0, .int (nI 15)), (1, .int (1 + 4))] hp dJ28_numberOfTrailingZeros_61 rfl (by decide) rfl rfl ?_
  refine r_iload_n 63 0 hp dJ28_numberOfTrailingZeros_62 rfl rfl ?_
  refine r_iconst 64 4 hp dJ28_numberOfTrailingZeros_63 (by decide) rfl ?_
  refine r_icmp_leN 15 4 67 74 hp dJ28_numberOfTrailingZeros_64 (by omega) (by omega) (by decide) (fun c64 => absurd c64 (by decide)) rfl (fun c64 => ?_)
  refine r_iinc 70 ((1 + 4) + 2) 1 [(1, .int ((1 + 4) + 2)), (0, .int (nI 15))] hp dJ28_numberOfTrailingZeros_67 rfl rfl (by decide) rfl rfl ?_
  refine r_iload_n 71 1 hp dJ28_numberOfTrailingZeros_70 rfl rfl ?_
  refine r_iconst 72 2 hp dJ28_numberOfTrailingZeros_71 (by decide) rfl ?_
  refine r_iushr 73 hp dJ28_numberOfTrailingZeros_72 rfl ?_
  refine r_eqi (nI 3) (by decide) ?_
  refine r_istore_n 74 [(0, .int (nI 3)), (1, .int ((1 + 4) + 2))] hp dJ28_numberOfTrailingZeros_73 rfl (by decide) rfl rfl ?_
  refine r_iload_n 75 1 hp dJ28_numberOfTrailingZeros_74 rfl rfl ?_
  refine r_iload_n 76 0 hp dJ28_numberOfTrailingZeros_75 rfl rfl ?_
  refine r_iconst 77 1 hp dJ28_numberOfTrailingZeros_76 (by decide) rfl ?_
  refine r_iushr 78 hp dJ28_numberOfTrailingZeros_77 rfl ?_
  refine r_eqi (nI 1) (by decide) ?_
  refine r_iadd 79 hp dJ28_numberOfTrailingZeros_78 rfl ?_
  exact hR.1 79 _ _ _ rfl rfl dJ28_numberOfTrailingZeros_79 rfl
set_option maxHeartbeats 2000000 in
theorem cs_ntz_9 (D : DD) (l : Launch) (x : Int32) (hy : (x ^^^ (-1)) &&& (x - 1) = nI 511)  : Cs D l yJ28_numberOfTrailingZeros cJ28_numberOfTrailingZeros 2 (some .int) 0 0 [.int x] (.int (nI 9)) := by
  refine Cs.of (by decide) (Nat.le_of_ble_eq_true rfl) (fun s H0 A J hJ hR => ?_)
  have hp := hJ.pu H0 0 0
  show J H0 0 0 0 [] [(0, .int x)]
  refine r_iload_n 1 0 hp dJ28_numberOfTrailingZeros_0 rfl rfl ?_
  refine r_iconst 2 (-1) hp dJ28_numberOfTrailingZeros_1 (by decide) rfl ?_
  refine r_ixor 3 hp dJ28_numberOfTrailingZeros_2 rfl ?_
  refine r_iload_n 4 0 hp dJ28_numberOfTrailingZeros_3 rfl rfl ?_
  refine r_iconst 5 1 hp dJ28_numberOfTrailingZeros_4 (by decide) rfl ?_
  refine r_isub 6 hp dJ28_numberOfTrailingZeros_5 rfl ?_
  refine r_iand 7 hp dJ28_numberOfTrailingZeros_6 rfl ?_
  refine r_eqi (nI 511) (hy) ?_
  refine r_istore_n 8 [(0, .int (nI 511))] hp dJ28_numberOfTrailingZeros_7 rfl (by decide) rfl rfl ?_
  refine r_iload_n 9 0 hp dJ28_numberOfTrailingZeros_8 rfl rfl ?_
  refine r_if_gt 12 17 hp dJ28_numberOfTrailingZeros_9 (by decide) (fun _ => ?_) rfl (fun c => absurd (by decide) c)
  refine r_iconst 18 1 hp dJ28_numberOfTrailingZeros_17 (by decide) rfl ?_
  refine r_istore_n 19 [(1, .int 1), (0, .int (nI 511))] hp dJ28_numberOfTrailingZeros_18 rfl (by decide) rfl rfl ?_
  refine r_iload_n 20 1 hp dJ28_numberOfTrailingZeros_19 rfl rfl ?_
  refine r_ldcw 23 hp dJ28_numberOfTrailingZeros_20 q3410 rfl ?_
  refine r_eqi (nI 65536) rfl ?_
  refine r_icmp_leN 511 65536 26 34 hp dJ28_numberOfTrailingZeros_23 (by omega) (by omega) (by decide) (fun c23 => ?_) rfl (fun c23 => absurd c23 (by decide))
  refine r_iload_n 35 1 hp dJ28_numberOfTrailingZeros_34 rfl rfl ?_
  refine r_sipush 38 256 hp dJ28_numberOfTrailingZeros_35 (by decide) rfl ?_
  refine r_icmp_leN 511 256 41 49 hp dJ28_numberOfTrailingZeros_38 (by omega) (by omega) (by decide) (fun c38 => absurd c38 (by decide)) rfl (fun c38 => ?_)
  refine r_iinc 44 (1 + 8) 0 [(1, .int (1 + 8)), (0, .int (nI 511))] hp dJ28_numberOfTrailingZeros_41 rfl rfl (by decide) rfl rfl ?_
  refine r_iload_n 45 1 hp dJ28_numberOfTrailingZeros_44 rfl rfl ?_
  refine r_bipush 47 8 hp dJ28_numberOfTrailingZeros_45 (by decide) rfl ?_
  refine r_iushr 48 hp dJ28_numberOfTrailingZeros_47 rfl ?_
  refine r_eqi (nI 1) (by decide) ?_
  refine r_istore_n 49 [(0, .int (nI 1)), (1, .int (1 + 8))] hp dJ28_numberOfTrailingZeros_48 rfl (by decide) rfl rfl ?_
  refine r_iload_n 50 0 hp dJ28_numberOfTrailingZeros_49 rfl rfl ?_
  refine r_bipush 52 16 hp dJ28_numberOfTrailingZeros_50 (by decide) rfl ?_
  refine r_icmp_leN 1 16 55 62 hp dJ28_numberOfTrailingZeros_52 (by omega) (by omega) (by decide) (fun c52 => ?_) rfl (fun c52 => absurd c52 (by decide))
  refine r_iload_n 63 0 hp dJ28_numberOfTrailingZeros_62 rfl rfl ?_
  refine r_iconst 64 4 hp dJ28_numberOfTrailingZeros_63 (by decide) rfl ?_
  refine r_icmp_leN 1 4 67 74 hp dJ28_numberOfTrailingZeros_64 (by omega) (by omega) (by decide) (fun c64 => ?_) rfl (fun c64 => absurd c64 (by decide))
  refine r_iload_n 75 1 hp dJ28_numberOfTrailingZeros_74 rfl rfl ?_
  refine r_iload_n 76 0 hp dJ28_numberOfTrailingZeros_75 rfl rfl ?_
  refine r_iconst 77 1 hp dJ28_numberOfTrailingZeros_76 (by decide) rfl ?_
  refine r_iushr 78 hp dJ28_numberOfTrailingZeros_77 rfl ?_
  refine r_eqi (nI 0) (by decide) ?_
  refine r_iadd 79 hp dJ28_numberOfTrailingZeros_78 rfl ?_
  exact hR.1 79 _ _ _ rfl rfl dJ28_numberOfTrailingZeros_79 rfl
set_option maxHeartbeats 2000000 in
theorem cs_ntz_10 (D : DD) (l : Launch) (x : Int32) (hy : (x ^^^ (-1)) &&& (x - 1) = nI 1023)  : Cs D l yJ28_numberOfTrailingZeros cJ28_numberOfTrailingZeros 2 (some .int) 0 0 [.int x] (.int (nI 10)) := by
  refine Cs.of (by decide) (Nat.le_of_ble_eq_true rfl) (fun s H0 A J hJ hR => ?_)
  have hp := hJ.pu H0 0 0
  show J H0 0 0 0 [] [(0, .int x)]
  refine r_iload_n 1 0 hp dJ28_numberOfTrailingZeros_0 rfl rfl ?_
  refine r_iconst 2 (-1) hp dJ28_numberOfTrailingZeros_1 (by decide) rfl ?_
  refine r_ixor 3 hp dJ28_numberOfTrailingZeros_2 rfl ?_
  refine r_iload_n 4 0 hp dJ28_numberOfTrailingZeros_3 rfl rfl ?_
  refine r_iconst 5 1 hp dJ28_numberOfTrailingZeros_4 (by decide) rfl ?_
  refine r_isub 6 hp dJ28_numberOfTrailingZeros_5 rfl ?_
  refine r_iand 7 hp dJ28_numberOfTrailingZeros_6 rfl ?_
  refine r_eqi (nI 1023) (hy) ?_
  refine r_istore_n 8 [(0, .int (nI 1023))] hp dJ28_numberOfTrailingZeros_7 rfl (by decide) rfl rfl ?_
  refine r_iload_n 9 0 hp dJ28_numberOfTrailingZeros_8 rfl rfl ?_
  refine r_if_gt 12 17 hp dJ28_numberOfTrailingZeros_9 (by decide) (fun _ => ?_) rfl (fun c => absurd (by decide) c)
  refine r_iconst 18 1 hp dJ28_numberOfTrailingZeros_17 (by decide) rfl ?_
  refine r_istore_n 19 [(1, .int 1), (0, .int (nI 1023))] hp dJ28_numberOfTrailingZeros_18 rfl (by decide) rfl rfl ?_
  refine r_iload_n 20 1 hp dJ28_numberOfTrailingZeros_19 rfl rfl ?_
  refine r_ldcw 23 hp dJ28_numberOfTrailingZeros_20 q3410 rfl ?_
  refine r_eqi (nI 65536) rfl ?_
  refine r_icmp_leN 1023 65536 26 34 hp dJ28_numberOfTrailingZeros_23 (by omega) (by omega) (by decide) (fun c23 => ?_) rfl (fun c23 => absurd c23 (by decide))
  refine r_iload_n 35 1 hp dJ28_numberOfTrailingZeros_34 rfl rfl ?_
  refine r_sipush 38 256 hp dJ28_numberOfTrailingZeros_35 (by decide) rfl ?_
  refine r_icmp_leN 1023 256 41 49 hp dJ28_numberOfTrailingZeros_38 (by omega) (by omega) (by decide) (fun c38 => absurd c38 (by decide)) rfl (fun c38 => ?_)
  refine r_iinc 44 (1 + 8) 0 [(1, .int (1 + 8)), (0, .int (nI 1023))] hp dJ28_numberOfTrailingZeros_41 rfl rfl (by decide) rfl rfl ?_
  refine r_iload_n 45 1 hp dJ28_numberOfTrailingZeros_44 rfl rfl ?_
  refine r_bipush 47 8 hp dJ28_numberOfTrailingZeros_45 (by decide) rfl ?_
  refine r_iushr 48 hp dJ28_numberOfTrailingZeros_47 rfl ?_
  refine r_eqi (nI 3) (by decide) ?_
  refine r_istore_n 49 [(0, .int (nI 3)), (1, .int (1 + 8))] hp dJ28_numberOfTrailingZeros_48 rfl (by decide) rfl rfl ?_
  refine r_iload_n 50 0 hp dJ28_numberOfTrailingZeros_49 rfl rfl ?_
  refine r_bipush 52 16 hp dJ28_numberOfTrailingZeros_50 (by decide) rfl ?_
  refine r_icmp_leN 3 16 55 62 hp dJ28_numberOfTrailingZeros_52 (by omega) (by omega) (by decide) (fun c52 => ?_) rfl (fun c52 => absurd c52 (by decide))
  refine r_iload_n 63 0 hp dJ28_numberOfTrailingZeros_62 rfl rfl ?_
  refine r_iconst 64 4 hp dJ28_numberOfTrailingZeros_63 (by decide) rfl ?_
  refine r_icmp_leN 3 4 67 74 hp dJ28_numberOfTrailingZeros_64 (by omega) (by omega) (by decide) (fun c64 => ?_) rfl (fun c64 => absurd c64 (by decide))
  refine r_iload_n 75 1 hp dJ28_numberOfTrailingZeros_74 rfl rfl ?_
  refine r_iload_n 76 0 hp dJ28_numberOfTrailingZeros_75 rfl rfl ?_
  refine r_iconst 77 1 hp dJ28_numberOfTrailingZeros_76 (by decide) rfl ?_
  refine r_iushr 78 hp dJ28_numberOfTrailingZeros_77 rfl ?_
  refine r_eqi (nI 1) (by decide) ?_
  refine r_iadd 79 hp dJ28_numberOfTrailingZeros_78 rfl ?_
  exact hR.1 79 _ _ _ rfl rfl dJ28_numberOfTrailingZeros_79 rfl
set_option maxHeartbeats 2000000 in
theorem cs_ntz_11 (D : DD) (l : Launch) (x : Int32) (hy : (x ^^^ (-1)) &&& (x - 1) = nI 2047)  : Cs D l yJ28_numberOfTrailingZeros cJ28_numberOfTrailingZeros 2 (some .int) 0 0 [.int x] (.int (nI 11)) := by
  refine Cs.of (by decide) (Nat.le_of_ble_eq_true rfl) (fun s H0 A J hJ hR => ?_)
  have hp := hJ.pu H0 0 0
  show J H0 0 0 0 [] [(0, .int x)]
  refine r_iload_n 1 0 hp dJ28_numberOfTrailingZeros_0 rfl rfl ?_
  refine r_iconst 2 (-1) hp dJ28_numberOfTrailingZeros_1 (by decide) rfl ?_
  refine r_ixor 3 hp dJ28_numberOfTrailingZeros_2 rfl ?_
  refine r_iload_n 4 0 hp dJ28_numberOfTrailingZeros_3 rfl rfl ?_
  refine r_iconst 5 1 hp dJ28_numberOfTrailingZeros_4 (by decide) rfl ?_
  refine r_isub 6 hp dJ28_numberOfTrailingZeros_5 rfl ?_
  refine r_iand 7 hp dJ28_numberOfTrailingZeros_6 rfl ?_
  refine r_eqi (nI 2047) (hy) ?_
  refine r_istore_n 8 [(0, .int (nI 2047))] hp dJ28_numberOfTrailingZeros_7 rfl (by decide) rfl rfl ?_
  refine r_iload_n 9 0 hp dJ28_numberOfTrailingZeros_8 rfl rfl ?_
  refine r_if_gt 12 17 hp dJ28_numberOfTrailingZeros_9 (by decide) (fun _ => ?_) rfl (fun c => absurd (by decide) c)
  refine r_iconst 18 1 hp dJ28_numberOfTrailingZeros_17 (by decide) rfl ?_
  refine r_istore_n 19 [(1, .int 1), (0, .int (nI 2047))] hp dJ28_numberOfTrailingZeros_18 rfl (by decide) rfl rfl ?_
  refine r_iload_n 20 1 hp dJ28_numberOfTrailingZeros_19 rfl rfl ?_
  refine r_ldcw 23 hp dJ28_numberOfTrailingZeros_20 q3410 rfl ?_
  refine r_eqi (nI 65536) rfl ?_
  refine r_icmp_leN 2047 65536 26 34 hp dJ28_numberOfTrailingZeros_23 (by omega) (by omega) (by decide) (fun c23 => ?_) rfl (fun c23 => absurd c23 (by decide))
  refine r_iload_n 35 1 hp dJ28_numberOfTrailingZeros_34 rfl rfl ?_
  refine r_sipush 38 256 hp dJ28_numberOfTrailingZeros_35 (by decide) rfl ?_
  refine r_icmp_leN 2047 256 41 49 hp dJ28_numberOfTrailingZeros_38 (by omega) (by omega) (by decide) (fun c38 => absurd c38 (by decide)) rfl (fun c38 => ?_)
  refine r_iinc 44 (1 + 8) 0 [(1, .int (1 + 8)), (0, .int (nI 2047))] hp dJ28_numberOfTrailingZeros_41 rfl rfl (by decide) rfl rfl ?_
  refine r_iload_n 45 1 hp dJ28_numberOfTrailingZeros_44 rfl rfl ?_
  refine r_bipush 47 8 hp dJ28_numberOfTrailingZeros_45 (by decide) rfl ?_
  refine r_iushr 48 hp dJ28_numberOfTrailingZeros_47 rfl ?_
  refine r_eqi (nI 7) (by decide) ?_
  refine r_istore_n 49 [(0, .int (nI 7)), (1, .int (1 + 8))] hp dJ28_numberOfTrailingZeros_48 rfl (by decide) rfl rfl ?_
  refine r_iload_n 50 0 hp dJ28_numberOfTrailingZeros_49 rfl rfl ?_
  refine r_bipush 52 16 hp dJ28_numberOfTrailingZeros_50 (by decide) rfl ?_
  refine r_icmp_leN 7 16 55 62 hp dJ28_numberOfTrailingZeros_52 (by omega) (by omega) (by decide) (fun c52 => ?_) rfl (fun c52 => absurd c52 (by decide))
  refine r_iload_n 63 0 hp dJ28_numberOfTrailingZeros_62 rfl rfl ?_
  refine r_iconst 64 4 hp dJ28_numberOfTrailingZeros_63 (by decide) rfl ?_
  refine r_icmp_leN 7 4 67 74 hp dJ28_numberOfTrailingZeros_64 (by omega) (by omega) (by decide) (fun c64 => absurd c64 (by decide)) rfl (fun c64 => ?_)
  refine r_iinc 70 ((1 + 8) + 2) 1 [(1, .int ((1 + 8) + 2)), (0, .int (nI 7))] hp dJ28_numberOfTrailingZeros_67 rfl rfl (by decide) rfl rfl ?_
  refine r_iload_n 71 1 hp dJ28_numberOfTrailingZeros_70 rfl rfl ?_
  refine r_iconst 72 2 hp dJ28_numberOfTrailingZeros_71 (by decide) rfl ?_
  refine r_iushr 73 hp dJ28_numberOfTrailingZeros_72 rfl ?_
  refine r_eqi (nI 1) (by decide) ?_
  refine r_istore_n 74 [(0, .int (nI 1)), (1, .int ((1 + 8) + 2))] hp dJ28_numberOfTrailingZeros_73 rfl (by decide) rfl rfl ?_
  refine r_iload_n 75 1 hp dJ28_numberOfTrailingZeros_74 rfl rfl ?_
  refine r_iload_n 76 0 hp dJ28_numberOfTrailingZeros_75 rfl rfl ?_
  refine r_iconst 77 1 hp dJ28_numberOfTrailingZeros_76 (by decide) rfl ?_
  refine r_iushr 78 hp dJ28_numberOfTrailingZeros_77 rfl ?_
  refine r_eqi (nI 0) (by decide) ?_
  refine r_iadd 79 hp dJ28_numberOfTrailingZeros_78 rfl ?_
  exact hR.1 79 _ _ _ rfl rfl dJ28_numberOfTrailingZeros_79 rfl
set_option maxHeartbeats 2000000 in
theorem cs_ntz_12 (D : DD) (l : Launch) (x : Int32) (hy : (x ^^^ (-1)) &&& (x - 1) = nI 4095)  : Cs D l yJ28_numberOfTrailingZeros cJ28_numberOfTrailingZeros 2 (some .int) 0 0 [.int x] (.int (nI 12)) := by
  refine Cs.of (by decide) (Nat.le_of_ble_eq_true rfl) (fun s H0 A J hJ hR => ?_)
  have hp := hJ.pu H0 0 0
  show J H0 0 0 0 [] [(0, .int x)]
  refine r_iload_n 1 0 hp dJ28_numberOfTrailingZeros_0 rfl rfl ?_
  refine r_iconst 2 (-1) hp dJ28_numberOfTrailingZeros_1 (by decide) rfl ?_
  refine r_ixor 3 hp dJ28_numberOfTrailingZeros_2 rfl ?_
  refine r_iload_n 4 0 hp dJ28_numberOfTrailingZeros_3 rfl rfl ?_
  refine r_iconst 5 1 hp dJ28_numberOfTrailingZeros_4 (by decide) rfl ?_
  refine r_isub 6 hp dJ28_numberOfTrailingZeros_5 rfl ?_
  refine r_iand 7 hp dJ28_numberOfTrailingZeros_6 rfl ?_
  refine r_eqi (nI 4095) (hy) ?_
  refine r_istore_n 8 [(0, .int (nI 4095))] hp dJ28_numberOfTrailingZeros_7 rfl (by decide) rfl rfl ?_
  refine r_iload_n 9 0 hp dJ28_numberOfTrailingZeros_8 rfl rfl ?_
  refine r_if_gt 12 17 hp dJ28_numberOfTrailingZeros_9 (by decide) (fun _ => ?_) rfl (fun c => absurd (by decide) c)
  refine r_iconst 18 1 hp dJ28_numberOfTrailingZeros_17 (by decide) rfl ?_
  refine r_istore_n 19 [(1, .int 1), (0, .int (nI 4095))] hp dJ28_numberOfTrailingZeros_18 rfl (by decide) rfl rfl ?_
  refine r_iload_n 20 1 hp dJ28_numberOfTrailingZeros_19 rfl rfl ?_
  refine r_ldcw 23 hp dJ28_numberOfTrailingZeros_20 q3410 rfl ?_
  refine r_eqi (nI 65536) rfl ?_
  refine r_icmp_leN 4095 65536 26 34 hp dJ28_numberOfTrailingZeros_23 (by omega) (by omega) (by decide) (fun c23 => ?_) rfl (fun c23 => absurd c23 (by decide))
  refine r_iload_n 35 1 hp dJ28_numberOfTrailingZeros_34 rfl rfl ?_
  refine r_sipush 38 256 hp dJ28_numberOfTrailingZeros_35 (by decide) rfl ?_
  refine r_icmp_leN 4095 256 41 49 hp dJ28_numberOfTrailingZeros_38 (by omega) (by omega) (by decide) (fun c38 => absurd c38 (by decide)) rfl (fun c38 => ?_)
  refine r_iinc 44 (1 + 8) 0 [(1, .int (1 + 8)), (0, .int (nI 4095))] hp dJ28_numberOfTrailingZeros_41 rfl rfl (by decide) rfl rfl ?_
  refine r_iload_n 45 1 hp dJ28_numberOfTrailingZeros_44 rfl rfl ?_
  refine r_bipush 47 8 hp dJ28_numberOfTrailingZeros_45 (by decide) rfl ?_
  refine r_iushr 48 hp dJ28_numberOfTrailingZeros_47 rfl ?_
  refine r_eqi (nI 15) (by decide) ?_
  refine r_istore_n 49 [(0, .int (nI 15)), (1, .int (1 + 8))] hp dJ28_numberOfTrailingZeros_48 rfl (by decide) rfl rfl ?_
  refine r_iload_n 50 0 hp dJ28_numberOfTrailingZeros_49 rfl rfl ?_
  refine r_bipush 52 16 hp dJ28_numberOfTrailingZeros_50 (by decide) rfl ?_
  refine r_icmp_leN 15 16 55 62 hp dJ28_numberOfTrailingZeros_52 (by omega) (by omega) (by decide) (fun c52 => ?_) rfl (fun c52 => absurd c52 (by decide))
  refine r_iload_n 63 0 hp dJ28_numberOfTrailingZeros_62 rfl rfl ?_
  refine r_iconst 64 4 hp dJ28_numberOfTrailingZeros_63 (by decide) rfl ?_
  refine r_icmp_leN 15 4 67 74 hp dJ28_numberOfTrailingZeros_64 (by omega) (by omega) (by decide) (fun c64 => absurd c64 (by decide)) rfl (fun c64 => ?_)
  refine r_iinc 70 ((1 + 8) + 2) 1 [(1, .int ((1 + 8) + 2)), (0, .int (nI 15))] hp dJ28_numberOfTrailingZeros_67 rfl rfl (by decide) rfl rfl ?_
  refine r_iload_n 71 1 hp dJ28_numberOfTrailingZeros_70 rfl rfl ?_
  refine r_iconst 72 2 hp dJ28_numberOfTrailingZeros_71 (by decide) rfl ?_
  refine r_iushr 73 hp dJ28_numberOfTrailingZeros_72 rfl ?_
  refine r_eqi (nI 3) (by decide) ?_
  refine r_istore_n 74 [(0, .int (nI 3)), (1, .int ((1 + 8) + 2))] hp dJ28_numberOfTrailingZeros_73 rfl (by decide) rfl rfl ?_
  refine r_iload_n 75 1 hp dJ28_numberOfTrailingZeros_74 rfl rfl ?_
  refine r_iload_n 76 0 hp dJ28_numberOfTrailingZeros_75 rfl rfl ?_
  refine r_iconst 77 1 hp dJ28_numberOfTrailingZeros_76 (by decide) rfl ?_
  refine r_iushr 78 hp dJ28_numberOfTrailingZeros_77 rfl ?_
  refine r_eqi (nI 1) (by decide) ?_
  refine r_iadd 79 hp dJ28_numberOfTrailingZeros_78 rfl ?_
  exact hR.1 79 _ _ _ rfl rfl dJ28_numberOfTrailingZeros_79 rfl
set_option maxHeartbeats 2000000 in
theorem cs_ntz_13 (D : DD) (l : Launch) (x : Int32) (hy : (x ^^^ (-1)) &&& (x - 1) = nI 8191)  : Cs D l yJ28_numberOfTrailingZeros cJ28_numberOfTrailingZeros 2 (some .int) 0 0 [.int x] (.int (nI 13)) := by
  refine Cs.of (by decide) (Nat.le_of_ble_eq_true rfl) (fun s H0 A J hJ hR => ?_)
  have hp := hJ.pu H0 0 0
  show J H0 0 0 0 [] [(0, .int x)]
  refine r_iload_n 1 0 hp dJ28_numberOfTrailingZeros_0 rfl rfl ?_
  refine r_iconst 2 (-1) hp dJ28_numberOfTrailingZeros_1 (by decide) rfl ?_
  refine r_ixor 3 hp dJ28_numberOfTrailingZeros_2 rfl ?_
  refine r_iload_n 4 0 hp dJ28_numberOfTrailingZeros_3 rfl rfl ?_
  refine r_iconst 5 1 hp dJ28_numberOfTrailingZeros_4 (by decide) rfl ?_
  refine r_isub 6 hp dJ28_numberOfTrailingZeros_5 rfl ?_
  refine r_iand 7 hp dJ28_numberOfTrailingZeros_6 rfl ?_
  refine r_eqi (nI 8191) (hy) ?_
  refine r_istore_n 8 [(0, .int (nI 8191))] hp dJ28_numberOfTrailingZeros_7 rfl (by decide) rfl rfl ?_
  refine r_iload_n 9 0 hp dJ28_numberOfTrailingZeros_8 rfl rfl ?_
  refine r_if_gt 12 17 hp dJ28_numberOfTrailingZeros_9 (by decide) (fun _ => ?_) rfl (fun c => absurd (by decide) c)
  refine r_iconst 18 1 hp dJ28_numberOfTrailingZeros_17 (by decide) rfl ?_
  refine r_istore_n 19 [(1, .int 1), (0, .int (nI 8191))] hp dJ28_numberOfTrailingZeros_18 rfl (by decide) rfl rfl ?_
  refine r_iload_n 20 1 hp dJ28_numberOfTrailingZeros_19 rfl rfl ?_
  refine r_ldcw 23 hp dJ28_numberOfTrailingZeros_20 q3410 rfl ?_
  refine r_eqi (nI 65536) rfl ?_
  refine r_icmp_leN 8191 65536 26 34 hp dJ28_numberOfTrailingZeros_23 (by omega) (by omega) (by decide) (fun c23 => ?_) rfl (fun c23 => absurd c23 (by decide))
  refine r_iload_n 35 1 hp dJ28_numberOfTrailingZeros_34 rfl rfl ?_
  refine r_sipush 38 256 hp dJ28_numberOfTrailingZeros_35 (by decide) rfl ?_
  refine r_icmp_leN 8191 256 41 49 hp dJ28_numberOfTrailingZeros_38 (by omega) (by omega) (by decide) (fun c38 => absurd c38 (by decide)) rfl (fun c38 => ?_)
  refine r_iinc 44 (1 + 8) 0 [(1, .int (1 + 8)), (0, .int (nI 8191))] hp dJ28_numberOfTrailingZeros_41 rfl rfl (by decide) rfl rfl ?_
  refine r_iload_n 45 1 hp dJ28_numberOfTrailingZeros_44 rfl rfl ?_
  refine r_bipush 47 8 hp dJ28_numberOfTrailingZeros_45 (by decide) rfl ?_
  refine r_iushr 48 hp dJ28_numberOfTrailingZeros_47 rfl ?_
  refine r_eqi (nI 31) (by decide) ?_
  refine r_istore_n 49 [(0, .int (nI 31)), (1, .int (1 + 8))] hp dJ28_numberOfTrailingZeros_48 rfl (by decide) rfl rfl ?_
  refine r_iload_n 50 0 hp dJ28_numberOfTrailingZeros_49 rfl rfl ?_
  refine r_bipush 52 16 hp dJ28_numberOfTrailingZeros_50 (by decide) rfl ?_
  refine r_icmp_leN 31 16 55 62 hp dJ28_numberOfTrailingZeros_52 (by omega) (by omega) (by decide) (fun c52 => absurd c52 (by decide)) rfl (fun c52 => ?_)
  refine r_iinc 58 ((1 + 8) + 4) 1 [(1, .int ((1 + 8) + 4)), (0, .int (nI 31))] hp dJ28_numberOfTrailingZeros_55 rfl rfl (by decide) rfl rfl ?_
  refine r_iload_n 59 1 hp dJ28_numberOfTrailingZeros_58 rfl rfl ?_
  refine r_iconst 60 4 hp dJ28_numberOfTrailingZeros_59 (by decide) rfl ?_
  refine r_iushr 61 hp dJ28_numberOfTrailingZeros_60 rfl ?_
  refine r_eqi (nI 1) (by decide) ?_
  refine r_istore_n 62 [(0, .int (nI 1)), (1, .int ((1 + 8) + 4))] hp dJ28_numberOfTrailingZeros_61 rfl (by decide) rfl rfl ?_
  refine r_iload_n 63 0 hp dJ28_numberOfTrailingZeros_62 rfl rfl ?_
  refine r_iconst 64 4 hp dJ28_numberOfTrailingZeros_63 (by decide) rfl ?_
  refine r_icmp_leN 1 4 67 74 hp dJ28_numberOfTrailingZeros_64 (by omega) (by omega) (by decide) (fun c64 => ?_) rfl (fun c64 => absurd c64 (by decide))
  refine r_iload_n 75 1 hp dJ28_numberOfTrailingZeros_74 rfl rfl ?_
  refine r_iload_n 76 0 hp dJ28_numberOfTrailingZeros_75 rfl rfl ?_
  refine r_iconst 77 1 hp dJ28_numberOfTrailingZeros_76 (by decide) rfl ?_
  refine r_iushr 78 hp dJ28_numberOfTrailingZeros_77 rfl ?_
  refine r_eqi (nI 0) (by decide) ?_
  refine r_iadd 79 hp dJ28_numberOfTrailingZeros_78 rfl ?_
  exact hR.1 79 _ _ _ rfl rfl dJ28_numberOfTrailingZeros_79 rfl
set_option maxHeartbeats 2000000 in
theorem cs_ntz_14 (D : DD) (l : Launch) (x : Int32) (hy : (x ^^^ (-1)) &&& (x - 1) = nI 16383)  : Cs D l yJ28_numberOfTrailingZeros cJ28_numberOfTrailingZeros 2 (some .int) 0 0 [.int x] (.int (nI 14)) := by
  refine Cs.of (by decide) (Nat.le_of_ble_eq_true rfl) (fun s H0 A J hJ hR => ?_)
  have hp := hJ.pu H0 0 0
  show J H0 0 0 0 [] [(0, .int x)]
  refine r_iload_n 1 0 hp dJ28_numberOfTrailingZeros_0 rfl rfl ?_
  refine r_iconst 2 (-1) hp dJ28_numberOfTrailingZeros_1 (by decide) rfl ?_
  refine r_ixor 3 hp dJ28_numberOfTrailingZeros_2 rfl ?_
  refine r_iload_n 4 0 hp dJ28_numberOfTrailingZeros_3 rfl rfl ?_
  refine r_iconst 5 1 hp dJ28_numberOfTrailingZeros_4 (by decide) rfl ?_
  refine r_isub 6 hp dJ28_numberOfTrailingZeros_5 rfl ?_
  refine r_iand 7 hp dJ28_numberOfTrailingZeros_6 rfl ?_
  refine r_eqi (nI 16383) (hy) ?_
  refine r_istore_n 8 [(0, .int (nI 16383))] hp dJ28_numberOfTrailingZeros_7 rfl (by decide) rfl rfl ?_
  refine r_iload_n 9 0 hp dJ28_numberOfTrailingZeros_8 rfl rfl ?_
  refine r_if_gt 12 17 hp dJ28_numberOfTrailingZeros_9 (by decide) (fun _ => ?_) rfl (fun c => absurd (by decide) c)
  refine r_iconst 18 1 hp dJ28_numberOfTrailingZeros_17 (by decide) rfl ?_
  refine r_istore_n 19 [(1, .int 1), (0, .int (nI 16383))] hp dJ28_numberOfTrailingZeros_18 rfl (by decide) rfl rfl ?_
  refine r_iload_n 20 1 hp dJ28_numberOfTrailingZeros_19 rfl rfl ?_
  refine r_ldcw 23 hp dJ28_numberOfTrailingZeros_20 q3410 rfl ?_
  refine r_eqi (nI 65536) rfl ?_
  refine r_icmp_leN 16383 65536 26 34 hp dJ28_numberOfTrailingZeros_23 (by omega) (by omega) (by decide) (fun c23 => ?_) rfl (fun c23 => absurd c23 (by decide))
  refine r_iload_n 35 1 hp dJ28_numberOfTrailingZeros_34 rfl rfl ?_
  refine r_sipush 38 256 hp dJ28_numberOfTrailingZeros_35 (by decide) rfl ?_
  refine r_icmp_leN 16383 256 41 49 hp dJ28_numberOfTrailingZeros_38 (by omega) (by omega) (by decide) (fun c38 => absurd c38 (by decide)) rfl (fun c38 => ?_)
  refine r_iinc 44 (1 + 8) 0 [(1, .int (1 + 8)), (0, .int (nI 16383))] hp dJ28_numberOfTrailingZeros_41 rfl rfl (by decide) rfl rfl ?_
  refine r_iload_n 45 1 hp dJ28_numberOfTrailingZeros_44 rfl rfl ?_
  refine r_bipush 47 8 hp dJ28_numberOfTrailingZeros_45 (by decide) rfl ?_
  refine r_iushr 48 hp dJ28_numberOfTrailingZeros_47 rfl ?_
  refine r_eqi (nI 63) (by decide) ?_
  refine r_istore_n 49 [(0, .int (nI 63)), (1, .int (1 + 8))] hp dJ28_numberOfTrailingZeros_48 rfl (by decide) rfl rfl ?_
  refine r_iload_n 50 0 hp dJ28_numberOfTrailingZeros_49 rfl rfl ?_
  refine r_bipush 52 16 hp dJ28_numberOfTrailingZeros_50 (by decide) rfl ?_
  refine r_icmp_leN 63 16 55 62 hp dJ28_numberOfTrailingZeros_52 (by omega) (by omega) (by decide) (fun c52 => absurd c52 (by decide)) rfl (fun c52 => ?_)
  refine r_iinc 58 ((1 + 8) + 4) 1 [(1, .int ((1 + 8) + 4)), (0, .int (nI 63))] hp dJ28_numberOfTrailingZeros_55 rfl rfl (by decide) rfl rfl ?_
  refine r_iload_n 59 1 hp dJ28_numberOfTrailingZeros_58 rfl rfl ?_
  refine r_iconst 60 4 hp dJ28_numberOfTrailingZeros_59 (by decide) rfl ?_
  refine r_iushr 61 hp dJ28_numberOfTrailingZeros_60 rfl ?_
  refine r_eqi (nI 3) (by decide) ?_
  refine r_istore_n 62 [(0, .int (nI 3)), (1, .int ((1 + 8) + 4))] hp dJ28_numberOfTrailingZeros_61 rfl (by decide) rfl rfl ?_
  refine r_iload_n 63 0 hp dJ28_numberOfTrailingZeros_62 rfl rfl ?_
  refine r_iconst 64 4 hp dJ28_numberOfTrailingZeros_63 (by decide) rfl ?_
  refine r_icmp_leN 3 4 67 74 hp dJ28_numberOfTrailingZeros_64 (by omega) (by omega) (by decide) (fun c64 => ?_) rfl (fun c64 => absurd c64 (by decide))
  refine r_iload_n 75 1 hp dJ28_numberOfTrailingZeros_74 rfl rfl ?_
  refine r_iload_n 76 0 hp dJ28_numberOfTrailingZeros_75 rfl rfl ?_
  refine r_iconst 77 1 hp dJ28_numberOfTrailingZeros_76 (by decide) rfl ?_
  refine r_iushr 78 hp dJ28_numberOfTrailingZeros_77 rfl ?_
  refine r_eqi (nI 1) (by decide) ?_
  refine r_iadd 79 hp dJ28_numberOfTrailingZeros_78 rfl ?_
  exact hR.1 79 _ _ _ rfl rfl dJ28_numberOfTrailingZeros_79 rfl
set_option maxHeartbeats 2000000 in
theorem cs_ntz_15 (D : DD) (l : Launch) (x : Int32) (hy : (x ^^^ (-1)) &&& (x - 1) = nI 32767)  : Cs D l yJ28_numberOfTrailingZeros cJ28_numberOfTrailingZeros 2 (some .int) 0 0 [.int x] (.int (nI 15)) := by
  refine Cs.of (by decide) (Nat.le_of_ble_eq_true rfl) (fun s H0 A J hJ hR => ?_)
  have hp := hJ.pu H0 0 0
  show J H0 0 0 0 [] [(0, .int x)]
  refine r_iload_n 1 0 hp dJ28_numberOfTrailingZeros_0 rfl rfl ?_
  refine r_iconst 2 (-1) hp dJ28_numberOfTrailingZeros_1 (by decide) rfl ?_
  refine r_ixor 3 hp dJ28_numberOfTrailingZeros_2 rfl ?_
  refine r_iload_n 4 0 hp dJ28_numberOfTrailingZeros_3 rfl rfl ?_
  refine r_iconst 5 1 hp dJ28_numberOfTrailingZeros_4 (by decide) rfl ?_
  refine r_isub 6 hp dJ28_numberOfTrailingZeros_5 rfl ?_
  refine r_iand 7 hp dJ28_numberOfTrailingZeros_6 rfl ?_
  refine r_eqi (nI 32767) (hy) ?_
  refine r_istore_n 8 [(0, .int (nI 32767))] hp dJ28_numberOfTrailingZeros_7 rfl (by decide) rfl rfl ?_
  refine r_iload_n 9 0 hp dJ28_numberOfTrailingZeros_8 rfl rfl ?_
  refine r_if_gt 12 17 hp dJ28_numberOfTrailingZeros_9 (by decide) (fun _ => ?_) rfl (fun c => absurd (by decide) c)
  refine r_iconst 18 1 hp dJ28_numberOfTrailingZeros_17 (by decide) rfl ?_
  refine r_istore_n 19 [(1, .int 1), (0, .int (nI 32767))] hp dJ28_numberOfTrailingZeros_18 rfl (by decide) rfl rfl ?_
  refine r_iload_n 20 1 hp dJ28_numberOfTrailingZeros_19 rfl rfl ?_
  refine r_ldcw 23 hp dJ28_numberOfTrailingZeros_20 q3410 rfl ?_
  refine r_eqi (nI 65536) rfl ?_
  refine r_icmp_leN 32767 65536 26 34 hp dJ28_numberOfTrailingZeros_23 (by omega) (by omega) (by decide) (fun c23 => ?_) rfl (fun c23 => absurd c23 (by decide))
  refine r_iload_n 35 1 hp dJ28_numberOfTrailingZeros_34 rfl rfl ?_
  refine r_sipush 38 256 hp dJ28_numberOfTrailingZeros_35 (by decide) rfl ?_
  refine r_icmp_leN 32767 256 41 49 hp dJ28_numberOfTrailingZeros_38 (by omega) (by omega) (by decide) (fun c38 => absurd c38 (by decide)) rfl (fun c38 => ?_)
  refine r_iinc 44 (1 + 8) 0 [(1, .int (1 + 8)), (0, .int (nI 32767))] hp dJ28_numberOfTrailingZeros_41 rfl rfl (by decide) rfl rfl ?_
  refine r_iload_n 45 1 hp dJ28_numberOfTrailingZeros_44 rfl rfl ?_
  refine r_bipush 47 8 hp dJ28_numberOfTrailingZeros_45 (by decide) rfl ?_
  refine r_iushr 48 hp dJ28_numberOfTrailingZeros_47 rfl ?_
  refine r_eqi (nI 127) (by decide) ?_
  refine r_istore_n 49 [(0, .int (nI 127)), (1, .int (1 + 8))] hp dJ28_numberOfTrailingZeros_48 rfl (by decide) rfl rfl ?_
  refine r_iload_n 50 0 hp dJ28_numberOfTrailingZeros_49 rfl rfl ?_
  refine r_bipush 52 16 hp dJ28_numberOfTrailingZeros_50 (by decide) rfl ?_
  refine r_icmp_leN 127 16 55 62 hp dJ28_numberOfTrailingZeros_52 (by omega) (by omega) (by decide) (fun c52 => absurd c52 (by decide)) rfl (fun c52 => ?_)
  refine r_iinc 58 ((1 + 8) + 4) 1 [(1, .int ((1 + 8) + 4)), (0, .int (nI 127))] hp dJ28_numberOfTrailingZeros_55 rfl rfl (by decide) rfl rfl ?_
  refine r_iload_n 59 1 hp dJ28_numberOfTrailingZeros_58 rfl rfl ?_
  refine r_iconst 60 4 hp dJ28_numberOfTrailingZeros_59 (by decide) rfl ?_
  refine r_iushr 61 hp dJ28_numberOfTrailingZeros_60 rfl ?_
  refine r_eqi (nI 7) (by decide) ?_
  refine r_istore_n 62 [(0, .int (nI 7)), (1, .int ((1 + 8) + 4))] hp dJ28_numberOfTrailingZeros_61 rfl (by decide) rfl rfl ?_
  refine r_iload_n 63 0 hp dJ28_numberOfTrailingZeros_62 rfl rfl ?_
  refine r_iconst 64 4 hp dJ28_numberOfTrailingZeros_63 (by decide) rfl ?_
  refine r_icmp_leN 7 4 67 74 hp dJ28_numberOfTrailingZeros_64 (by omega) (by omega) (by decide) (fun c64 => absurd c64 (by decide)) rfl (fun c64 => ?_)
  refine r_iinc 70 (((1 + 8) + 4) + 2) 1 [(1, .int (((1 + 8) + 4) + 2)), (0, .int (nI 7))] hp dJ28_numberOfTrailingZeros_67 rfl rfl (by decide) rfl rfl ?_
  refine r_iload_n 71 1 hp dJ28_numberOfTrailingZeros_70 rfl rfl ?_
  refine r_iconst 72 2 hp dJ28_numberOfTrailingZeros_71 (by decide) rfl ?_
  refine r_iushr 73 hp dJ28_numberOfTrailingZeros_72 rfl ?_
  refine r_eqi (nI 1) (by decide) ?_
  refine r_istore_n 74 [(0, .int (nI 1)), (1, .int (((1 + 8) + 4) + 2))] hp dJ28_numberOfTrailingZeros_73 rfl (by decide) rfl rfl ?_
  refine r_iload_n 75 1 hp dJ28_numberOfTrailingZeros_74 rfl rfl ?_
  refine r_iload_n 76 0 hp dJ28_numberOfTrailingZeros_75 rfl rfl ?_
  refine r_iconst 77 1 hp dJ28_numberOfTrailingZeros_76 (by decide) rfl ?_
  refine r_iushr 78 hp dJ28_numberOfTrailingZeros_77 rfl ?_
  refine r_eqi (nI 0) (by decide) ?_
  refine r_iadd 79 hp dJ28_numberOfTrailingZeros_78 rfl ?_
  exact hR.1 79 _ _ _ rfl rfl dJ28_numberOfTrailingZeros_79 rfl
set_option maxHeartbeats 2000000 in
theorem cs_ntz_16 (D : DD) (l : Launch) (x : Int32) (hy : (x ^^^ (-1)) &&& (x - 1) = nI 65535)  : Cs D l yJ28_numberOfTrailingZeros cJ28_numberOfTrailingZeros 2 (some .int) 0 0 [.int x] (.int (nI 16)) := by
  refine Cs.of (by decide) (Nat.le_of_ble_eq_true rfl) (fun s H0 A J hJ hR => ?_)
  have hp := hJ.pu H0 0 0
  show J H0 0 0 0 [] [(0, .int x)]
  refine r_iload_n 1 0 hp dJ28_numberOfTrailingZeros_0 rfl rfl ?_
  refine r_iconst 2 (-1) hp dJ28_numberOfTrailingZeros_1 (by decide) rfl ?_
  refine r_ixor 3 hp dJ28_numberOfTrailingZeros_2 rfl ?_
  refine r_iload_n 4 0 hp dJ28_numberOfTrailingZeros_3 rfl rfl ?_
  refine r_iconst 5 1 hp dJ28_numberOfTrailingZeros_4 (by decide) rfl ?_
  refine r_isub 6 hp dJ28_numberOfTrailingZeros_5 rfl ?_
  refine r_iand 7 hp dJ28_numberOfTrailingZeros_6 rfl ?_
  refine r_eqi (nI 65535) (hy) ?_
  refine r_istore_n 8 [(0, .int (nI 65535))] hp dJ28_numberOfTrailingZeros_7 rfl (by decide) rfl rfl ?_
  refine r_iload_n 9 0 hp dJ28_numberOfTrailingZeros_8 rfl rfl ?_
  refine r_if_gt 12 17 hp dJ28_numberOfTrailingZeros_9 (by decide) (fun _ => ?_) rfl (fun c => absurd (by decide) c)
  refine r_iconst 18 1 hp dJ28_numberOfTrailingZeros_17 (by decide) rfl ?_
  refine r_istore_n 19 [(1, .int 1), (0, .int (nI 65535))] hp dJ28_numberOfTrailingZeros_18 rfl (by decide) rfl rfl ?_
  refine r_iload_n 20 1 hp dJ28_numberOfTrailingZeros_19 rfl rfl ?_
  refine r_ldcw 23 hp dJ28_numberOfTrailingZeros_20 q3410 rfl ?_
  refine r_eqi (nI 65536) rfl ?_
  refine r_icmp_leN 65535 65536 26 34 hp dJ28_numberOfTrailingZeros_23 (by omega) (by omega) (by decide) (fun c23 => ?_) rfl (fun c23 => absurd c23 (by decide))
  refine r_iload_n 35 1 hp dJ28_numberOfTrailingZeros_34 rfl rfl ?_
  refine r_sipush 38 256 hp dJ28_numberOfTrailingZeros_35 (by decide) rfl ?_
  refine r_icmp_leN 65535 256 41 49 hp dJ28_numberOfTrailingZeros_38 (by omega) (by omega) (by decide) (fun c38 => absurd c38 (by decide)) rfl (fun c38 => ?_)
  refine r_iinc 44 (1 + 8) 0 [(1, .int (1 + 8)), (0, .int (nI 65535))] hp dJ28_numberOfTrailingZeros_41 rfl rfl (by decide) rfl rfl ?_
  refine r_iload_n 45 1 hp dJ28_numberOfTrailingZeros_44 rfl rfl ?_
  refine r_bipush 47 8 hp dJ28_numberOfTrailingZeros_45 (by decide) rfl ?_
  refine r_iushr 48 hp dJ28_numberOfTrailingZeros_47 rfl ?_
  refine r_eqi (nI 255) (by decide) ?_
  refine r_istore_n 49 [(0, .int (nI 255)), (1, .int (1 + 8))] hp dJ28_numberOfTrailingZeros_48 rfl (by decide) rfl rfl ?_
  refine r_iload_n 50 0 hp dJ28_numberOfTrailingZeros_49 rfl rfl ?_
  refine r_bipush 52 16 hp dJ28_numberOfTrailingZeros_50 (by decide) rfl ?_
  refine r_icmp_leN 255 16 55 62 hp dJ28_numberOfTrailingZeros_52 (by omega) (by omega) (by decide) (fun c52 => absurd c52 (by decide)) rfl (fun c52 => ?_)
  refine r_iinc 58 ((1 + 8) + 4) 1 [(1, .int ((1 + 8) + 4)), (0, .int (nI 255))] hp dJ28_numberOfTrailingZeros_55 rfl rfl (by decide) rfl rfl ?_
  refine r_iload_n 59 1 hp dJ28_numberOfTrailingZeros_58 rfl rfl ?_
  refine r_iconst 60 4 hp dJ28_numberOfTrailingZeros_59 (by decide) rfl ?_
  refine r_iushr 61 hp dJ28_numberOfTrailingZeros_60 rfl ?_
  refine r_eqi (nI 15) (by decide) ?_
  refine r_istore_n 62 [(0, .int (nI 15)), (1, .int ((1 + 8) + 4))] hp dJ28_numberOfTrailingZeros_61 rfl (by decide) rfl rfl ?_
  refine r_iload_n 63 0 hp dJ28_numberOfTrailingZeros_62 rfl rfl ?_
  refine r_iconst 64 4 hp dJ28_numberOfTrailingZeros_63 (by decide) rfl ?_
  refine r_icmp_leN 15 4 67 74 hp dJ28_numberOfTrailingZeros_64 (by omega) (by omega) (by decide) (fun c64 => absurd c64 (by decide)) rfl (fun c64 => ?_)
  refine r_iinc 70 (((1 + 8) + 4) + 2) 1 [(1, .int (((1 + 8) + 4) + 2)), (0, .int (nI 15))] hp dJ28_numberOfTrailingZeros_67 rfl rfl (by decide) rfl rfl ?_
  refine r_iload_n 71 1 hp dJ28_numberOfTrailingZeros_70 rfl rfl ?_
  refine r_iconst 72 2 hp dJ28_numberOfTrailingZeros_71 (by decide) rfl ?_
  refine r_iushr 73 hp dJ28_numberOfTrailingZeros_72 rfl ?_
  refine r_eqi (nI 3) (by decide) ?_
  refine r_istore_n 74 [(0, .int (nI 3)), (1, .int (((1 + 8) + 4) + 2))] hp dJ28_numberOfTrailingZeros_73 rfl (by decide) rfl rfl ?_
  refine r_iload_n 75 1 hp dJ28_numberOfTrailingZeros_74 rfl rfl ?_
  refine r_iload_n 76 0 hp dJ28_numberOfTrailingZeros_75 rfl rfl ?_
  refine r_iconst 77 1 hp dJ28_numberOfTrailingZeros_76 (by decide) rfl ?_
  refine r_iushr 78 hp dJ28_numberOfTrailingZeros_77 rfl ?_
  refine r_eqi (nI 1) (by decide) ?_
  refine r_iadd 79 hp dJ28_numberOfTrailingZeros_78 rfl ?_
  exact hR.1 79 _ _ _ rfl rfl dJ28_numberOfTrailingZeros_79 rfl
set_option maxHeartbeats 2000000 in
theorem cs_ntz_17 (D : DD) (l : Launch) (x : Int32) (hy : (x ^^^ (-1)) &&& (x - 1) = nI 131071)  : Cs D l yJ28_numberOfTrailingZeros cJ28_numberOfTrailingZeros 2 (some .int) 0 0 [.int x] (.int (nI 17)) := by
  refine Cs.of (by decide) (Nat.le_of_ble_eq_true rfl) (fun s H0 A J hJ hR => ?_)
  have hp := hJ.pu H0 0 0
  show J H0 0 0 0 [] [(0, .int x)]
  refine r_iload_n 1 0 hp dJ28_numberOfTrailingZeros_0 rfl rfl ?_
  refine r_iconst 2 (-1) hp dJ28_numberOfTrailingZeros_1 (by decide) rfl ?_
  refine r_ixor 3 hp dJ28_numberOfTrailingZeros_2 rfl ?_
  refine r_iload_n 4 0 hp dJ28_numberOfTrailingZeros_3 rfl rfl ?_
  refine r_iconst 5 1 hp dJ28_numberOfTrailingZeros_4 (by decide) rfl ?_
  refine r_isub 6 hp dJ28_numberOfTrailingZeros_5 rfl ?_
  refine r_iand 7 hp dJ28_numberOfTrailingZeros_6 rfl ?_
  refine r_eqi (nI 131071) (hy) ?_
  refine r_istore_n 8 [(0, .int (nI 131071))] hp dJ28_numberOfTrailingZeros_7 rfl (by decide) rfl rfl ?_
  refine r_iload_n 9 0 hp dJ28_numberOfTrailingZeros_8 rfl rfl ?_
  refine r_if_gt 12 17 hp dJ28_numberOfTrailingZeros_9 (by decide) (fun _ => ?_) rfl (fun c => absurd (by decide) c)
  refine r_iconst 18 1 hp dJ28_numberOfTrailingZeros_17 (by decide) rfl ?_
  refine r_istore_n 19 [(1, .int 1), (0, .int (nI 131071))] hp dJ28_numberOfTrailingZeros_18 rfl (by decide) rfl rfl ?_
  refine r_iload_n 20 1 hp dJ28_numberOfTrailingZeros_19 rfl rfl ?_
  refine r_ldcw 23 hp dJ28_numberOfTrailingZeros_20 q3410 rfl ?_
  refine r_eqi (nI 65536) rfl ?_
  refine r_icmp_leN 131071 65536 26 34 hp dJ28_numberOfTrailingZeros_23 (by omega) (by omega) (by decide) (fun c23 => absurd c23 (by decide)) rfl (fun c23 => ?_)
  refine r_iinc 29 (1 + 16) 0 [(1, .int (1 + 16)), (0, .int (nI 131071))] hp dJ28_numberOfTrailingZeros_26 rfl rfl (by decide) rfl rfl ?_
  refine r_iload_n 30 1 hp dJ28_numberOfTrailingZeros_29 rfl rfl ?_
  refine r_bipush 32 16 hp dJ28_numberOfTrailingZeros_30 (by decide) rfl ?_
  refine r_iushr 33 hp dJ28_numberOfTrailingZeros_32 rfl ?_
  refine r_eqi (nI 1) (by decide) ?_
  refine r_istore_n 34 [(0, .int (nI 1)), (1, .int (1 + 16))] hp dJ28_numberOfTrailingZeros_33 rfl (by decide) rfl rfl ?_
  refine r_iload_n 35 0 hp dJ28_numberOfTrailingZeros_34 rfl rfl ?_
  refine r_sipush 38 256 hp dJ28_numberOfTrailingZeros_35 (by decide) rfl ?_
  refine r_icmp_leN 1 256 41 49 hp dJ28_numberOfTrailingZeros_38 (by omega) (by omega) (by decide) (fun c38 => ?_) rfl (fun c38 => absurd c38 (by decide))
  refine r_iload_n 50 0 hp dJ28_numberOfTrailingZeros_49 rfl rfl ?_
  refine r_bipush 52 16 hp dJ28_numberOfTrailingZeros_50 (by decide) rfl ?_
  refine r_icmp_leN 1 16 55 62 hp dJ28_numberOfTrailingZeros_52 (by omega) (by omega) (by decide) (fun c52 => ?_) rfl (fun c52 => absurd c52 (by decide))
  refine r_iload_n 63 0 hp dJ28_numberOfTrailingZeros_62 rfl rfl ?_
  refine r_iconst 64 4 hp dJ28_numberOfTrailingZeros_63 (by decide) rfl ?_
  refine r_icmp_leN 1 4 67 74 hp dJ28_numberOfTrailingZeros_64 (by omega) (by omega) (by decide) (fun c64 => ?_) rfl (fun c64 => absurd c64 (by decide))
  refine r_iload_n 75 1 hp dJ28_numberOfTrailingZeros_74 rfl rfl ?_
  refine r_iload_n 76 0 hp dJ28_numberOfTrailingZeros_75 rfl rfl ?_
  refine r_iconst 77 1 hp dJ28_numberOfTrailingZeros_76 (by decide) rfl ?_
  refine r_iushr 78 hp dJ28_numberOfTrailingZeros_77 rfl ?_
  refine r_eqi (nI 0) (by decide) ?_
  refine r_iadd 79 hp dJ28_numberOfTrailingZeros_78 rfl ?_
  exact hR.1 79 _ _ _ rfl rfl dJ28_numberOfTrailingZeros_79 rfl
set_option maxHeartbeats 2000000 in
theorem cs_ntz_18 (D : DD) (l : Launch) (x : Int32) (hy : (x ^^^ (-1)) &&& (x - 1) = nI 262143)  : Cs D l yJ28_numberOfTrailingZeros cJ28_numberOfTrailingZeros 2 (some .int) 0 0 [.int x] (.int (nI 18)) := by
  refine Cs.of (by decide) (Nat.le_of_ble_eq_true rfl) (fun s H0 A J hJ hR => ?_)
  have hp := hJ.pu H0 0 0
  show J H0 0 0 0 [] [(0, .int x)]
  refine r_iload_n 1 0 hp dJ28_numberOfTrailingZeros_0 rfl rfl ?_
  refine r_iconst 2 (-1) hp dJ28_numberOfTrailingZeros_1 (by decide) rfl ?_
  refine r_ixor 3 hp dJ28_numberOfTrailingZeros_2 rfl ?_
  refine r_iload_n 4 0 hp dJ28_numberOfTrailingZeros_3 rfl rfl ?_
  refine r_iconst 5 1 hp dJ28_numberOfTrailingZeros_4 (by decide) rfl ?_
  refine r_isub 6 hp dJ28_numberOfTrailingZeros_5 rfl ?_
  refine r_iand 7 hp dJ28_numberOfTrailingZeros_6 rfl ?_
  refine r_eqi (nI 262143) (hy) ?_
  refine r_istore_n 8 [(0, .int (nI 262143))] hp dJ28_numberOfTrailingZeros_7 rfl (by decide) rfl rfl ?_
  refine r_iload_n 9 0 hp dJ28_numberOfTrailingZeros_8 rfl rfl ?_
  refine r_if_gt 12 17 hp dJ28_numberOfTrailingZeros_9 (by decide) (fun _ => ?_) rfl (fun c => absurd (by decide) c)
  refine r_iconst 18 1 hp dJ28_numberOfTrailingZeros_17 (by decide) rfl ?_
  refine r_istore_n 19 [(1, .int 1), (0, .int (nI 262143))] hp dJ28_numberOfTrailingZeros_18 rfl (by decide) rfl rfl ?_
  refine r_iload_n 20 1 hp dJ28_numberOfTrailingZeros_19 rfl rfl ?_
  refine r_ldcw 23 hp dJ28_numberOfTrailingZeros_20 q3410 rfl ?_
  refine r_eqi (nI 65536) rfl ?_
  refine r_icmp_leN 262143 65536 26 34 hp dJ28_numberOfTrailingZeros_23 (by omega) (by omega) (by decide) (fun c23 => absurd c23 (by decide)) rfl (fun c23 => ?_)
  refine r_iinc 29 (1 + 16) 0 [(1, .int (1 + 16)), (0, .int (nI 262143))] hp dJ28_numberOfTrailingZeros_26 rfl rfl (by decide) rfl rfl ?_
  refine r_iload_n 30 1 hp dJ28_numberOfTrailingZeros_29 rfl rfl ?_
  refine r_bipush 32 16 hp dJ28_numberOfTrailingZeros_30 (by decide) rfl ?_
  refine r_iushr 33 hp dJ28_numberOfTrailingZeros_32 rfl ?_
  refine r_eqi (nI 3) (by decide) ?_
  refine r_istore_n 34 [(0, .int (nI 3)), (1, .int (1 + 16))] hp dJ28_numberOfTrailingZeros_33 rfl (by decide) rfl rfl ?_
  refine r_iload_n 35 0 hp dJ28_numberOfTrailingZeros_34 rfl rfl ?_
  refine r_sipush 38 256 hp dJ28_numberOfTrailingZeros_35 (by decide) rfl ?_
  refine r_icmp_leN 3 256 41 49 hp dJ28_numberOfTrailingZeros_38 (by omega) (by omega) (by decide) (fun c38 => ?_) rfl (fun c38 => absurd c38 (by decide))
  refine r_iload_n 50 0 hp dJ28_numberOfTrailingZeros_49 rfl rfl ?_
  refine r_bipush 52 16 hp dJ28_numberOfTrailingZeros_50 (by decide) rfl ?_
  refine r_icmp_leN 3 16 55 62 hp dJ28_numberOfTrailingZeros_52 (by omega) (by omega) (by decide) (fun c52 => ?_) rfl (fun c52 => absurd c52 (by decide))
  refine r_iload_n 63 0 hp dJ28_numberOfTrailingZeros_62 rfl rfl ?_
  refine r_iconst 64 4 hp dJ28_numberOfTrailingZeros_63 (by decide) rfl ?_
  refine r_icmp_leN 3 4 67 74 hp dJ28_numberOfTrailingZeros_64 (by omega) (by omega) (by decide) (fun c64 => ?_) rfl (fun c64 => absurd c64 (by decide))
  refine r_iload_n 75 1 hp dJ28_numberOfTrailingZeros_74 rfl rfl ?_
  refine r_iload_n 76 0 hp dJ28_numberOfTrailingZeros_75 rfl rfl ?_
  refine r_iconst 77 1 hp dJ28_numberOfTrailingZeros_76 (by decide) rfl ?_
  refine r_iushr 78 hp dJ28_numberOfTrailingZeros_77 rfl ?_
  refine r_eqi (nI 1) (by decide) ?_
  refine r_iadd 79 hp dJ28_numberOfTrailingZeros_78 rfl ?_
  exact hR.1 79 _ _ _ rfl rfl dJ28_numberOfTrailingZeros_79 rfl
set_option maxHeartbeats 2000000 in
theorem cs_ntz_19 (D : DD) (l : Launch) (x : Int32) (hy : (x ^^^ (-1)) &&& (x - 1) = nI 524287)  : Cs D l yJ28_numberOfTrailingZeros cJ28_numberOfTrailingZeros 2 (some .int) 0 0 [.int x] (.int (nI 19)) := by
  refine Cs.of (by decide) (Nat.le_of_ble_eq_true rfl) (fun s H0 A J hJ hR => ?_)
  have hp := hJ.pu H0 0 0
  show J H0 0 0 0 [] [(0, .int x)]
  refine r_iload_n 1 0 hp dJ28_numberOfTrailingZeros_0 rfl rfl ?_
  refine r_iconst 2 (-1) hp dJ28_numberOfTrailingZeros_1 (by decide) rfl ?_
  refine r_ixor 3 hp dJ28_numberOfTrailingZeros_2 rfl ?_
  refine r_iload_n 4 0 hp dJ28_numberOfTrailingZeros_3 rfl rfl ?_
  refine r_iconst 5 1 hp dJ28_numberOfTrailingZeros_4 (by decide) rfl ?_
  refine r_isub 6 hp dJ28_numberOfTrailingZeros_5 rfl ?_
  refine r_iand 7 hp dJ28_numberOfTrailingZeros_6 rfl ?_
  refine r_eqi (nI 524287) (hy) ?_
  refine r_istore_n 8 [(0, .int (nI 524287))] hp dJ28_numberOfTrailingZeros_7 rfl (by decide) rfl rfl ?_
  refine r_iload_n 9 0 hp dJ28_numberOfTrailingZeros_8 rfl rfl ?_
  refine r_if_gt 12 17 hp dJ28_numberOfTrailingZeros_9 (by decide) (fun _ => ?_) rfl (fun c => absurd (by decide) c)
  refine r_iconst 18 1 hp dJ28_numberOfTrailingZeros_17 (by decide) rfl ?_
  refine r_istore_n 19 [(1, .int 1), (0, .int (nI 524287))] hp dJ28_numberOfTrailingZeros_18 rfl (by decide) rfl rfl ?_
  refine r_iload_n 20 1 hp dJ28_numberOfTrailingZeros_19 rfl rfl ?_
  refine r_ldcw 23 hp dJ28_numberOfTrailingZeros_20 q3410 rfl ?_
  refine r_eqi (nI 65536) rfl ?_
  refine r_icmp_leN 524287 65536 26 34 hp dJ28_numberOfTrailingZeros_23 (by omega) (by omega) (by decide) (fun c23 => absurd c23 (by decide)) rfl (fun c23 => ?_)
  refine r_iinc 29 (1 + 16) 0 [(1, .int (1 + 16)), (0, .int (nI 524287))] hp dJ28_numberOfTrailingZeros_26 rfl rfl (by decide) rfl rfl ?_
  refine r_iload_n 30 1 hp dJ28_numberOfTrailingZeros_29 rfl rfl ?_
  refine r_bipush 32 16 hp dJ28_numberOfTrailingZeros_30 (by decide) rfl ?_
  refine r_iushr 33 hp dJ28_numberOfTrailingZeros_32 rfl ?_
  refine r_eqi (nI 7) (by decide) ?_
  refine r_istore_n 34 [(0, .int (nI 7)), (1, .int (1 + 16))] hp dJ28_numberOfTrailingZeros_33 rfl (by decide) rfl rfl ?_
  refine r_iload_n 35 0 hp dJ28_numberOfTrailingZeros_34 rfl rfl ?_
  refine r_sipush 38 256 hp dJ28_numberOfTrailingZeros_35 (by decide) rfl ?_
  refine r_icmp_leN 7 256 41 49 hp dJ28_numberOfTrailingZeros_38 (by omega) (by omega) (by decide) (fun c38 => ?_) rfl (fun c38 => absurd c38 (by decide))
  refine r_iload_n 50 0 hp dJ28_numberOfTrailingZeros_49 rfl rfl ?_
  refine r_bipush 52 16 hp dJ28_numberOfTrailingZeros_50 (by decide) rfl ?_
  refine r_icmp_leN 7 16 55 62 hp dJ28_numberOfTrailingZeros_52 (by omega) (by omega) (by decide) (fun c52 => ?_) rfl (fun c52 => absurd c52 (by decide))
  refine r_iload_n 63 0 hp dJ28_numberOfTrailingZeros_62 rfl rfl ?_
  refine r_iconst 64 4 hp dJ28_numberOfTrailingZeros_63 (by decide) rfl ?_
  refine r_icmp_leN 7 4 67 74 hp dJ28_numberOfTrailingZeros_64 (by omega) (by omega) (by decide) (fun c64 => absurd c64 (by decide)) rfl (fun c64 => ?_)
  refine r_iinc 70 ((1 + 16) + 2) 1 [(1, .int ((1 + 16) + 2)), (0, .int (nI 7))] hp dJ28_numberOfTrailingZeros_67 rfl rfl (by decide) rfl rfl ?_
  refine r_iload_n 71 1 hp dJ28_numberOfTrailingZeros_70 rfl rfl ?_
  refine r_iconst 72 2 hp dJ28_numberOfTrailingZeros_71 (by decide) rfl ?_
  refine r_iushr 73 hp dJ28_numberOfTrailingZeros_72 rfl ?_
  refine r_eqi (nI 1) (by decide) ?_
  refine r_istore_n 74 [(0, .int (nI 1)), (1, .int ((1 + 16) + 2))] hp dJ28_numberOfTrailingZeros_73 rfl (by decide) rfl rfl ?_
  refine r_iload_n 75 1 hp dJ28_numberOfTrailingZeros_74 rfl rfl ?_
  refine r_iload_n 76 0 hp dJ28_numberOfTrailingZeros_75 rfl rfl ?_
  refine r_iconst 77 1 hp dJ28_numberOfTrailingZeros_76 (by decide) rfl ?_
  refine r_iushr 78 hp dJ28_numberOfTrailingZeros_77 rfl ?_
  refine r_eqi (nI 0) (by decide) ?_
  refine r_iadd 79 hp dJ28_numberOfTrailingZeros_78 rfl ?_
  exact hR.1 79 _ _ _ rfl rfl dJ28_numberOfTrailingZeros_79 rfl
set_option maxHeartbeats 2000000 in
theorem cs_ntz_20 (D : DD) (l : Launch) (x : Int32) (hy : (x ^^^ (-1)) &&& (x - 1) = nI 1048575)  : Cs D l yJ28_numberOfTrailingZeros cJ28_numberOfTrailingZeros 2 (some .int) 0 0 [.int x] (.int (nI 20)) := by
  refine Cs.of (by decide) (Nat.le_of_ble_eq_true rfl) (fun s H0 A J hJ hR => ?_)
  have hp := hJ.pu H0 0 0
  show J H0 0 0 0 [] [(0, .int x)]
  refine r_iload_n 1 0 hp dJ28_numberOfTrailingZeros_0 rfl rfl ?_
  refine r_iconst 2 (-1) hp dJ28_numberOfTrailingZeros_1 (by decide) rfl ?_
  refine r_ixor 3 hp dJ28_numberOfTrailingZeros_2 rfl ?_
  refine r_iload_n 4 0 hp dJ28_numberOfTrailingZeros_3 rfl rfl ?_
  refine r_iconst 5 1 hp dJ28_numberOfTrailingZeros_4 (by decide) rfl ?_
  refine r_isub 6 hp dJ28_numberOfTrailingZeros_5 rfl ?_
  refine r_iand 7 hp dJ28_numberOfTrailingZeros_6 rfl ?_
  refine r_eqi (nI 1048575) (hy) ?_
  refine r_istore_n 8 [(0, .int (nI 1048575))] hp dJ28_numberOfTrailingZeros_7 rfl (by decide) rfl rfl ?_
  refine r_iload_n 9 0 hp dJ28_numberOfTrailingZeros_8 rfl rfl ?_
  refine r_if_gt 12 17 hp dJ28_numberOfTrailingZeros_9 (by decide) (fun _ => ?_) rfl (fun c => absurd (by decide) c)
  refine r_iconst 18 1 hp dJ28_numberOfTrailingZeros_17 (by decide) rfl ?_
  refine r_istore_n 19 [(1, .int 1), (0, .int (nI 1048575))] hp dJ28_numberOfTrailingZeros_18 rfl (by decide) rfl rfl ?_
  refine r_iload_n 20 1 hp dJ28_numberOfTrailingZeros_19 rfl rfl ?_
  refine r_ldcw 23 hp dJ28_numberOfTrailingZeros_20 q3410 rfl ?_
  refine r_eqi (nI 65536) rfl ?_
  refine r_icmp_leN 1048575 65536 26 34 hp dJ28_numberOfTrailingZeros_23 (by omega) (by omega) (by decide) (fun c23 => absurd c23 (by decide)) rfl (fun c23 => ?_)
  refine r_iinc 29 (1 + 16) 0 [(1, .int (1 + 16)), (0, .int (nI 1048575))] hp dJ28_numberOfTrailingZeros_26 rfl rfl (by decide) rfl rfl ?_
  refine r_iload_n 30 1 hp dJ28_numberOfTrailingZeros_29 rfl rfl ?_
  refine r_bipush 32 16 hp dJ28_numberOfTrailingZeros_30 (by decide) rfl ?_
  refine r_iushr 33 hp dJ28_numberOfTrailingZeros_32 rfl ?_
  refine r_eqi (nI 15) (by decide) ?_
  refine r_istore_n 34 [(0, .int (nI 15)), (1, .int (1 + 16))] hp dJ28_numberOfTrailingZeros_33 rfl (by decide) rfl rfl ?_
  refine r_iload_n 35 0 hp dJ28_numberOfTrailingZeros_34 rfl rfl ?_
  refine r_sipush 38 256 hp dJ28_numberOfTrailingZeros_35 (by decide) rfl ?_
  refine r_icmp_leN 15 256 41 49 hp dJ28_numberOfTrailingZeros_38 (by omega) (by omega) (by decide) (fun c38 => ?_) rfl (fun c38 => absurd c38 (by decide))
  refine r_iload_n 50 0 hp dJ28_numberOfTrailingZeros_49 rfl rfl ?_
  refine r_bipush 52 16 hp dJ28_numberOfTrailingZeros_50 (by decide) rfl ?_
  refine r_icmp_leN 15 16 55 62 hp dJ28_numberOfTrailingZeros_52 (by omega) (by omega) (by decide) (fun c52 => ?_) rfl (fun c52 => absurd c52 (by decide))
  refine r_iload_n 63 0 hp dJ28_numberOfTrailingZeros_62 rfl rfl ?_
  refine r_iconst 64 4 hp dJ28_numberOfTrailingZeros_63 (by decide) rfl ?_
  refine r_icmp_leN 15 4 67 74 hp dJ28_numberOfTrailingZeros_64 (by omega) (by omega) (by decide) (fun c64 => absurd c64 (by decide)) rfl (fun c64 => ?_)
  refine r_iinc 70 ((1 + 16) + 2) 1 [(1, .int ((1 + 16) + 2)), (0, .int (nI 15))] hp dJ28_numberOfTrailingZeros_67 rfl rfl (by decide) rfl rfl ?_
  refine r_iload_n 71 1 hp dJ28_numberOfTrailingZeros_70 rfl rfl ?_
  refine r_iconst 72 2 hp dJ28_numberOfTrailingZeros_71 (by decide) rfl ?_
  refine r_iushr 73 hp dJ28_numberOfTrailingZeros_72 rfl ?_
  refine r_eqi (nI 3) (by decide) ?_
  refine r_istore_n 74 [(0, .int (nI 3)), (1, .int ((1 + 16) + 2))] hp dJ28_numberOfTrailingZeros_73 rfl (by decide) rfl rfl ?_
  refine r_iload_n 75 1 hp dJ28_numberOfTrailingZeros_74 rfl rfl ?_
  refine r_iload_n 76 0 hp dJ28_numberOfTrailingZeros_75 rfl rfl ?_
  refine r_iconst 77 1 hp dJ28_numberOfTrailingZeros_76 (by decide) rfl ?_
  refine r_iushr 78 hp dJ28_numberOfTrailingZeros_77 rfl ?_
  refine r_eqi (nI 1) (by decide) ?_
  refine r_iadd 79 hp dJ28_numberOfTrailingZeros_78 rfl ?_
  exact hR.1 79 _ _ _ rfl rfl dJ28_numberOfTrailingZeros_79 rfl
set_option maxHeartbeats 2000000 in
theorem cs_ntz_21 (D : DD) (l : Launch) (x : Int32) (hy : (x ^^^ (-1)) &&& (x - 1) = nI 2097151)  : Cs D l yJ28_numberOfTrailingZeros cJ28_numberOfTrailingZeros 2 (some .int) 0 0 [.int x] (.int (nI 21)) := by
  refine Cs.of (by decide) (Nat.le_of_ble_eq_true rfl) (fun s H0 A J hJ hR => ?_)
  have hp := hJ.pu H0 0 0
  show J H0 0 0 0 [] [(0, .int x)]
  refine r_iload_n 1 0 hp dJ28_numberOfTrailingZeros_0 rfl rfl ?_
  refine r_iconst 2 (-1) hp dJ28_numberOfTrailingZeros_1 (by decide) rfl ?_
  refine r_ixor 3 hp dJ28_numberOfTrailingZeros_2 rfl ?_
  refine r_iload_n 4 0 hp dJ28_numberOfTrailingZeros_3 rfl rfl ?_
  refine r_iconst 5 1 hp dJ28_numberOfTrailingZeros_4 (by decide) rfl ?_
  refine r_isub 6 hp dJ28_numberOfTrailingZeros_5 rfl ?_
  refine r_iand 7 hp dJ28_numberOfTrailingZeros_6 rfl ?_
  refine r_eqi (nI 2097151) (hy) ?_
  refine r_istore_n 8 [(0, .int (nI 2097151))] hp dJ28_numberOfTrailingZeros_7 rfl (by decide) rfl rfl ?_
  refine r_iload_n 9 0 hp dJ28_numberOfTrailingZeros_8 rfl rfl ?_
  refine r_if_gt 12 17 hp dJ28_numberOfTrailingZeros_9 (by decide) (fun _ => ?_) rfl (fun c => absurd (by decide) c)
  refine r_iconst 18 1 hp dJ28_numberOfTrailingZeros_17 (by decide) rfl ?_
  refine r_istore_n 19 [(1, .int 1), (0, .int (nI 2097151))] hp dJ28_numberOfTrailingZeros_18 rfl (by decide) rfl rfl ?_
  refine r_iload_n 20 1 hp dJ28_numberOfTrailingZeros_19 rfl rfl ?_
  refine r_ldcw 23 hp dJ28_numberOfTrailingZeros_20 q3410 rfl ?_
  refine r_eqi (nI 65536) rfl ?_
  refine r_icmp_leN 2097151 65536 26 34 hp dJ28_numberOfTrailingZeros_23 (by omega) (by omega) (by decide) (fun c23 => absurd c23 (by decide)) rfl (fun c23 => ?_)
  refine r_iinc 29 (1 + 16) 0 [(1, .int (1 + 16)), (0, .int (nI 2097151))] hp dJ28_numberOfTrailingZeros_26 rfl rfl (by decide) rfl rfl ?_
  refine r_iload_n 30 1 hp dJ28_numberOfTrailingZeros_29 rfl rfl ?_
  refine r_bipush 32 16 hp dJ28_numberOfTrailingZeros_30 (by decide) rfl ?_
  refine r_iushr 33 hp dJ28_numberOfTrailingZeros_32 rfl ?_
  refine r_eqi (nI 31) (by decide) ?_
  refine r_istore_n 34 [(0, .int (nI 31)), (1, .int (1 + 16))] hp dJ28_numberOfTrailingZeros_33 rfl (by decide) rfl rfl ?_
  refine r_iload_n 35 0 hp dJ28_numberOfTrailingZeros_34 rfl rfl ?_
  refine r_sipush 38 256 hp dJ28_numberOfTrailingZeros_35 (by decide) rfl ?_
  refine r_icmp_leN 31 256 41 49 hp dJ28_numberOfTrailingZeros_38 (by omega) (by omega) (by decide) (fun c38 => ?_) rfl (fun c38 => absurd c38 (by decide))
  refine r_iload_n 50 0 hp dJ28_numberOfTrailingZeros_49 rfl rfl ?_
  refine r_bipush 52 16 hp dJ28_numberOfTrailingZeros_50 (by decide) rfl ?_
  refine r_icmp_leN 31 16 55 62 hp dJ28_numberOfTrailingZeros_52 (by omega) (by omega) (by decide) (fun c52 => absurd c52 (by decide)) rfl (fun c52 => ?_)
  refine r_iinc 58 ((1 + 16) + 4) 1 [(1, .int ((1 + 16) + 4)), (0, .int (nI 31))] hp dJ28_numberOfTrailingZeros_55 rfl rfl (by decide) rfl rfl ?_
  refine r_iload_n 59 1 hp dJ28_numberOfTrailingZeros_58 rfl rfl ?_
  refine r_iconst 60 4 hp dJ28_numberOfTrailingZeros_59 (by decide) rfl ?_
  refine r_iushr 61 hp dJ28_numberOfTrailingZeros_60 rfl ?_
  refine r_eqi (nI 1) (by decide) ?_
  refine r_istore_n 62 [(0, .int (nI 1)), (1, .int ((1 + 16) + 4))] hp dJ28_numberOfTrailingZeros_61 rfl (by decide) rfl rfl ?_
  refine r_iload_n 63 0 hp dJ28_numberOfTrailingZeros_62 rfl rfl ?_
  refine r_iconst 64 4 hp dJ28_numberOfTrailingZeros_63 (by decide) rfl ?_
  refine r_icmp_leN 1 4 67 74 hp dJ28_numberOfTrailingZeros_64 (by omega) (by omega) (by decide) (fun c64 => ?_) rfl (fun c64 => absurd c64 (by decide))
  refine r_iload_n 75 1 hp dJ28_numberOfTrailingZeros_74 rfl rfl ?_
  refine r_iload_n 76 0 hp dJ28_numberOfTrailingZeros_75 rfl rfl ?_
  refine r_iconst 77 1 hp dJ28_numberOfTrailingZeros_76 (by decide) rfl ?_
  refine r_iushr 78 hp dJ28_numberOfTrailingZeros_77 rfl ?_
  refine r_eqi (nI 0) (by decide) ?_
  refine r_iadd 79 hp dJ28_numberOfTrailingZeros_78 rfl ?_
  exact hR.1 79 _ _ _ rfl rfl dJ28_numberOfTrailingZeros_79 rfl
set_option maxHeartbeats 2000000 in
theorem cs_ntz_22 (D : DD) (l : Launch) (x : Int32) (hy : (x ^^^ (-1)) &&& (x - 1) = nI 4194303)  : Cs D l yJ28_numberOfTrailingZeros cJ28_numberOfTrailingZeros 2 (some .int) 0 0 [.int x] (.int (nI 22)) := by
  refine Cs.of (by decide) (Nat.le_of_ble_eq_true rfl) (fun s H0 A J hJ hR => ?_)
  have hp := hJ.pu H0 0 0
  show J H0 0 0 0 [] [(0, .int x)]
  refine r_iload_n 1 0 hp dJ28_numberOfTrailingZeros_0 rfl rfl ?_
  refine r_iconst 2 (-1) hp dJ28_numberOfTrailingZeros_1 (by decide) rfl ?_
  refine r_ixor 3 hp dJ28_numberOfTrailingZeros_2 rfl ?_
  refine r_iload_n 4 0 hp dJ28_numberOfTrailingZeros_3 rfl rfl ?_
  refine r_iconst 5 1 hp dJ28_numberOfTrailingZeros_4 (by decide) rfl ?_
  refine r_isub 6 hp dJ28_numberOfTrailingZeros_5 rfl ?_
  refine r_iand 7 hp dJ28_numberOfTrailingZeros_6 rfl ?_
  refine r_eqi (nI 4194303) (hy) ?_
  refine r_istore_n 8 [(0, .int (nI 4194303))] hp dJ28_numberOfTrailingZeros_7 rfl (by decide) rfl rfl ?_
  refine r_iload_n 9 0 hp dJ28_numberOfTrailingZeros_8 rfl rfl ?_
  refine r_if_gt 12 17 hp dJ28_numberOfTrailingZeros_9 (by decide) (fun _ => ?_) rfl (fun c => absurd (by decide) c)
  refine r_iconst 18 1 hp dJ28_numberOfTrailingZeros_17 (by decide) rfl ?_
  refine r_istore_n 19 [(1, .int 1), (0, .int (nI 4194303))] hp dJ28_numberOfTrailingZeros_18 rfl (by decide) rfl rfl ?_
  refine r_iload_n 20 1 hp dJ28_numberOfTrailingZeros_19 rfl rfl ?_
  refine r_ldcw 23 hp dJ28_numberOfTrailingZeros_20 q3410 rfl ?_
  refine r_eqi (nI 65536) rfl ?_
  refine r_icmp_leN 4194303 65536 26 34 hp dJ28_numberOfTrailingZeros_23 (by omega) (by omega) (by decide) (fun c23 => absurd c23 (by decide)) rfl (fun c23 => ?_)
  refine r_iinc 29 (1 + 16) 0 [(1, .int (1 + 16)), (0, .int (nI 4194303))] hp dJ28_numberOfTrailingZeros_26 rfl rfl (by decide) rfl rfl ?_
  refine r_iload_n 30 1 hp dJ28_numberOfTrailingZeros_29 rfl rfl ?_
  refine r_bipush 32 16 hp dJ28_numberOfTrailingZeros_30 (by decide) rfl ?_
  refine r_iushr 33 hp dJ28_numberOfTrailingZeros_32 rfl ?_
  refine r_eqi (nI 63) (by decide) ?_
  refine r_istore_n 34 [(0, .int (nI 63)), (1, .int (1 + 16))] hp dJ28_numberOfTrailingZeros_33 rfl (by decide) rfl rfl ?_
  refine r_iload_n 35 0 hp dJ28_numberOfTrailingZeros_34 rfl rfl ?_
  refine r_sipush 38 256 hp dJ28_numberOfTrailingZeros_35 (by decide) rfl ?_
  refine r_icmp_leN 63 256 41 49 hp dJ28_numberOfTrailingZeros_38 (by omega) (by omega) (by decide) (fun c38 => ?_) rfl (fun c38 => absurd c38 (by decide))
  refine r_iload_n 50 0 hp dJ28_numberOfTrailingZeros_49 rfl rfl ?_
  refine r_bipush 52 16 hp dJ28_numberOfTrailingZeros_50 (by decide) rfl ?_
  refine r_icmp_leN 63 16 55 62 hp dJ28_numberOfTrailingZeros_52 (by omega) (by omega) (by decide) (fun c52 => absurd c52 (by decide)) rfl (fun c52 => ?_)
  refine r_iinc 58 ((1 + 16) + 4) 1 [(1, .int ((1 + 16) + 4)), (0, .int (nI 63))] hp dJ28_numberOfTrailingZeros_55 rfl rfl (by decide) rfl rfl ?_
  refine r_iload_n 59 1 hp dJ28_numberOfTrailingZeros_58 rfl rfl ?_
  refine r_iconst 60 4 hp dJ28_numberOfTrailingZeros_59 (by decide) rfl ?_
  refine r_iushr 61 hp dJ28_numberOfTrailingZeros_60 rfl ?_
  refine r_eqi (nI 3) (by decide) ?_
  refine r_istore_n 62 [(0, .int (nI 3)), (1, .int ((1 + 16) + 4))] hp dJ28_numberOfTrailingZeros_61 rfl (by decide) rfl rfl ?_
  refine r_iload_n 63 0 hp dJ28_numberOfTrailingZeros_62 rfl rfl ?_
  refine r_iconst 64 4 hp dJ28_numberOfTrailingZeros_63 (by decide) rfl ?_
  refine r_icmp_leN 3 4 67 74 hp dJ28_numberOfTrailingZeros_64 (by omega) (by omega) (by decide) (fun c64 => ?_) rfl (fun c64 => absurd c64 (by decide))
  refine r_iload_n 75 1 hp dJ28_numberOfTrailingZeros_74 rfl rfl ?_
  refine r_iload_n 76 0 hp dJ28_numberOfTrailingZeros_75 rfl rfl ?_
  refine r_iconst 77 1 hp dJ28_numberOfTrailingZeros_76 (by decide) rfl ?_
  refine r_iushr 78 hp dJ28_numberOfTrailingZeros_77 rfl ?_
  refine r_eqi (nI 1) (by decide) ?_
  refine r_iadd 79 hp dJ28_numberOfTrailingZeros_78 rfl ?_
  exact hR.1 79 _ _ _ rfl rfl dJ28_numberOfTrailingZeros_79 rfl
set_option maxHeartbeats 2000000 in
theorem cs_ntz_23 (D : DD) (l : Launch) (x : Int32) (hy : (x ^^^ (-1)) &&& (x - 1) = nI 8388607)  : Cs D l yJ28_numberOfTrailingZeros cJ28_numberOfTrailingZeros 2 (some .int) 0 0 [.int x] (.int (nI 23)) := by
  refine Cs.of (by decide) (Nat.le_of_ble_eq_true rfl) (fun s H0 A J hJ hR => ?_)
  have hp := hJ.pu H0 0 0
  show J H0 0 0 0 [] [(0, .int x)]
  refine r_iload_n 1 0 hp dJ28_numberOfTrailingZeros_0 rfl rfl ?_
  refine r_iconst 2 (-1) hp dJ28_numberOfTrailingZeros_1 (by decide) rfl ?_
  refine r_ixor 3 hp dJ28_numberOfTrailingZeros_2 rfl ?_
  refine r_iload_n 4 0 hp dJ28_numberOfTrailingZeros_3 rfl rfl ?_
  refine r_iconst 5 1 hp dJ28_numberOfTrailingZeros_4 (by decide) rfl ?_
  refine r_isub 6 hp dJ28_numberOfTrailingZeros_5 rfl ?_
  refine r_iand 7 hp dJ28_numberOfTrailingZeros_6 rfl ?_
  refine r_eqi (nI 8388607) (hy) ?_
  refine r_istore_n 8 [(0, .int (nI 8388607))] hp dJ28_numberOfTrailingZeros_7 rfl (by decide) rfl rfl ?_
  refine r_iload_n 9 0 hp dJ28_numberOfTrailingZeros_8 rfl rfl ?_
  refine r_if_gt 12 17 hp dJ28_numberOfTrailingZeros_9 (by decide) (fun _ => ?_) rfl (fun c => absurd (by decide) c)
  refine r_iconst 18 1 hp dJ28_numberOfTrailingZeros_17 (by decide) rfl ?_
  refine r_istore_n 19 [(1, .int 1), (0, .int (nI 8388607))] hp dJ28_numberOfTrailingZeros_18 rfl (by decide) rfl rfl ?_
  refine r_iload_n 20 1 hp dJ28_numberOfTrailingZeros_19 rfl rfl ?_
  refine r_ldcw 23 hp dJ28_numberOfTrailingZeros_20 q3410 rfl ?_
  refine r_eqi (nI 65536) rfl ?_
  refine r_icmp_leN 8388607 65536 26 34 hp dJ28_numberOfTrailingZeros_23 (by omega) (by omega) (by decide) (fun c23 => absurd c23 (by decide)) rfl (fun c23 => ?_)
  refine r_iinc 29 (1 + 16) 0 [(1, .int (1 + 16)), (0, .int (nI 8388607))] hp dJ28_numberOfTrailingZeros_26 rfl rfl (by decide) rfl rfl ?_
  refine r_iload_n 30 1 hp dJ28_numberOfTrailingZeros_29 rfl rfl ?_
  refine r_bipush 32 16 hp dJ28_numberOfTrailingZeros_30 (by decide) rfl ?_
  refine r_iushr 33 hp dJ28_numberOfTrailingZeros_32 rfl ?_
  refine r_eqi (nI 127) (by decide) ?_
  refine r_istore_n 34 [(0, .int (nI 127)), (1, .int (1 + 16))] hp dJ28_numberOfTrailingZeros_33 rfl (by decide) rfl rfl ?_
  refine r_iload_n 35 0 hp dJ28_numberOfTrailingZeros_34 rfl rfl ?_
  refine r_sipush 38 256 hp dJ28_numberOfTrailingZeros_35 (by decide) rfl ?_
  refine r_icmp_leN 127 256 41 49 hp dJ28_numberOfTrailingZeros_38 (by omega) (by omega) (by decide) (fun c38 => ?_) rfl (fun c38 => absurd c38 (by decide))
  refine r_iload_n 50 0 hp dJ28_numberOfTrailingZeros_49 rfl rfl ?_
  refine r_bipush 52 16 hp dJ28_numberOfTrailingZeros_50 (by decide) rfl ?_
  refine r_icmp_leN 127 16 55 62 hp dJ28_numberOfTrailingZeros_52 (by omega) (by omega) (by decide) (fun c52 => absurd c52 (by decide)) rfl (fun c52 => ?_)
  refine r_iinc 58 ((1 + 16) + 4) 1 [(1, .int ((1 + 16) + 4)), (0, .int (nI 127))] hp dJ28_numberOfTrailingZeros_55 rfl rfl (by decide) rfl rfl ?_
  refine r_iload_n 59 1 hp dJ28_numberOfTrailingZeros_58 rfl rfl ?_
  refine r_iconst 60 4 hp dJ28_numberOfTrailingZeros_59 (by decide) rfl ?_
  refine r_iushr 61 hp dJ28_numberOfTrailingZeros_60 rfl ?_
  refine r_eqi (nI 7) (by decide) ?_
  refine r_istore_n 62 [(0, .int (nI 7)), (1, .int ((1 + 16) + 4))] hp dJ28_numberOfTrailingZeros_61 rfl (by decide) rfl rfl ?_
  refine r_iload_n 63 0 hp dJ28_numberOfTrailingZeros_62 rfl rfl ?_
  refine r_iconst 64 4 hp dJ28_numberOfTrailingZeros_63 (by decide) rfl ?_
  refine r_icmp_leN 7 4 67 74 hp dJ28_numberOfTrailingZeros_64 (by omega) (by omega) (by decide) (fun c64 => absurd c64 (by decide)) rfl (fun c64 => ?_)
  refine r_iinc 70 (((1 + 16) + 4) + 2) 1 [(1, .int (((1 + 16) + 4) + 2)), (0, .int (nI 7))] hp dJ28_numberOfTrailingZeros_67 rfl rfl (by decide) rfl rfl ?_
  refine r_iload_n 71 1 hp dJ28_numberOfTrailingZeros_70 rfl rfl ?_
  refine r_iconst 72 2 hp dJ28_numberOfTrailingZeros_71 (by decide) rfl ?_
  refine r_iushr 73 hp dJ28_numberOfTrailingZeros_72 rfl ?_
  refine r_eqi (nI 1) (by decide) ?_
  refine r_istore_n 74 [(0, .int (nI 1)), (1, .int (((1 + 16) + 4) + 2))] hp dJ28_numberOfTrailingZeros_73 rfl (by decide) rfl rfl ?_
  refine r_iload_n 75 1 hp dJ28_numberOfTrailingZeros_74 rfl rfl ?_
  refine r_iload_n 76 0 hp dJ28_numberOfTrailingZeros_75 rfl rfl ?_
  refine r_iconst 77 1 hp dJ28_numberOfTrailingZeros_76 (by decide) rfl ?_
  refine r_iushr 78 hp dJ28_numberOfTrailingZeros_77 rfl ?_
  refine r_eqi (nI 0) (by decide) ?_
  refine r_iadd 79 hp dJ28_numberOfTrailingZeros_78 rfl ?_
  exact hR.1 79 _ _ _ rfl rfl dJ28_numberOfTrailingZeros_79 rfl
set_option maxHeartbeats 2000000 in
theorem cs_ntz_24 (D : DD) (l : Launch) (x : Int32) (hy : (x ^^^ (-1)) &&& (x - 1) = nI 16777215)  : Cs D l yJ28_numberOfTrailingZeros cJ28_numberOfTrailingZeros 2 (some .int) 0 0 [.int x] (.int (nI 24)) := by
  refine Cs.of (by decide) (Nat.le_of_ble_eq_true rfl) (fun s H0 A J hJ hR => ?_)
  have hp := hJ.pu H0 0 0
  show J H0 0 0 0 [] [(0, .int x)]
  refine r_iload_n 1 0 hp dJ28_numberOfTrailingZeros_0 rfl rfl ?_
  refine r_iconst 2 (-1) hp dJ28_numberOfTrailingZeros_1 (by decide) rfl ?_
  refine r_ixor 3 hp dJ28_numberOfTrailingZeros_2 rfl ?_
  refine r_iload_n 4 0 hp dJ28_numberOfTrailingZeros_3 rfl rfl ?_
  refine r_iconst 5 1 hp dJ28_numberOfTrailingZeros_4 (by decide) rfl ?_
  refine r_isub 6 hp dJ28_numberOfTrailingZeros_5 rfl ?_
  refine r_iand 7 hp dJ28_numberOfTrailingZeros_6 rfl ?_
  refine r_eqi (nI 16777215) (hy) ?_
  refine r_istore_n 8 [(0, .int (nI 16777215))] hp dJ28_numberOfTrailingZeros_7 rfl (by decide) rfl rfl ?_
  refine r_iload_n 9 0 hp dJ28_numberOfTrailingZeros_8 rfl rfl ?_
  refine r_if_gt 12 17 hp dJ28_numberOfTrailingZeros_9 (by decide) (fun _ => ?_) rfl (fun c => absurd (by decide) c)
  refine r_iconst 18 1 hp dJ28_numberOfTrailingZeros_17 (by decide) rfl ?_
  refine r_istore_n 19 [(1, .int 1), (0, .int (nI 16777215))] hp dJ28_numberOfTrailingZeros_18 rfl (by decide) rfl rfl ?_
  refine r_iload_n 20 1 hp dJ28_numberOfTrailingZeros_19 rfl rfl ?_
  refine r_ldcw 23 hp dJ28_numberOfTrailingZeros_20 q3410 rfl ?_
  refine r_eqi (nI 65536) rfl ?_
  refine r_icmp_leN 16777215 65536 26 34 hp dJ28_numberOfTrailingZeros_23 (by omega) (by omega) (by decide) (fun c23 => absurd c23 (by decide)) rfl (fun c23 => ?_)
  refine r_iinc 29 (1 + 16) 0 [(1, .int (1 + 16)), (0, .int (nI 16777215))] hp dJ28_numberOfTrailingZeros_26 rfl rfl (by decide) rfl rfl ?_
  refine r_iload_n 30 1 hp dJ28_numberOfTrailingZeros_29 rfl rfl ?_
  refine r_bipush 32 16 hp dJ28_numberOfTrailingZeros_30 (by decide) rfl ?_
  refine r_iushr 33 hp dJ28_numberOfTrailingZeros_32 rfl ?_
  refine r_eqi (nI 255) (by decide) ?_
  refine r_istore_n 34 [(0, .int (nI 255)), (1, .int (1 + 16))] hp dJ28_numberOfTrailingZeros_33 rfl (by decide) rfl rfl ?_
  refine r_iload_n 35 0 hp dJ28_numberOfTrailingZeros_34 rfl rfl ?_
  refine r_sipush 38 256 hp dJ28_numberOfTrailingZeros_35 (by decide) rfl ?_
  refine r_icmp_leN 255 256 41 49 hp dJ28_numberOfTrailingZeros_38 (by omega) (by omega) (by decide) (fun c38 => ?_) rfl (fun c38 => absurd c38 (by decide))
  refine r_iload_n 50 0 hp dJ28_numberOfTrailingZeros_49 rfl rfl ?_
  refine r_bipush 52 16 hp dJ28_numberOfTrailingZeros_50 (by decide) rfl ?_
  refine r_icmp_leN 255 16 55 62 hp dJ28_numberOfTrailingZeros_52 (by omega) (by omega) (by decide) (fun c52 => absurd c52 (by decide)) rfl (fun c52 => ?_)
  refine r_iinc 58 ((1 + 16) + 4) 1 [(1, .int ((1 + 16) + 4)), (0, .int (nI 255))] hp dJ28_numberOfTrailingZeros_55 rfl rfl (by decide) rfl rfl ?_
  refine r_iload_n 59 1 hp dJ28_numberOfTrailingZeros_58 rfl rfl ?_
  refine r_iconst 60 4 hp dJ28_numberOfTrailingZeros_59 (by decide) rfl ?_
  refine r_iushr 61 hp dJ28_numberOfTrailingZeros_60 rfl ?_
  refine r_eqi (nI 15) (by decide) ?_
  refine r_istore_n 62 [(0, .int (nI 15)), (1, .int ((1 + 16) + 4))] hp dJ28_numberOfTrailingZeros_61 rfl (by decide) rfl rfl ?_
  refine r_iload_n 63 0 hp dJ28_numberOfTrailingZeros_62 rfl rfl ?_
  refine r_iconst 64 4 hp dJ28_numberOfTrailingZeros_63 (by decide) rfl ?_
  refine r_icmp_leN 15 4 67 74 hp dJ28_numberOfTrailingZeros_64 (by omega) (by omega) (by decide) (fun c64 => absurd c64 (by decide)) rfl (fun c64 => ?_)
  refine r_iinc 70 (((1 + 16) + 4) + 2) 1 [(1, .int (((1 + 16) + 4) + 2)), (0, .int (nI 15))] hp dJ28_numberOfTrailingZeros_67 rfl rfl (by decide) rfl rfl ?_
  refine r_iload_n 71 1 hp dJ28_numberOfTrailingZeros_70 rfl rfl ?_
  refine r_iconst 72 2 hp dJ28_numberOfTrailingZeros_71 (by decide) rfl ?_
  refine r_iushr 73 hp dJ28_numberOfTrailingZeros_72 rfl ?_
  refine r_eqi (nI 3) (by decide) ?_
  refine r_istore_n 74 [(0, .int (nI 3)), (1, .int (((1 + 16) + 4) + 2))] hp dJ28_numberOfTrailingZeros_73 rfl (by decide) rfl rfl ?_
  refine r_iload_n 75 1 hp dJ28_numberOfTrailingZeros_74 rfl rfl ?_
  refine r_iload_n 76 0 hp dJ28_numberOfTrailingZeros_75 rfl rfl ?_
  refine r_iconst 77 1 hp dJ28_numberOfTrailingZeros_76 (by decide) rfl ?_
  refine r_iushr 78 hp dJ28_numberOfTrailingZeros_77 rfl ?_
  refine r_eqi (nI 1) (by decide) ?_
  refine r_iadd 79 hp dJ28_numberOfTrailingZeros_78 rfl ?_
  exact hR.1 79 _ _ _ rfl rfl dJ28_numberOfTrailingZeros_79 rfl
set_option maxHeartbeats 2000000 in
theorem cs_ntz_25 (D : DD) (l : Launch) (x : Int32) (hy : (x ^^^ (-1)) &&& (x - 1) = nI 33554431)  : Cs D l yJ28_numberOfTrailingZeros cJ28_numberOfTrailingZeros 2 (some .int) 0 0 [.int x] (.int (nI 25)) := by
  refine Cs.of (by decide) (Nat.le_of_ble_eq_true rfl) (fun s H0 A J hJ hR => ?_)
  have hp := hJ.pu H0 0 0
  show J H0 0 0 0 [] [(0, .int x)]
  refine r_iload_n 1 0 hp dJ28_numberOfTrailingZeros_0 rfl rfl ?_
  refine r_iconst 2 (-1) hp dJ28_numberOfTrailingZeros_1 (by decide) rfl ?_
  refine r_ixor 3 hp dJ28_numberOfTrailingZeros_2 rfl ?_
  refine r_iload_n 4 0 hp dJ28_numberOfTrailingZeros_3 rfl rfl ?_
  refine r_iconst 5 1 hp dJ28_numberOfTrailingZeros_4 (by decide) rfl ?_
  refine r_isub 6 hp dJ28_numberOfTrailingZeros_5 rfl ?_
  refine r_iand 7 hp dJ28_numberOfTrailingZeros_6 rfl ?_
  refine r_eqi (nI 33554431) (hy) ?_
  refine r_istore_n 8 [(0, .int (nI 33554431))] hp dJ28_numberOfTrailingZeros_7 rfl (by decide) rfl rfl ?_
  refine r_iload_n 9 0 hp dJ28_numberOfTrailingZeros_8 rfl rfl ?_
  refine r_if_gt 12 17 hp dJ28_numberOfTrailingZeros_9 (by decide) (fun _ => ?_) rfl (fun c => absurd (by decide) c)
  refine r_iconst 18 1 hp dJ28_numberOfTrailingZeros_17 (by decide) rfl ?_
  refine r_istore_n 19 [(1, .int 1), (0, .int (nI 33554431))] hp dJ28_numberOfTrailingZeros_18 rfl (by decide) rfl rfl ?_
  refine r_iload_n 20 1 hp dJ28_numberOfTrailingZeros_19 rfl rfl ?_
  refine r_ldcw 23 hp dJ28_numberOfTrailingZeros_20 q3410 rfl ?_
  refine r_eqi (nI 65536) rfl ?_
  refine r_icmp_leN 33554431 65536 26 34 hp dJ28_numberOfTrailingZeros_23 (by omega) (by omega) (by decide) (fun c23 => absurd c23 (by decide)) rfl (fun c23 => ?_)
  refine r_iinc 29 (1 + 16) 0 [(1, .int (1 + 16)), (0, .int (nI 33554431))] hp dJ28_numberOfTrailingZeros_26 rfl rfl (by decide) rfl rfl ?_
  refine r_iload_n 30 1 hp dJ28_numberOfTrailingZeros_29 rfl rfl ?_
  refine r_bipush 32 16 hp dJ28_numberOfTrailingZeros_30 (by decide) rfl ?_
  refine r_iushr 33 hp dJ28_numberOfTrailingZeros_32 rfl ?_
  refine r_eqi (nI 511) (by decide) ?_
  refine r_istore_n 34 [(0, .int (nI 511)), (1, .int (1 + 16))] hp dJ28_numberOfTrailingZeros_33 rfl (by decide) rfl rfl ?_
  refine r_iload_n 35 0 hp dJ28_numberOfTrailingZeros_34 rfl rfl ?_
  refine r_sipush 38 256 hp dJ28_numberOfTrailingZeros_35 (by decide) rfl ?_
  refine r_icmp_leN 511 256 41 49 hp dJ28_numberOfTrailingZeros_38 (by omega) (by omega) (by decide) (fun c38 => absurd c38 (by decide)) rfl (fun c38 => ?_)
  refine r_iinc 44 ((1 + 16) + 8) 1 [(1, .int ((1 + 16) + 8)), (0, .int (nI 511))] hp dJ28_numberOfTrailingZeros_41 rfl rfl (by decide) rfl rfl ?_
  refine r_iload_n 45 1 hp dJ28_numberOfTrailingZeros_44 rfl rfl ?_
  refine r_bipush 47 8 hp dJ28_numberOfTrailingZeros_45 (by decide) rfl ?_
  refine r_iushr 48 hp dJ28_numberOfTrailingZeros_47 rfl ?_
  refine r_eqi (nI 1) (by decide) ?_
  refine r_istore_n 49 [(0, .int (nI 1)), (1, .int ((1 + 16) + 8))] hp dJ28_numberOfTrailingZeros_48 rfl (by decide) rfl rfl ?_
  refine r_iload_n 50 0 hp dJ28_numberOfTrailingZeros_49 rfl rfl ?_
  refine r_bipush 52 16 hp dJ28_numberOfTrailingZeros_50 (by decide) rfl ?_
  refine r_icmp_leN 1 16 55 62 hp dJ28_numberOfTrailingZeros_52 (by omega) (by omega) (by decide) (fun c52 => ?_) rfl (fun c52 => absurd c52 (by decide))
  refine r_iload_n 63 0 hp dJ28_numberOfTrailingZeros_62 rfl rfl ?_
  refine r_iconst 64 4 hp dJ28_numberOfTrailingZeros_63 (by decide) rfl ?_
  refine r_icmp_leN 1 4 67 74 hp dJ28_numberOfTrailingZeros_64 (by omega) (by omega) (by decide) (fun c64 => ?_) rfl (fun c64 => absurd c64 (by decide))
  refine r_iload_n 75 1 hp dJ28_numberOfTrailingZeros_74 rfl rfl ?_
  refine r_iload_n 76 0 hp dJ28_numberOfTrailingZeros_75 rfl rfl ?_
  refine r_iconst 77 1 hp dJ28_numberOfTrailingZeros_76 (by decide) rfl ?_
  refine r_iushr 78 hp dJ28_numberOfTrailingZeros_77 rfl ?_
  refine r_eqi (nI 0) (by decide) ?_
  refine r_iadd 79 hp dJ28_numberOfTrailingZeros_78 rfl ?_
  exact hR.1 79 _ _ _ rfl rfl dJ28_numberOfTrailingZeros_79 rfl
set_option maxHeartbeats 2000000 in
theorem cs_ntz_26 (D : DD) (l : Launch) (x : Int32) (hy : (x ^^^ (-1)) &&& (x - 1) = nI 67108863)  : Cs D l yJ28_numberOfTrailingZeros cJ28_numberOfTrailingZeros 2 (some .int) 0 0 [.int x] (.int (nI 26)) := by
  refine Cs.of (by decide) (Nat.le_of_ble_eq_true rfl) (fun s H0 A J hJ hR => ?_)
  have hp := hJ.pu H0 0 0
  show J H0 0 0 0 [] [(0, .int x)]
  refine r_iload_n 1 0 hp dJ28_numberOfTrailingZeros_0 rfl rfl ?_
  refine r_iconst 2 (-1) hp dJ28_numberOfTrailingZeros_1 (by decide) rfl ?_
  refine r_ixor 3 hp dJ28_numberOfTrailingZeros_2 rfl ?_
  refine r_iload_n 4 0 hp dJ28_numberOfTrailingZeros_3 rfl rfl ?_
  refine r_iconst 5 1 hp dJ28_numberOfTrailingZeros_4 (by decide) rfl ?_
  refine r_isub 6 hp dJ28_numberOfTrailingZeros_5 rfl ?_
  refine r_iand 7 hp dJ28_numberOfTrailingZeros_6 rfl ?_
  refine r_eqi (nI 67108863) (hy) ?_
  refine r_istore_n 8 [(0, .int (nI 67108863))] hp dJ28_numberOfTrailingZeros_7 rfl (by decide) rfl rfl ?_
  refine r_iload_n 9 0 hp dJ28_numberOfTrailingZeros_8 rfl rfl ?_
  refine r_if_gt 12 17 hp dJ28_numberOfTrailingZeros_9 (by decide) (fun _ => ?_) rfl (fun c => absurd (by decide) c)
  refine r_iconst 18 1 hp dJ28_numberOfTrailingZeros_17 (by decide) rfl ?_
  refine r_istore_n 19 [(1, .int 1), (0, .int (nI 67108863))] hp dJ28_numberOfTrailingZeros_18 rfl (by decide) rfl rfl ?_
  refine r_iload_n 20 1 hp dJ28_numberOfTrailingZeros_19 rfl rfl ?_
  refine r_ldcw 23 hp dJ28_numberOfTrailingZeros_20 q3410 rfl ?_
  refine r_eqi (nI 65536) rfl ?_
  refine r_icmp_leN 67108863 65536 26 34 hp dJ28_numberOfTrailingZeros_23 (by omega) (by omega) (by decide) (fun c23 => absurd c23 (by decide)) rfl (fun c23 => ?_)
  refine r_iinc 29 (1 + 16) 0 [(1, .int (1 + 16)), (0, .int (nI 67108863))] hp dJ28_numberOfTrailingZeros_26 rfl rfl (by decide) rfl rfl ?_
  refine r_iload_n 30 1 hp dJ28_numberOfTrailingZeros_29 rfl rfl ?_
  refine r_bipush 32 16 hp dJ28_numberOfTrailingZeros_30 (by decide) rfl ?_
  refine r_iushr 33 hp dJ28_numberOfTrailingZeros_32 rfl ?_
  refine r_eqi (nI 1023) (by decide) ?_
  refine r_istore_n 34 [(0, .int (nI 1023)), (1, .int (1 + 16))] hp dJ28_numberOfTrailingZeros_33 rfl (by decide) rfl rfl ?_
  refine r_iload_n 35 0 hp dJ28_numberOfTrailingZeros_34 rfl rfl ?_
  refine r_sipush 38 256 hp dJ28_numberOfTrailingZeros_35 (by decide) rfl ?_
  refine r_icmp_leN 1023 256 41 49 hp dJ28_numberOfTrailingZeros_38 (by omega) (by omega) (by decide) (fun c38 => absurd c38 (by decide)) rfl (fun c38 => ?_)
  refine r_iinc 44 ((1 + 16) + 8) 1 [(1, .int ((1 + 16) + 8)), (0, .int (nI 1023))] hp dJ28_numberOfTrailingZeros_41 rfl rfl (by decide) rfl rfl ?_
  refine r_iload_n 45 1 hp dJ28_numberOfTrailingZeros_44 rfl rfl ?_
  refine r_bipush 47 8 hp dJ28_numberOfTrailingZeros_45 (by decide) rfl ?_
  refine r_iushr 48 hp dJ28_numberOfTrailingZeros_47 rfl ?_
  refine r_eqi (nI 3) (by decide) ?_
  refine r_istore_n 49 [(0, .int (nI 3)), (1, .int ((1 + 16) + 8))] hp dJ28_numberOfTrailingZeros_48 rfl (by decide) rfl rfl ?_
  refine r_iload_n 50 0 hp dJ28_numberOfTrailingZeros_49 rfl rfl ?_
  refine r_bipush 52 16 hp dJ28_numberOfTrailingZeros_50 (by decide) rfl ?_
  refine r_icmp_leN 3 16 55 62 hp dJ28_numberOfTrailingZeros_52 (by omega) (by omega) (by decide) (fun c52 => ?_) rfl (fun c52 => absurd c52 (by decide))
  refine r_iload_n 63 0 hp dJ28_numberOfTrailingZeros_62 rfl rfl ?_
  refine r_iconst 64 4 hp dJ28_numberOfTrailingZeros_63 (by decide) rfl ?_
  refine r_icmp_leN 3 4 67 74 hp dJ28_numberOfTrailingZeros_64 (by omega) (by omega) (by decide) (fun c64 => ?_) rfl (fun c64 => absurd c64 (by decide))
  refine r_iload_n 75 1 hp dJ28_numberOfTrailingZeros_74 rfl rfl ?_
  refine r_iload_n 76 0 hp dJ28_numberOfTrailingZeros_75 rfl rfl ?_
  refine r_iconst 77 1 hp dJ28_numberOfTrailingZeros_76 (by decide) rfl ?_
  refine r_iushr 78 hp dJ28_numberOfTrailingZeros_77 rfl ?_
  refine r_eqi (nI 1) (by decide) ?_
  refine r_iadd 79 hp dJ28_numberOfTrailingZeros_78 rfl ?_
  exact hR.1 79 _ _ _ rfl rfl dJ28_numberOfTrailingZeros_79 rfl
set_option maxHeartbeats 2000000 in
theorem cs_ntz_27 (D : DD) (l : Launch) (x : Int32) (hy : (x ^^^ (-1)) &&& (x - 1) = nI 134217727)  : Cs D l yJ28_numberOfTrailingZeros cJ28_numberOfTrailingZeros 2 (some .int) 0 0 [.int x] (.int (nI 27)) := by
  refine Cs.of (by decide) (Nat.le_of_ble_eq_true rfl) (fun s H0 A J hJ hR => ?_)
  have hp := hJ.pu H0 0 0
  show J H0 0 0 0 [] [(0, .int x)]
  refine r_iload_n 1 0 hp dJ28_numberOfTrailingZeros_0 rfl rfl ?_
  refine r_iconst 2 (-1) hp dJ28_numberOfTrailingZeros_1 (by decide) rfl ?_
  refine r_ixor 3 hp dJ28_numberOfTrailingZeros_2 rfl ?_
  refine r_iload_n 4 0 hp dJ28_numberOfTrailingZeros_3 rfl rfl ?_
  refine r_iconst 5 1 hp dJ28_numberOfTrailingZeros_4 (by decide) rfl ?_
  refine r_isub 6 hp dJ28_numberOfTrailingZeros_5 rfl ?_
  refine r_iand 7 hp dJ28_numberOfTrailingZeros_6 rfl ?_
  refine r_eqi (nI 134217727) (hy) ?_
  refine r_istore_n 8 [(0, .int (nI 134217727))] hp dJ28_numberOfTrailingZeros_7 rfl (by decide) rfl rfl ?_
  refine r_iload_n 9 0 hp dJ28_numberOfTrailingZeros_8 rfl rfl ?_
  refine r_if_gt 12 17 hp dJ28_numberOfTrailingZeros_9 (by decide) (fun _ => ?_) rfl (fun c => absurd (by decide) c)
  refine r_iconst 18 1 hp dJ28_numberOfTrailingZeros_17 (by decide) rfl ?_
  refine r_istore_n 19 [(1, .int 1), (0, .int (nI 134217727))] hp dJ28_numberOfTrailingZeros_18 rfl (by decide) rfl rfl ?_
  refine r_iload_n 20 1 hp dJ28_numberOfTrailingZeros_19 rfl rfl ?_
  refine r_ldcw 23 hp dJ28_numberOfTrailingZeros_20 q3410 rfl ?_
  refine r_eqi (nI 65536) rfl ?_
  refine r_icmp_leN 134217727 65536 26 34 hp dJ28_numberOfTrailingZeros_23 (by omega) (by omega) (by decide) (fun c23 => absurd c23 (by decide)) rfl (fun c23 => ?_)
  refine r_iinc 29 (1 + 16) 0 [(1, .int (1 + 16)), (0, .int (nI 134217727))] hp dJ28_numberOfTrailingZeros_26 rfl rfl (by decide) rfl rfl ?_
  refine r_iload_n 30 1 hp dJ28_numberOfTrailingZeros_29 rfl rfl ?_
  refine r_bipush 32 16 hp dJ28_numberOfTrailingZeros_30 (by decide) rfl ?_
  refine r_iushr 33 hp dJ28_numberOfTrailingZeros_32 rfl ?_
  refine r_eqi (nI 2047) (by decide) ?_
  refine r_istore_n 34 [(0, .int (nI 2047)), (1, .int (1 + 16))] hp dJ28_numberOfTrailingZeros_33 rfl (by decide) rfl rfl ?_
  refine r_iload_n 35 0 hp dJ28_numberOfTrailingZeros_34 rfl rfl ?_
  refine r_sipush 38 256 hp dJ28_numberOfTrailingZeros_35 (by decide) rfl ?_
  refine r_icmp_leN 2047 256 41 49 hp dJ28_numberOfTrailingZeros_38 (by omega) (by omega) (by decide) (fun c38 => absurd c38 (by decide)) rfl (fun c38 => ?_)
  refine r_iinc 44 ((1 + 16) + 8) 1 [(1, .int ((1 + 16) + 8)), (0, .int (nI 2047))] hp dJ28_numberOfTrailingZeros_41 rfl rfl (by decide) rfl rfl ?_
  refine r_iload_n 45 1 hp dJ28_numberOfTrailingZeros_44 rfl rfl ?_
  refine r_bipush 47 8 hp dJ28_numberOfTrailingZeros_45 (by decide) rfl ?_
  refine r_iushr 48 hp dJ28_numberOfTrailingZeros_47 rfl ?_
  refine r_eqi (nI 7) (by decide) ?_
  refine r_istore_n 49 [(0, .int (nI 7)), (1, .int ((1 + 16) + 8))] hp dJ28_numberOfTrailingZeros_48 rfl (by decide) rfl rfl ?_
  refine r_iload_n 50 0 hp dJ28_numberOfTrailingZeros_49 rfl rfl ?_
  refine r_bipush 52 16 hp dJ28_numberOfTrailingZeros_50 (by decide) rfl ?_
  refine r_icmp_leN 7 16 55 62 hp dJ28_numberOfTrailingZeros_52 (by omega) (by omega) (by decide) (fun c52 => ?_) rfl (fun c52 => absurd c52 (by decide))
  refine r_iload_n 63 0 hp dJ28_numberOfTrailingZeros_62 rfl rfl ?_
  refine r_iconst 64 4 hp dJ28_numberOfTrailingZeros_63 (by decide) rfl ?_
  refine r_icmp_leN 7 4 67 74 hp dJ28_numberOfTrailingZeros_64 (by omega) (by omega) (by decide) (fun c64 => absurd c64 (by decide)) rfl (fun c64 => ?_)
  refine r_iinc 70 (((1 + 16) + 8) + 2) 1 [(1, .int (((1 + 16) + 8) + 2)), (0, .int (nI 7))] hp dJ28_numberOfTrailingZeros_67 rfl rfl (by decide) rfl rfl ?_
  refine r_iload_n 71 1 hp dJ28_numberOfTrailingZeros_70 rfl rfl ?_
  refine r_iconst 72 2 hp dJ28_numberOfTrailingZeros_71 (by decide) rfl ?_
  refine r_iushr 73 hp dJ28_numberOfTrailingZeros_72 rfl ?_
  refine r_eqi (nI 1) (by decide) ?_
  refine r_istore_n 74 [(0, .int (nI 1)), (1, .int (((1 + 16) + 8) + 2))] hp dJ28_numberOfTrailingZeros_73 rfl (by decide) rfl rfl ?_
  refine r_iload_n 75 1 hp dJ28_numberOfTrailingZeros_74 rfl rfl ?_
  refine r_iload_n 76 0 hp dJ28_numberOfTrailingZeros_75 rfl rfl ?_
  refine r_iconst 77 1 hp dJ28_numberOfTrailingZeros_76 (by decide) rfl ?_
  refine r_iushr 78 hp dJ28_numberOfTrailingZeros_77 rfl ?_
  refine r_eqi (nI 0) (by decide) ?_
  refine r_iadd 79 hp dJ28_numberOfTrailingZeros_78 rfl ?_
  exact hR.1 79 _ _ _ rfl rfl dJ28_numberOfTrailingZeros_79 rfl
set_option maxHeartbeats 2000000 in
theorem cs_ntz_28 (D : DD) (l : Launch) (x : Int32) (hy : (x ^^^ (-1)) &&& (x - 1) = nI 268435455)  : Cs D l yJ28_numberOfTrailingZeros cJ28_numberOfTrailingZeros 2 (some .int) 0 0 [.int x] (.int (nI 28)) := by
  refine Cs.of (by decide) (Nat.le_of_ble_eq_true rfl) (fun s H0 A J hJ hR => ?_)
  have hp := hJ.pu H0 0 0
  show J H0 0 0 0 [] [(0, .int x)]
  refine r_iload_n 1 0 hp dJ28_numberOfTrailingZeros_0 rfl rfl ?_
  refine r_iconst 2 (-1) hp dJ28_numberOfTrailingZeros_1 (by decide) rfl ?_
  refine r_ixor 3 hp dJ28_numberOfTrailingZeros_2 rfl ?_
  refine r_iload_n 4 0 hp dJ28_numberOfTrailingZeros_3 rfl rfl ?_
  refine r_iconst 5 1 hp dJ28_numberOfTrailingZeros_4 (by decide) rfl ?_
  refine r_isub 6 hp dJ28_numberOfTrailingZeros_5 rfl ?_
  refine r_iand 7 hp dJ28_numberOfTrailingZeros_6 rfl ?_
  refine r_eqi (nI 268435455) (hy) ?_
  refine r_istore_n 8 [(0, .int (nI 268435455))] hp dJ28_numberOfTrailingZeros_7 rfl (by decide) rfl rfl ?_
  refine r_iload_n 9 0 hp dJ28_numberOfTrailingZeros_8 rfl rfl ?_
  refine r_if_gt 12 17 hp dJ28_numberOfTrailingZeros_9 (by decide) (fun _ => ?_) rfl (fun c => absurd (by decide) c)
  refine r_iconst 18 1 hp dJ28_numberOfTrailingZeros_17 (by decide) rfl ?_
  refine r_istore_n 19 [(1, .int 1), (0, .int (nI 268435455))] hp dJ28_numberOfTrailingZeros_18 rfl (by decide) rfl rfl ?_
  refine r_iload_n 20 1 hp dJ28_numberOfTrailingZeros_19 rfl rfl ?_
  refine r_ldcw 23 hp dJ28_numberOfTrailingZeros_20 q3410 rfl ?_
  refine r_eqi (nI 65536) rfl ?_
  refine r_icmp_leN 268435455 65536 26 34 hp dJ28_numberOfTrailingZeros_23 (by omega) (by omega) (by decide) (fun c23 => absurd c23 (by decide)) rfl (fun c23 => ?_)
  refine r_iinc 29 (1 + 16) 0 [(1, .int (1 + 16)), (0, .int (nI 268435455))] hp dJ28_numberOfTrailingZeros_26 rfl rfl (by decide) rfl rfl ?_
  refine r_iload_n 30 1 hp dJ28_numberOfTrailingZeros_29 rfl rfl ?_
  refine r_bipush 32 16 hp dJ28_numberOfTrailingZeros_30 (by decide) rfl ?_
  refine r_iushr 33 hp dJ28_numberOfTrailingZeros_32 rfl ?_
  refine r_eqi (nI 4095) (by decide) ?_
  refine r_istore_n 34 [(0, .int (nI 4095)), (1, .int (1 + 16))] hp dJ28_numberOfTrailingZeros_33 rfl (by decide) rfl rfl ?_
  refine r_iload_n 35 0 hp dJ28_numberOfTrailingZeros_34 rfl rfl ?_
  refine r_sipush 38 256 hp dJ28_numberOfTrailingZeros_35 (by decide) rfl ?_
  refine r_icmp_leN 4095 256 41 49 hp dJ28_numberOfTrailingZeros_38 (by omega) (by omega) (by decide) (fun c38 => absurd c38 (by decide)) rfl (fun c38 => ?_)
  refine r_iinc 44 ((1 + 16) + 8) 1 [(1, .int ((1 + 16) + 8)), (0, .int (nI 4095))] hp dJ28_numberOfTrailingZeros_41 rfl rfl (by decide) rfl rfl ?_
  refine r_iload_n 45 1 hp dJ28_numberOfTrailingZeros_44 rfl rfl ?_
  refine r_bipush 47 8 hp dJ28_numberOfTrailingZeros_45 (by decide) rfl ?_
  refine r_iushr 48 hp dJ28_numberOfTrailingZeros_47 rfl ?_
  refine r_eqi (nI 15) (by decide) ?_
  refine r_istore_n 49 [(0, .int (nI 15)), (1, .int ((1 + 16) + 8))] hp dJ28_numberOfTrailingZeros_48 rfl (by decide) rfl rfl ?_
  refine r_iload_n 50 0 hp dJ28_numberOfTrailingZeros_49 rfl rfl ?_
  refine r_bipush 52 16 hp dJ28_numberOfTrailingZeros_50 (by decide) rfl ?_
  refine r_icmp_leN 15 16 55 62 hp dJ28_numberOfTrailingZeros_52 (by omega) (by omega) (by decide) (fun c52 => ?_) rfl (fun c52 => absurd c52 (by decide))
  refine r_iload_n 63 0 hp dJ28_numberOfTrailingZeros_62 rfl rfl ?_
  refine r_iconst 64 4 hp dJ28_numberOfTrailingZeros_63 (by decide) rfl ?_
  refine r_icmp_leN 15 4 67 74 hp dJ28_numberOfTrailingZeros_64 (by omega) (by omega) (by decide) (fun c64 => absurd c64 (by decide)) rfl (fun c64 => ?_)
  refine r_iinc 70 (((1 + 16) + 8) + 2) 1 [(1, .int (((1 + 16) + 8) + 2)), (0, .int (nI 15))] hp dJ28_numberOfTrailingZeros_67 rfl rfl (by decide) rfl rfl ?_
  refine r_iload_n 71 1 hp dJ28_numberOfTrailingZeros_70 rfl rfl ?_
  refine r_iconst 72 2 hp dJ28_numberOfTrailingZeros_71 (by decide) rfl ?_
  refine r_iushr 73 hp dJ28_numberOfTrailingZeros_72 rfl ?_
  refine r_eqi (nI 3) (by decide) ?_
  refine r_istore_n 74 [(0, .int (nI 3)), (1, .int (((1 + 16) + 8) + 2))] hp dJ28_numberOfTrailingZeros_73 rfl (by decide) rfl rfl ?_
  refine r_iload_n 75 1 hp dJ28_numberOfTrailingZeros_74 rfl rfl ?_
  refine r_iload_n 76 0 hp dJ28_numberOfTrailingZeros_75 rfl rfl ?_
  refine r_iconst 77 1 hp dJ28_numberOfTrailingZeros_76 (by decide) rfl ?_
  refine r_iushr 78 hp dJ28_numberOfTrailingZeros_77 rfl ?_
  refine r_eqi (nI 1) (by decide) ?_
  refine r_iadd 79 hp dJ28_numberOfTrailingZeros_78 rfl ?_
  exact hR.1 79 _ _ _ rfl rfl dJ28_numberOfTrailingZeros_79 rfl
set_option maxHeartbeats 2000000 in
theorem cs_ntz_29 (D : DD) (l : Launch) (x : Int32) (hy : (x ^^^ (-1)) &&& (x - 1) = nI 536870911)  : Cs D l yJ28_numberOfTrailingZeros cJ28_numberOfTrailingZeros 2 (some .int) 0 0 [.int x] (.int (nI 29)) := by
  refine Cs.of (by decide) (Nat.le_of_ble_eq_true rfl) (fun s H0 A J hJ hR => ?_)
  have hp := hJ.pu H0 0 0
  show J H0 0 0 0 [] [(0, .int x)]
  refine r_iload_n 1 0 hp dJ28_numberOfTrailingZeros_0 rfl rfl ?_
  refine r_iconst 2 (-1) hp dJ28_numberOfTrailingZeros_1 (by decide) rfl ?_
  refine r_ixor 3 hp dJ28_numberOfTrailingZeros_2 rfl ?_
  refine r_iload_n 4 0 hp dJ28_numberOfTrailingZeros_3 rfl rfl ?_
  refine r_iconst 5 1 hp dJ28_numberOfTrailingZeros_4 (by decide) rfl ?_
  refine r_isub 6 hp dJ28_numberOfTrailingZeros_5 rfl ?_
  refine r_iand 7 hp dJ28_numberOfTrailingZeros_6 rfl ?_
  refine r_eqi (nI 536870911) (hy) ?_
  refine r_istore_n 8 [(0, .int (nI 536870911))] hp dJ28_numberOfTrailingZeros_7 rfl (by decide) rfl rfl ?_
  refine r_iload_n 9 0 hp dJ28_numberOfTrailingZeros_8 rfl rfl ?_
  refine r_if_gt 12 17 hp dJ28_numberOfTrailingZeros_9 (by decide) (fun _ => ?_) rfl (fun c => absurd (by decide) c)
  refine r_iconst 18 1 hp dJ28_numberOfTrailingZeros_17 (by decide) rfl ?_
  refine r_istore_n 19 [(1, .int 1), (0, .int (nI 536870911))] hp dJ28_numberOfTrailingZeros_18 rfl (by decide) rfl rfl ?_
  refine r_iload_n 20 1 hp dJ28_numberOfTrailingZeros_19 rfl rfl ?_
  refine r_ldcw 23 hp dJ28_numberOfTrailingZeros_20 q3410 rfl ?_
  refine r_eqi (nI 65536) rfl ?_
  refine r_icmp_leN 536870911 65536 26 34 hp dJ28_numberOfTrailingZeros_23 (by omega) (by omega) (by decide) (fun c23 => absurd c23 (by decide)) rfl (fun c23 => ?_)
  refine r_iinc 29 (1 + 16) 0 [(1, .int (1 + 16)), (0, .int (nI 536870911))] hp dJ28_numberOfTrailingZeros_26 rfl rfl (by decide) rfl rfl ?_
  refine r_iload_n 30 1 hp dJ28_numberOfTrailingZeros_29 rfl rfl ?_
  refine r_bipush 32 16 hp dJ28_numberOfTrailingZeros_30 (by decide) rfl ?_
  refine r_iushr 33 hp dJ28_numberOfTrailingZeros_32 rfl ?_
  refine r_eqi (nI 8191) (by decide) ?_
  refine r_istore_n 34 [(0, .int (nI 8191)), (1, .int (1 + 16))] hp dJ28_numberOfTrailingZeros_33 rfl (by decide) rfl rfl ?_
  refine r_iload_n 35 0 hp dJ28_numberOfTrailingZeros_34 rfl rfl ?_
  refine r_sipush 38 256 hp dJ28_numberOfTrailingZeros_35 (by decide) rfl ?_
  refine r_icmp_leN 8191 256 41 49 hp dJ28_numberOfTrailingZeros_38 (by omega) (by omega) (by decide) (fun c38 => absurd c38 (by decide)) rfl (fun c38 => ?_)
  refine r_iinc 44 ((1 + 16) + 8) 1 [(1, .int ((1 + 16) + 8)), (0, .int (nI 8191))] hp dJ28_numberOfTrailingZeros_41 rfl rfl (by decide) rfl rfl ?_
  refine r_iload_n 45 1 hp dJ28_numberOfTrailingZeros_44 rfl rfl ?_
  refine r_bipush 47 8 hp dJ28_numberOfTrailingZeros_45 (by decide) rfl ?_
  refine r_iushr 48 hp dJ28_numberOfTrailingZeros_47 rfl ?_
  refine r_eqi (nI 31) (by decide) ?_
  refine r_istore_n 49 [(0, .int (nI 31)), (1, .int ((1 + 16) + 8))] hp dJ28_numberOfTrailingZeros_48 rfl (by decide) rfl rfl ?_
  refine r_iload_n 50 0 hp dJ28_numberOfTrailingZeros_49 rfl rfl ?_
  refine r_bipush 52 16 hp dJ28_numberOfTrailingZeros_50 (by decide) rfl ?_
  refine r_icmp_leN 31 16 55 62 hp dJ28_numberOfTrailingZeros_52 (by omega) (by omega) (by decide) (fun c52 => absurd c52 (by decide)) rfl (fun c52 => ?_)
  refine r_iinc 58 (((1 + 16) + 8) + 4) 1 [(1, .int (((1 + 16) + 8) + 4)), (0, .int (nI 31))] hp dJ28_numberOfTrailingZeros_55 rfl rfl (by decide) rfl rfl ?_
  refine r_iload_n 59 1 hp dJ28_numberOfTrailingZeros_58 rfl rfl ?_
  refine r_iconst 60 4 hp dJ28_numberOfTrailingZeros_59 (by decide) rfl ?_
  refine r_iushr 61 hp dJ28_numberOfTrailingZeros_60 rfl ?_
  refine r_eqi (nI 1) (by decide) ?_
  refine r_istore_n 62 [(0, .int (nI 1)), (1, .int (((1 + 16) + 8) + 4))] hp dJ28_numberOfTrailingZeros_61 rfl (by decide) rfl rfl ?_
  refine r_iload_n 63 0 hp dJ28_numberOfTrailingZeros_62 rfl rfl ?_
  refine r_iconst 64 4 hp dJ28_numberOfTrailingZeros_63 (by decide) rfl ?_
  refine r_icmp_leN 1 4 67 74 hp dJ28_numberOfTrailingZeros_64 (by omega) (by omega) (by decide) (fun c64 => ?_) rfl (fun c64 => absurd c64 (by decide))
  refine r_iload_n 75 1 hp dJ28_numberOfTrailingZeros_74 rfl rfl ?_
  refine r_iload_n 76 0 hp dJ28_numberOfTrailingZeros_75 rfl rfl ?_
  refine r_iconst 77 1 hp dJ28_numberOfTrailingZeros_76 (by decide) rfl ?_
  refine r_iushr 78 hp dJ28_numberOfTrailingZeros_77 rfl ?_
  refine r_eqi (nI 0) (by decide) ?_
  refine r_iadd 79 hp dJ28_numberOfTrailingZeros_78 rfl ?_
  exact hR.1 79 _ _ _ rfl rfl dJ28_numberOfTrailingZeros_79 rfl
set_option maxHeartbeats 2000000 in
theorem cs_ntz_30 (D : DD) (l : Launch) (x : Int32) (hy : (x ^^^ (-1)) &&& (x - 1) = nI 1073741823)  : Cs D l yJ28_numberOfTrailingZeros cJ28_numberOfTrailingZeros 2 (some .int) 0 0 [.int x] (.int (nI 30)) := by
  refine Cs.of (by decide) (Nat.le_of_ble_eq_true rfl) (fun s H0 A J hJ hR => ?_)
  have hp := hJ.pu H0 0 0
  show J H0 0 0 0 [] [(0, .int x)]
  refine r_iload_n 1 0 hp dJ28_numberOfTrailingZeros_0 rfl rfl ?_
  refine r_iconst 2 (-1) hp dJ28_numberOfTrailingZeros_1 (by decide) rfl ?_
  refine r_ixor 3 hp dJ28_numberOfTrailingZeros_2 rfl ?_
  refine r_iload_n 4 0 hp dJ28_numberOfTrailingZeros_3 rfl rfl ?_
  refine r_iconst 5 1 hp dJ28_numberOfTrailingZeros_4 (by decide) rfl ?_
  refine r_isub 6 hp dJ28_numberOfTrailingZeros_5 rfl ?_
  refine r_iand 7 hp dJ28_numberOfTrailingZeros_6 rfl ?_
  refine r_eqi (nI 1073741823) (hy) ?_
  refine r_istore_n 8 [(0, .int (nI 1073741823))] hp dJ28_numberOfTrailingZeros_7 rfl (by decide) rfl rfl ?_
  refine r_iload_n 9 0 hp dJ28_numberOfTrailingZeros_8 rfl rfl ?_
  refine r_if_gt 12 17 hp dJ28_numberOfTrailingZeros_9 (by decide) (fun _ => ?_) rfl (fun c => absurd (by decide) c)
  refine r_iconst 18 1 hp dJ28_numberOfTrailingZeros_17 (by decide) rfl ?_
  refine r_istore_n 19 [(1, .int 1), (0, .int (nI 1073741823))] hp dJ28_numberOfTrailingZeros_18 rfl (by decide) rfl rfl ?_
  refine r_iload_n 20 1 hp dJ28_numberOfTrailingZeros_19 rfl rfl ?_
  refine r_ldcw 23 hp dJ28_numberOfTrailingZeros_20 q3410 rfl ?_
  refine r_eqi (nI 65536) rfl ?_
  refine r_icmp_leN 1073741823 65536 26 34 hp dJ28_numberOfTrailingZeros_23 (by omega) (by omega) (by decide) (fun c23 => absurd c23 (by decide)) rfl (fun c23 => ?_)
  refine r_iinc 29 (1 + 16) 0 [(1, .int (1 + 16)), (0, .int (nI 1073741823))] hp dJ28_numberOfTrailingZeros_26 rfl rfl (by decide) rfl rfl ?_
  refine r_iload_n 30 1 hp dJ28_numberOfTrailingZeros_29 rfl rfl ?_
  refine r_bipush 32 16 hp dJ28_numberOfTrailingZeros_30 (by decide) rfl ?_
  refine r_iushr 33 hp dJ28_numberOfTrailingZeros_32 rfl ?_
  refine r_eqi (nI 16383) (by decide) ?_
  refine r_istore_n 34 [(0, .int (nI 16383)), (1, .int (1 + 16))] hp dJ28_numberOfTrailingZeros_33 rfl (by decide) rfl rfl ?_
  refine r_iload_n 35 0 hp dJ28_numberOfTrailingZeros_34 rfl rfl ?_
  refine r_sipush 38 256 hp dJ28_numberOfTrailingZeros_35 (by decide) rfl ?_
  refine r_icmp_leN 16383 256 41 49 hp dJ28_numberOfTrailingZeros_38 (by omega) (by omega) (by decide) (fun c38 => absurd c38 (by decide)) rfl (fun c38 => ?_)
  refine r_iinc 44 ((1 + 16) + 8) 1 [(1, .int ((1 + 16) + 8)), (0, .int (nI 16383))] hp dJ28_numberOfTrailingZeros_41 rfl rfl (by decide) rfl rfl ?_
  refine r_iload_n 45 1 hp dJ28_numberOfTrailingZeros_44 rfl rfl ?_
  refine r_bipush 47 8 hp dJ28_numberOfTrailingZeros_45 (by decide) rfl ?_
  refine r_iushr 48 hp dJ28_numberOfTrailingZeros_47 rfl ?_
  refine r_eqi (nI 63) (by decide) ?_
  refine r_istore_n 49 [(0, .int (nI 63)), (1, .int ((1 + 16) + 8))] hp dJ28_numberOfTrailingZeros_48 rfl (by decide) rfl rfl ?_
  refine r_iload_n 50 0 hp dJ28_numberOfTrailingZeros_49 rfl rfl ?_
  refine r_bipush 52 16 hp dJ28_numberOfTrailingZeros_50 (by decide) rfl ?_
  refine r_icmp_leN 63 16 55 62 hp dJ28_numberOfTrailingZeros_52 (by omega) (by omega) (by decide) (fun c52 => absurd c52 (by decide)) rfl (fun c52 => ?_)
  refine r_iinc 58 (((1 + 16) + 8) + 4) 1 [(1, .int (((1 + 16) + 8) + 4)), (0, .int (nI 63))] hp dJ28_numberOfTrailingZeros_55 rfl rfl (by decide) rfl rfl ?_
  refine r_iload_n 59 1 hp dJ28_numberOfTrailingZeros_58 rfl rfl ?_
  refine r_iconst 60 4 hp dJ28_numberOfTrailingZeros_59 (by decide) rfl ?_
  refine r_iushr 61 hp dJ28_numberOfTrailingZeros_60 rfl ?_
  refine r_eqi (nI 3) (by decide) ?_
  refine r_istore_n 62 [(0, .int (nI 3)), (1, .int (((1 + 16) + 8) + 4))] hp dJ28_numberOfTrailingZeros_61 rfl (by decide) rfl rfl ?_
  refine r_iload_n 63 0 hp dJ28_numberOfTrailingZeros_62 rfl rfl ?_
  refine r_iconst 64 4 hp dJ28_numberOfTrailingZeros_63 (by decide) rfl ?_
  refine r_icmp_leN 3 4 67 74 hp dJ28_numberOfTrailingZeros_64 (by omega) (by omega) (by decide) (fun c64 => ?_) rfl (fun c64 => absurd c64 (by decide))
  refine r_iload_n 75 1 hp dJ28_numberOfTrailingZeros_74 rfl rfl ?_
  refine r_iload_n 76 0 hp dJ28_numberOfTrailingZeros_75 rfl rfl ?_
  refine r_iconst 77 1 hp dJ28_numberOfTrailingZeros_76 (by decide) rfl ?_
  refine r_iushr 78 hp dJ28_numberOfTrailingZeros_77 rfl ?_
  refine r_eqi (nI 1) (by decide) ?_
  refine r_iadd 79 hp dJ28_numberOfTrailingZeros_78 rfl ?_
  exact hR.1 79 _ _ _ rfl rfl dJ28_numberOfTrailingZeros_79 rfl
set_option maxHeartbeats 2000000 in
theorem cs_ntz_31 (D : DD) (l : Launch) (x : Int32) (hy : (x ^^^ (-1)) &&& (x - 1) = nI 2147483647)  : Cs D l yJ28_numberOfTrailingZeros cJ28_numberOfTrailingZeros 2 (some .int) 0 0 [.int x] (.int (nI 31)) := by
  refine Cs.of (by decide) (Nat.le_of_ble_eq_true rfl) (fun s H0 A J hJ hR => ?_)
  have hp := hJ.pu H0 0 0
  show J H0 0 0 0 [] [(0, .int x)]
  refine r_iload_n 1 0 hp dJ28_numberOfTrailingZeros_0 rfl rfl ?_
  refine r_iconst 2 (-1) hp dJ28_numberOfTrailingZeros_1 (by decide) rfl ?_
  refine r_ixor 3 hp dJ28_numberOfTrailingZeros_2 rfl ?_
  refine r_iload_n 4 0 hp dJ28_numberOfTrailingZeros_3 rfl rfl ?_
  refine r_iconst 5 1 hp dJ28_numberOfTrailingZeros_4 (by decide) rfl ?_
  refine r_isub 6 hp dJ28_numberOfTrailingZeros_5 rfl ?_
  refine r_iand 7 hp dJ28_numberOfTrailingZeros_6 rfl ?_
  refine r_eqi (nI 2147483647) (hy) ?_
  refine r_istore_n 8 [(0, .int (nI 2147483647))] hp dJ28_numberOfTrailingZeros_7 rfl (by decide) rfl rfl ?_
  refine r_iload_n 9 0 hp dJ28_numberOfTrailingZeros_8 rfl rfl ?_
  refine r_if_gt 12 17 hp dJ28_numberOfTrailingZeros_9 (by decide) (fun _ => ?_) rfl (fun c => absurd (by decide) c)
  refine r_iconst 18 1 hp dJ28_numberOfTrailingZeros_17 (by decide) rfl ?_
  refine r_istore_n 19 [(1, .int 1), (0, .int (nI 2147483647))] hp dJ28_numberOfTrailingZeros_18 rfl (by decide) rfl rfl ?_
  refine r_iload_n 20 1 hp dJ28_numberOfTrailingZeros_19 rfl rfl ?_
  refine r_ldcw 23 hp dJ28_numberOfTrailingZeros_20 q3410 rfl ?_
  refine r_eqi (nI 65536) rfl ?_
  refine r_icmp_leN 2147483647 65536 26 34 hp dJ28_numberOfTrailingZeros_23 (by omega) (by omega) (by decide) (fun c23 => absurd c23 (by decide)) rfl (fun c23 => ?_)
  refine r_iinc 29 (1 + 16) 0 [(1, .int (1 + 16)), (0, .int (nI 2147483647))] hp dJ28_numberOfTrailingZeros_26 rfl rfl (by decide) rfl rfl ?_
  refine r_iload_n 30 1 hp dJ28_numberOfTrailingZeros_29 rfl rfl ?_
  refine r_bipush 32 16 hp dJ28_numberOfTrailingZeros_30 (by decide) rfl ?_
  refine r_iushr 33 hp dJ28_numberOfTrailingZeros_32 rfl ?_
  refine r_eqi (nI 32767) (by decide) ?_
  refine r_istore_n 34 [(0, .int (nI 32767)), (1, .int (1 + 16))] hp dJ28_numberOfTrailingZeros_33 rfl (by decide) rfl rfl ?_
  refine r_iload_n 35 0 hp dJ28_numberOfTrailingZeros_34 rfl rfl ?_
  refine r_sipush 38 256 hp dJ28_numberOfTrailingZeros_35 (by decide) rfl ?_
  refine r_icmp_leN 32767 256 41 49 hp dJ28_numberOfTrailingZeros_38 (by omega) (by omega) (by decide) (fun c38 => absurd c38 (by decide)) rfl (fun c38 => ?_)
  refine r_iinc 44 ((1 + 16) + 8) 1 [(1, .int ((1 + 16) + 8)), (0, .int (nI 32767))] hp dJ28_numberOfTrailingZeros_41 rfl rfl (by decide) rfl rfl ?_
  refine r_iload_n 45 1 hp dJ28_numberOfTrailingZeros_44 rfl rfl ?_
  refine r_bipush 47 8 hp dJ28_numberOfTrailingZeros_45 (by decide) rfl ?_
  refine r_iushr 48 hp dJ28_numberOfTrailingZeros_47 rfl ?_
  refine r_eqi (nI 127) (by decide) ?_
  refine r_istore_n 49 [(0, .int (nI 127)), (1, .int ((1 + 16) + 8))] hp dJ28_numberOfTrailingZeros_48 rfl (by decide) rfl rfl ?_
  refine r_iload_n 50 0 hp dJ28_numberOfTrailingZeros_49 rfl rfl ?_
  refine r_bipush 52 16 hp dJ28_numberOfTrailingZeros_50 (by decide) rfl ?_
  refine r_icmp_leN 127 16 55 62 hp dJ28_numberOfTrailingZeros_52 (by omega) (by omega) (by decide) (fun c52 => absurd c52 (by decide)) rfl (fun c52 => ?_)
  refine r_iinc 58 (((1 + 16) + 8) + 4) 1 [(1, .int (((1 + 16) + 8) + 4)), (0, .int (nI 127))] hp dJ28_numberOfTrailingZeros_55 rfl rfl (by decide) rfl rfl ?_
  refine r_iload_n 59 1 hp dJ28_numberOfTrailingZeros_58 rfl rfl ?_
  refine r_iconst 60 4 hp dJ28_numberOfTrailingZeros_59 (by decide) rfl ?_
  refine r_iushr 61 hp dJ28_numberOfTrailingZeros_60 rfl ?_
  refine r_eqi (nI 7) (by decide) ?_
  refine r_istore_n 62 [(0, .int (nI 7)), (1, .int (((1 + 16) + 8) + 4))] hp dJ28_numberOfTrailingZeros_61 rfl (by decide) rfl rfl ?_
  refine r_iload_n 63 0 hp dJ28_numberOfTrailingZeros_62 rfl rfl ?_
  refine r_iconst 64 4 hp dJ28_numberOfTrailingZeros_63 (by decide) rfl ?_
  refine r_icmp_leN 7 4 67 74 hp dJ28_numberOfTrailingZeros_64 (by omega) (by omega) (by decide) (fun c64 => absurd c64 (by decide)) rfl (fun c64 => ?_)
  refine r_iinc 70 ((((1 + 16) + 8) + 4) + 2) 1 [(1, .int ((((1 + 16) + 8) + 4) + 2)), (0, .int (nI 7))] hp dJ28_numberOfTrailingZeros_67 rfl rfl (by decide) rfl rfl ?_
  refine r_iload_n 71 1 hp dJ28_numberOfTrailingZeros_70 rfl rfl ?_
  refine r_iconst 72 2 hp dJ28_numberOfTrailingZeros_71 (by decide) rfl ?_
  refine r_iushr 73 hp dJ28_numberOfTrailingZeros_72 rfl ?_
  refine r_eqi (nI 1) (by decide) ?_
  refine r_istore_n 74 [(0, .int (nI 1)), (1, .int ((((1 + 16) + 8) + 4) + 2))] hp dJ28_numberOfTrailingZeros_73 rfl (by decide) rfl rfl ?_
  refine r_iload_n 75 1 hp dJ28_numberOfTrailingZeros_74 rfl rfl ?_
  refine r_iload_n 76 0 hp dJ28_numberOfTrailingZeros_75 rfl rfl ?_
  refine r_iconst 77 1 hp dJ28_numberOfTrailingZeros_76 (by decide) rfl ?_
  refine r_iushr 78 hp dJ28_numberOfTrailingZeros_77 rfl ?_
  refine r_eqi (nI 0) (by decide) ?_
  refine r_iadd 79 hp dJ28_numberOfTrailingZeros_78 rfl ?_
  exact hR.1 79 _ _ _ rfl rfl dJ28_numberOfTrailingZeros_79 rfl
theorem cs_J28_ntz (D : DD) (l : Launch) (x : Int32) (j : Nat) (hj : j < 32) (hy : (x ^^^ (-1)) &&& (x - 1) = nI (2 ^ j - 1)) : Cs D l yJ28_numberOfTrailingZeros cJ28_numberOfTrailingZeros 2 (some .int) 0 0 [.int x] (.int (nI j)) := by
  rcases (show j = 0 ∨ j = 1 ∨ j = 2 ∨ j = 3 ∨ j = 4 ∨ j = 5 ∨ j = 6 ∨ j = 7 ∨ j = 8 ∨ j = 9 ∨ j = 10 ∨ j = 11 ∨ j = 12 ∨ j = 13 ∨ j = 14 ∨ j = 15 ∨ j = 16 ∨ j = 17 ∨ j = 18 ∨ j = 19 ∨ j = 20 ∨ j = 21 ∨ j = 22 ∨ j = 23 ∨ j = 24 ∨ j = 25 ∨ j = 26 ∨ j = 27 ∨ j = 28 ∨ j = 29 ∨ j = 30 ∨ j = 31 by omega) with rfl | rfl | rfl | rfl | rfl | rfl | rfl | rfl | rfl | rfl | rfl | rfl | rfl | rfl | rfl | rfl | rfl | rfl | rfl | rfl | rfl | rfl | rfl | rfl | rfl | rfl | rfl | rfl | rfl | rfl | rfl | rfl
  · exact cs_ntz_0 D l x hy
  · exact cs_ntz_1 D l x hy
  · exact cs_ntz_2 D l x hy
  · exact cs_ntz_3 D l x hy
  · exact cs_ntz_4 D l x hy
  · exact cs_ntz_5 D l x hy
  · exact cs_ntz_6 D l x hy
  · exact cs_ntz_7 D l x hy
  · exact cs_ntz_8 D l x hy
  · exact cs_ntz_9 D l x hy
  · exact cs_ntz_10 D l x hy
  · exact cs_ntz_11 D l x hy
  · exact cs_ntz_12 D l x hy
  · exact cs_ntz_13 D l x hy
  · exact cs_ntz_14 D l x hy
  · exact cs_ntz_15 D l x hy
  · exact cs_ntz_16 D l x hy
  · exact cs_ntz_17 D l x hy
  · exact cs_ntz_18 D l x hy
  · exact cs_ntz_19 D l x hy
  · exact cs_ntz_20 D l x hy
  · exact cs_ntz_21 D l x hy
  · exact cs_ntz_22 D l x hy
  · exact cs_ntz_23 D l x hy
  · exact cs_ntz_24 D l x hy
  · exact cs_ntz_25 D l x hy
  · exact cs_ntz_26 D l x hy
  · exact cs_ntz_27 D l x hy
  · exact cs_ntz_28 D l x hy
  · exact cs_ntz_29 D l x hy
  · exact cs_ntz_30 D l x hy
  · exact cs_ntz_31 D l x hy
theorem lk_J47_311 : GoodIn lw_all (va_wsS RJ47 311 yJ28_numberOfTrailingZeros (ws_ yJ28_numberOfTrailingZeros cJ28_numberOfTrailingZeros 2 (some .int))) := lw_S q3407 q3408 q140 q3409
theorem yk_J28_numberOfTrailingZeros : yOk yJ28_numberOfTrailingZeros 1 := by decide +kernel
set_option maxHeartbeats 2000000 in
theorem cs_ntl_lo (D : DD) (l : Launch) (x : Int64) (j : Nat) (hj : j < 32) (hne : ¬ x.toInt32 = 0) (hy : (x.toInt32 ^^^ (-1)) &&& (x.toInt32 - 1) = nI (2 ^ j - 1))  : Cs D l yJ47_numberOfTrailingZeros cJ47_numberOfTrailingZeros 3 (some .int) 1 21 [.long x] (.int (nI j)) := by
  refine Cs.of (by decide) (Nat.le_of_ble_eq_true rfl) (fun s H0 A J hJ hR => ?_)
  have hp := hJ.pu H0 0 0
  show J H0 0 0 0 [] [(0, .long x)]
  refine r_lload_n 1 0 hp dJ47_numberOfTrailingZeros_0 rfl rfl ?_
  refine r_l2i 2 hp dJ47_numberOfTrailingZeros_1 rfl ?_
  refine r_istore_n 3 [(2, .int (Int64.toInt32 x)), (0, .long x)] hp dJ47_numberOfTrailingZeros_2 rfl (by decide) rfl rfl ?_
  refine r_iload_n 4 0 hp dJ47_numberOfTrailingZeros_3 rfl rfl ?_
  refine r_if_ne 7 21 hp dJ47_numberOfTrailingZeros_4 (by decide) (fun c4 => ?_) rfl (fun c4 => absurd c4 (hne))
  refine r_iload_n 22 0 hp dJ47_numberOfTrailingZeros_21 rfl rfl ?_
  refine cs_row 25 hJ (cs_J28_ntz D l (Int64.toInt32 x) j hj hy) lk_J47_311 1 yk_J28_numberOfTrailingZeros rfl ⟨by decide, by decide⟩ rfl (Nat.le_of_ble_eq_true rfl) dJ47_numberOfTrailingZeros_22 ⟨Nat.zero_le _, Nat.zero_le _⟩ rfl ?_
  exact hR.1 25 _ _ _ rfl rfl dJ47_numberOfTrailingZeros_25 rfl
set_option maxHeartbeats 2000000 in
theorem cs_ntl_hi (D : DD) (l : Launch) (x : Int64) (j : Nat) (hj : j < 32) (hz : x.toInt32 = 0) (hy : ((lsr x 32).toInt32 ^^^ (-1)) &&& ((lsr x 32).toInt32 - 1) = nI (2 ^ j - 1))  : Cs D l yJ47_numberOfTrailingZeros cJ47_numberOfTrailingZeros 3 (some .int) 1 21 [.long x] (.int (nI (32 + j))) := by
  refine Cs.of (by decide) (Nat.le_of_ble_eq_true rfl) (fun s H0 A J hJ hR => ?_)
  have hp := hJ.pu H0 0 0
  show J H0 0 0 0 [] [(0, .long x)]
  refine r_lload_n 1 0 hp dJ47_numberOfTrailingZeros_0 rfl rfl ?_
  refine r_l2i 2 hp dJ47_numberOfTrailingZeros_1 rfl ?_
  refine r_istore_n 3 [(2, .int (Int64.toInt32 x)), (0, .long x)] hp dJ47_numberOfTrailingZeros_2 rfl (by decide) rfl rfl ?_
  refine r_iload_n 4 0 hp dJ47_numberOfTrailingZeros_3 rfl rfl ?_
  refine r_if_ne 7 21 hp dJ47_numberOfTrailingZeros_4 (by decide) (fun c4 => absurd c4 (fun z => z hz)) rfl (fun c4 => ?_)
  refine r_bipush 9 32 hp dJ47_numberOfTrailingZeros_7 (by decide) rfl ?_
  refine r_lload_n 10 1 hp dJ47_numberOfTrailingZeros_9 rfl rfl ?_
  refine r_bipush 12 32 hp dJ47_numberOfTrailingZeros_10 (by decide) rfl ?_
  refine r_lushr 13 hp dJ47_numberOfTrailingZeros_12 rfl ?_
  refine r_eql (lsr x 32) rfl ?_
  refine r_l2i 14 hp dJ47_numberOfTrailingZeros_13 rfl ?_
  refine cs_row 17 hJ (cs_J28_ntz D l (Int64.toInt32 (lsr x 32)) j hj hy) lk_J47_311 1 yk_J28_numberOfTrailingZeros rfl ⟨by decide, by decide⟩ rfl (Nat.le_of_ble_eq_true rfl) dJ47_numberOfTrailingZeros_14 ⟨Nat.zero_le _, Nat.zero_le _⟩ rfl ?_
  refine r_iaddN 32 j (32 + j) 18 hp dJ47_numberOfTrailingZeros_17 rfl rfl ?_
  refine r_goto 25 hp dJ47_numberOfTrailingZeros_18 (by decide) ?_
  exact hR.1 25 _ _ _ rfl rfl dJ47_numberOfTrailingZeros_25 rfl
theorem cs_J47_ntz (D : DD) (l : Launch) (x : Int64) (j : Nat) (hj : j < 64) (h1 : tb x j = true) (h0 : ∀ i, i < j → tb x i = false) : Cs D l yJ47_numberOfTrailingZeros cJ47_numberOfTrailingZeros 3 (some .int) 1 21 [.long x] (.int (nI j)) := by
  by_cases c : j < 32
  · obtain ⟨a, b⟩ := nt_lo c h1 h0
    exact cs_ntl_lo D l x j c a b
  · obtain ⟨k, rfl⟩ : ∃ k, j = 32 + k := ⟨j - 32, by omega⟩
    obtain ⟨a, b⟩ := nt_hi (j := k) (by omega) h1 h0
    exact cs_ntl_hi D l x k (by omega) a b
set_option maxHeartbeats 2000000 in
theorem ts_J47_bitCount (D : DD) (l : Launch) (x : Int64)  : Cs D l yJ47_bitCount cJ47_bitCount 2 (some .int) 0 0 [.long x] (.int (nI (cntB (tb x) 64))) := by
  refine Cs.of (by decide) (Nat.le_of_ble_eq_true rfl) (fun s H0 A J hJ hR => ?_)
  have hp := hJ.pu H0 0 0
  show J H0 0 0 0 [] [(0, .long x)]
  refine r_lload_n 1 0 hp dJ47_bitCount_0 rfl rfl ?_
  refine r_lload_n 2 0 hp dJ47_bitCount_1 rfl rfl ?_
  refine r_iconst 3 1 hp dJ47_bitCount_2 (by decide) rfl ?_
  refine r_lushr 4 hp dJ47_bitCount_3 rfl ?_
  refine r_eql (lsr x 1) rfl ?_
  refine r_ldc2 7 hp dJ47_bitCount_4 q3388 rfl ?_
  refine r_land 8 hp dJ47_bitCount_7 rfl ?_
  refine r_lsub 9 hp dJ47_bitCount_8 rfl ?_
  refine r_eql (bc1 x) (rfl) ?_
  refine r_lstore_n 10 [(0, .long (bc1 x))] hp dJ47_bitCount_9 rfl (by decide) rfl rfl ?_
  refine r_lload_n 11 0 hp dJ47_bitCount_10 rfl rfl ?_
  refine r_ldc2 14 hp dJ47_bitCount_11 q3389 rfl ?_
  refine r_land 15 hp dJ47_bitCount_14 rfl ?_
  refine r_lload_n 16 0 hp dJ47_bitCount_15 rfl rfl ?_
  refine r_iconst 17 2 hp dJ47_bitCount_16 (by decide) rfl ?_
  refine r_lushr 18 hp dJ47_bitCount_17 rfl ?_
  refine r_eql (lsr (bc1 x) 2) rfl ?_
  refine r_ldc2 21 hp dJ47_bitCount_18 q3389 rfl ?_
  refine r_land 22 hp dJ47_bitCount_21 rfl ?_
  refine r_ladd 23 hp dJ47_bitCount_22 rfl ?_
  refine r_eql (bc2 (bc1 x)) (rfl) ?_
  refine r_lstore_n 24 [(0, .long (bc2 (bc1 x)))] hp dJ47_bitCount_23 rfl (by decide) rfl rfl ?_
  refine r_lload_n 25 0 hp dJ47_bitCount_24 rfl rfl ?_
  refine r_lload_n 26 0 hp dJ47_bitCount_25 rfl rfl ?_
  refine r_iconst 27 4 hp dJ47_bitCount_26 (by decide) rfl ?_
  refine r_lushr 28 hp dJ47_bitCount_27 rfl ?_
  refine r_eql (lsr (bc2 (bc1 x)) 4) rfl ?_
  refine r_ladd 29 hp dJ47_bitCount_28 rfl ?_
  refine r_ldc2 32 hp dJ47_bitCount_29 q3390 rfl ?_
  refine r_land 33 hp dJ47_bitCount_32 rfl ?_
  refine r_eql (bc3 (bc2 (bc1 x))) (rfl) ?_
  refine r_lstore_n 34 [(0, .long (bc3 (bc2 (bc1 x))))] hp dJ47_bitCount_33 rfl (by decide) rfl rfl ?_
  refine r_lload_n 35 0 hp dJ47_bitCount_34 rfl rfl ?_
  refine r_lload_n 36 0 hp dJ47_bitCount_35 rfl rfl ?_
  refine r_bipush 38 8 hp dJ47_bitCount_36 (by decide) rfl ?_
  refine r_lushr 39 hp dJ47_bitCount_38 rfl ?_
  refine r_eql (lsr (bc3 (bc2 (bc1 x))) 8) rfl ?_
  refine r_ladd 40 hp dJ47_bitCount_39 rfl ?_
  refine r_eql (bc4 (bc3 (bc2 (bc1 x)))) (rfl) ?_
  refine r_lstore_n 41 [(0, .long (bc4 (bc3 (bc2 (bc1 x)))))] hp dJ47_bitCount_40 rfl (by decide) rfl rfl ?_
  refine r_lload_n 42 0 hp dJ47_bitCount_41 rfl rfl ?_
  refine r_lload_n 43 0 hp dJ47_bitCount_42 rfl rfl ?_
  refine r_bipush 45 16 hp dJ47_bitCount_43 (by decide) rfl ?_
  refine r_lushr 46 hp dJ47_bitCount_45 rfl ?_
  refine r_eql (lsr (bc4 (bc3 (bc2 (bc1 x)))) 16) rfl ?_
  refine r_ladd 47 hp dJ47_bitCount_46 rfl ?_
  refine r_eql (bc5 (bc4 (bc3 (bc2 (bc1 x))))) (rfl) ?_
  refine r_lstore_n 48 [(0, .long (bc5 (bc4 (bc3 (bc2 (bc1 x))))))] hp dJ47_bitCount_47 rfl (by decide) rfl rfl ?_
  refine r_lload_n 49 0 hp dJ47_bitCount_48 rfl rfl ?_
  refine r_lload_n 50 0 hp dJ47_bitCount_49 rfl rfl ?_
  refine r_bipush 52 32 hp dJ47_bitCount_50 (by decide) rfl ?_
  refine r_lushr 53 hp dJ47_bitCount_52 rfl ?_
  refine r_eql (lsr (bc5 (bc4 (bc3 (bc2 (bc1 x))))) 32) rfl ?_
  refine r_ladd 54 hp dJ47_bitCount_53 rfl ?_
  refine r_eql (bc6 (bc5 (bc4 (bc3 (bc2 (bc1 x)))))) (rfl) ?_
  refine r_lstore_n 55 [(0, .long (bc6 (bc5 (bc4 (bc3 (bc2 (bc1 x)))))))] hp dJ47_bitCount_54 rfl (by decide) rfl rfl ?_
  refine r_lload_n 56 0 hp dJ47_bitCount_55 rfl rfl ?_
  refine r_l2i 57 hp dJ47_bitCount_56 rfl ?_
  refine r_bipush 59 127 hp dJ47_bitCount_57 (by decide) rfl ?_
  refine r_iand 60 hp dJ47_bitCount_59 rfl ?_
  refine r_eqi (nI (cntB (tb x) 64)) (bc_eq x) ?_
  exact hR.1 60 _ _ _ rfl rfl dJ47_bitCount_60 rfl
theorem wi_eq {i : Nat} (h : i < 2 ^ 31) : nI i >>> (6 &&& 31) = nI (i / 64) := by
  have e : ∀ x : BitVec 32, x.toNat < 2 ^ 31 → (BitVec.sshiftRight x 6).toNat = x.toNat / 64 := fun x hx => by
    rw [BitVec.toNat_sshiftRight_of_msb_false (by rw [BitVec.msb_eq_false_iff_two_mul_lt]; omega), Nat.shiftRight_eq_div_pow]
  refine Int32.toBitVec_inj.mp (BitVec.eq_of_toNat_eq ?_)
  show (BitVec.sshiftRight' (BitVec.ofNat 32 i) ((6 &&& 31 : Int32).toBitVec.smod 32)).toNat = (BitVec.ofNat 32 (i / 64)).toNat
  rw [show ((6 &&& 31 : Int32).toBitVec.smod 32) = 6#32 by decide]
  show (BitVec.sshiftRight (BitVec.ofNat 32 i) 6).toNat = _
  rw [e _ (by rw [BitVec.toNat_ofNat]; omega), BitVec.toNat_ofNat, BitVec.toNat_ofNat]
  omega
theorem mx_eq {a b : Nat} (ha : a < 2 ^ 31) (hb : b < 2 ^ 31) : maxJ (nI a) (nI b) = nI (if a < b then b else a) := by
  unfold maxJ
  by_cases c : a < b
  · rw [if_pos c, if_pos (by rw [Int32.lt_iff_toInt_lt, nI_toInt ha, nI_toInt hb]; omega)]
  · rw [if_neg c, if_neg (by rw [Int32.lt_iff_toInt_lt, nI_toInt ha, nI_toInt hb]; omega)]
set_option maxHeartbeats 2000000 in
theorem ts_J54_wordIndex (D : DD) (l : Launch) (i : Nat) (h : i < 2 ^ 31)  : Cs D l yJ54_wordIndex cJ54_wordIndex 1 (some .int) 0 0 [.int (nI i)] (.int (nI (i / 64))) := by
  refine Cs.of (by decide) (Nat.le_of_ble_eq_true rfl) (fun s H0 A J hJ hR => ?_)
  have hp := hJ.pu H0 0 0
  show J H0 0 0 0 [] [(0, .int (nI i))]
  refine r_iload_n 1 0 hp dJ54_wordIndex_0 rfl rfl ?_
  refine r_bipush 3 6 hp dJ54_wordIndex_1 (by decide) rfl ?_
  refine r_ishr 4 hp dJ54_wordIndex_3 rfl ?_
  refine r_eqi (nI (i / 64)) (wi_eq h) ?_
  exact hR.1 4 _ _ _ rfl rfl dJ54_wordIndex_4 rfl
theorem lk_J54_52 : GoodIn lw_all (va_wsS RJ54 52 yJ54_wordIndex (ws_ yJ54_wordIndex cJ54_wordIndex 1 (some .int))) := lw_S q3323 q3324 q171 q3325
theorem yk_J54_wordIndex : yOk yJ54_wordIndex 1 := by decide +kernel
set_option maxHeartbeats 4000000 in
theorem fc_J54_initWords (D : DD) (l : Launch) {KS : Nat → Prop} {Hb : Heap} (b : Nat) (b0 b1 b2 : Value) : Fc D l yJ54_initWords cJ54_initWords 2 none 1 1 1 20 KS Hb [.ref b, .int (nI 64)] ([oC b 17 [b0, b1, b2]]) ([]) (fun r w_ i => ∃ w, r = none ∧ w_ = [oC b 17 [.ref w, b1, b2], aC D 1 w (lA 1 (fun _ => 0))] ∧ i = []) := by
  refine Fc.of (by decide) (Nat.le_of_ble_eq_true rfl) (fun s F hF hR => ?_)
  show F 0 0 ([oC b 17 [b0, b1, b2]]) ([]) 0 [] [(0, .ref b), (1, .int (nI 64))]
  refine r_aload_n 1 0 (hF.pu _ _ _ _) dJ54_initWords_0 rfl rfl ?_
  refine r_iload_n 2 1 (hF.pu _ _ _ _) dJ54_initWords_1 rfl rfl ?_
  refine r_iconst 3 1 (hF.pu _ _ _ _) dJ54_initWords_2 (by decide) rfl ?_
  refine r_isubN 64 1 63 4 (hF.pu _ _ _ _) dJ54_initWords_3 (by omega) (by omega) rfl ?_
  refine f_callS' 7 hF (ts_J54_wordIndex D l 63 (by omega)) lk_J54_52 1 yk_J54_wordIndex rfl ⟨by decide, by decide⟩ rfl (Nat.le_of_ble_eq_true rfl) dJ54_initWords_4 ⟨Nat.le_of_ble_eq_true rfl, Nat.le_of_ble_eq_true rfl⟩ rfl ?_
  refine r_iconst 8 1 (hF.pu _ _ _ _) dJ54_initWords_7 (by decide) rfl ?_
  refine r_iaddN 0 1 1 9 (hF.pu _ _ _ _) dJ54_initWords_8 (by omega) rfl ?_
  refine f_newl 11 hF q468 rfl (by decide) ⟨Nat.le_of_ble_eq_true rfl, Nat.le_of_ble_eq_true rfl⟩ dJ54_initWords_9 rfl (fun a1_ => ?_)
  refine f_put 14 hF 1 (T := TJ54) (C := RJ54) ([aC D 1 a1_ (lA 1 (fun _ => 0)), oC b 17 [.ref a1_, b1, b2]]) okJ54 rfl rfl 0 (by decide) (Or.inl q3326) (Or.inl rfl) rfl rfl rfl (Nat.le_of_ble_eq_true rfl) rfl dJ54_initWords_11 rfl ?_
  refine f_ups hF [1] ([oC b 17 [.ref a1_, b1, b2], aC D 1 a1_ (lA 1 (fun _ => 0))]) rfl ?_
  exact FR.v hR dJ54_initWords_14 (Nat.le_of_ble_eq_true rfl) (Nat.le_of_ble_eq_true rfl) ⟨_, rfl, rfl, rfl⟩
theorem lk_J54_27 : GoodIn lw_all (wsV RJ54 27 yJ54_initWords.cls yJ54_initWords (ws_ yJ54_initWords cJ54_initWords 2 none)) := lw_V q3319 q3321 qs55 q171 q3322
theorem yk_J54_initWords : yOk yJ54_initWords 1 := by decide +kernel
set_option maxHeartbeats 4000000 in
theorem fc_J54_init (D : DD) (l : Launch) {KS : Nat → Prop} {Hb : Heap} (b : Nat) (b0 : Value) : Fc D l yJ54_init cJ54_init 1 none 2 1 1 41 KS Hb [.ref b] ([oC b 17 [b0, .int 0, .int 0]]) ([]) (fun r w_ i => ∃ w, r = none ∧ w_ = [oC b 17 [.ref w, .int (nI 0), .int 0], aC D 1 w (lA 1 (fun _ => 0))] ∧ i = []) := by
  refine Fc.of (by decide) (Nat.le_of_ble_eq_true rfl) (fun s F hF hR => ?_)
  show F 0 0 ([oC b 17 [b0, .int 0, .int 0]]) ([]) 0 [] [(0, .ref b)]
  refine r_aload_n 1 0 (hF.pu _ _ _ _) dJ54_init_0 rfl rfl ?_
  refine f_objInit 4 hF q3318 q179 q180 ⟨by decide, by decide⟩ dJ54_init_1 rfl ?_
  refine r_aload_n 5 0 (hF.pu _ _ _ _) dJ54_init_4 rfl rfl ?_
  refine r_iconst 6 0 (hF.pu _ _ _ _) dJ54_init_5 (by decide) rfl ?_
  refine f_put 9 hF 0 (T := TJ54) (C := RJ54) ([oC b 17 [b0, .int 0, .int 0]]) okJ54 rfl rfl 1 (by decide) (Or.inl q3327) (Or.inl rfl) rfl rfl rfl (Nat.le_of_ble_eq_true rfl) rfl dJ54_init_6 rfl ?_
  refine r_aload_n 10 0 (hF.pu _ _ _ _) dJ54_init_9 rfl rfl ?_
  refine r_iconst 11 0 (hF.pu _ _ _ _) dJ54_init_10 (by decide) rfl ?_
  refine f_put 14 hF 0 (T := TJ54) (C := RJ54) ([oC b 17 [b0, .int 0, .int 0]]) okJ54 rfl rfl 2 (by decide) (Or.inl q3328) (Or.inl rfl) rfl rfl rfl (Nat.le_of_ble_eq_true rfl) rfl dJ54_init_11 rfl ?_
  refine r_aload_n 15 0 (hF.pu _ _ _ _) dJ54_init_14 rfl rfl ?_
  refine r_bipush 17 64 (hF.pu _ _ _ _) dJ54_init_15 (by decide) rfl ?_
  refine f_callV 20 hF (fc_J54_initWords (KS := KS) (Hb := Hb) D l b b0 (.int 0) (.int 0)) (wr := ([])) rfl (imk [] rfl) lk_J54_27 1 yk_J54_initWords rfl ⟨by decide, by decide⟩ (fun _ z => ((z.o 0 rfl).fld 0 rfl)) rfl rfl (Nat.le_of_ble_eq_true rfl) dJ54_init_17 ⟨Nat.le_of_ble_eq_true rfl, Nat.le_of_ble_eq_true rfl⟩ rfl (fun r ws_ im' hp => ?_)
  obtain ⟨a1_, rfl, rfl, rfl⟩ := hp
  show F 1 1 ([oC b 17 [.ref a1_, .int 0, .int 0], aC D 1 a1_ (lA 1 (fun _ => 0))]) ([]) 20 [] [(0, .ref b)]
  refine r_aload_n 21 0 (hF.pu _ _ _ _) dJ54_init_20 rfl rfl ?_
  refine r_iconst 22 0 (hF.pu _ _ _ _) dJ54_init_21 (by decide) rfl ?_
  refine f_put 25 hF 0 (T := TJ54) (C := RJ54) ([oC b 17 [.ref a1_, .int 0, .int 0], aC D 1 a1_ (lA 1 (fun _ => 0))]) okJ54 rfl rfl 2 (by decide) (Or.inl q3328) (Or.inl rfl) rfl rfl rfl (Nat.le_of_ble_eq_true rfl) rfl dJ54_init_22 rfl ?_
  exact FR.v hR dJ54_init_25 (Nat.le_of_ble_eq_true rfl) (Nat.le_of_ble_eq_true rfl) ⟨_, rfl, rfl, rfl⟩
set_option maxHeartbeats 4000000 in
theorem fc_J54_checkInvariants (D : DD) (l : Launch) {KS : Nat → Prop} {Hb : Heap} (b : Nat) : Fc D l yJ54_checkInvariants cJ54_checkInvariants 1 none 0 0 0 0 KS Hb [.ref b] ([]) ([]) (fun r w i => r = none ∧ w = [] ∧ i = []) := by
  refine Fc.of (by decide) (Nat.le_of_ble_eq_true rfl) (fun s F hF hR => ?_)
  show F 0 0 ([]) ([]) 0 [] [(0, .ref b)]
  refine f_geti 3 hF (v := 1) (List.mem_of_getElem? (i := 0) rfl) (Or.inl q3370) dJ54_checkInvariants_0 rfl ?_
  refine r_if_ne 6 37 (hF.pu _ _ _ _) dJ54_checkInvariants_3 (by decide) (fun _ => ?_) rfl (fun c => absurd c (by decide))
  refine f_geti 40 hF (v := 1) (List.mem_of_getElem? (i := 0) rfl) (Or.inl q3370) dJ54_checkInvariants_37 rfl ?_
  refine r_if_ne 43 70 (hF.pu _ _ _ _) dJ54_checkInvariants_40 (by decide) (fun _ => ?_) rfl (fun c => absurd c (by decide))
  refine f_geti 73 hF (v := 1) (List.mem_of_getElem? (i := 0) rfl) (Or.inl q3370) dJ54_checkInvariants_70 rfl ?_
  refine r_if_ne 76 110 (hF.pu _ _ _ _) dJ54_checkInvariants_73 (by decide) (fun _ => ?_) rfl (fun c => absurd c (by decide))
  exact FR.v hR dJ54_checkInvariants_110 (Nat.le_of_ble_eq_true rfl) (Nat.le_of_ble_eq_true rfl) ⟨rfl, rfl, rfl⟩
