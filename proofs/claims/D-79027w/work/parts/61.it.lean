set_option maxHeartbeats 2000000 in
theorem cp_J10_node_10 (D : DD) (l : Launch) {H0 : Heap} (a b c : Nat) (h1 : fld D 13 a 1 (.int (nI 1)) H0) (h2 : fld D 13 a 2 (.ref b) H0) (h3 : fld D 13 a 3 (.ref c) H0) : Cp D l yJ10_node cJ10_node 4 (Option.some (ClassFile.FieldType.object "java/util/LinkedList$Node")) 0 0 [.ref a, .int (nI 0)] H0 (some (.ref c)) := by
  refine Cp.of (by decide) (Nat.le_of_ble_eq_true rfl) (fun s A J hJ hR => ?_)
  show J H0 0 0 0 [] [(0, .ref a), (1, .int (nI 0))]
  refine r_iload_n 1 1 (hJ.pu _ _ _) dJ10_node_0 rfl rfl ?_
  refine r_aload_n 2 0 (hJ.pu _ _ _) dJ10_node_1 rfl rfl ?_
  refine j_getf 5 hJ (T := TJ10) (C := RJ10) 1 (v := .int (nI 1)) okJ10 h1 rfl (by decide) (Or.inl q292) (Or.inl rfl) dJ10_node_2 rfl ?_
  refine r_iconst 6 1 (hJ.pu _ _ _) dJ10_node_5 (by decide) rfl ?_
  refine r_ishr 7 (hJ.pu _ _ _) dJ10_node_6 rfl ?_
  refine r_eqi 0 (by decide) ?_
  refine r_icmp_geN 0 0 10 35 (hJ.pu _ _ _) dJ10_node_7 (by omega) (by omega) (by decide) (fun c7 => ?_) rfl (fun c7 => absurd c7 (by decide))
  refine r_aload_n 36 0 (hJ.pu _ _ _) dJ10_node_35 rfl rfl ?_
  refine j_getf 39 hJ (T := TJ10) (C := RJ10) 3 (v := .ref c) okJ10 h3 rfl (by decide) (Or.inl q295) (Or.inl rfl) dJ10_node_36 rfl ?_
  refine r_astore_n 40 [(2, .ref c), (0, .ref a), (1, .int (nI 0))] (hJ.pu _ _ _) dJ10_node_39 rfl (by decide) rfl rfl ?_
  refine r_aload_n 41 1 (hJ.pu _ _ _) dJ10_node_40 rfl rfl ?_
  refine j_getf 44 hJ (T := TJ10) (C := RJ10) 1 (v := .int (nI 1)) okJ10 h1 rfl (by decide) (Or.inl q292) (Or.inl rfl) dJ10_node_41 rfl ?_
  refine r_iconst 45 1 (hJ.pu _ _ _) dJ10_node_44 (by decide) rfl ?_
  refine r_isubN 1 1 0 46 (hJ.pu _ _ _) dJ10_node_45 (by omega) (by omega) rfl ?_
  refine r_istore_n 47 [(3, .int (nI 0)), (2, .ref c), (0, .ref a), (1, .int (nI 0))] (hJ.pu _ _ _) dJ10_node_46 rfl (by decide) rfl rfl ?_
  refine r_iload_n 48 0 (hJ.pu _ _ _) dJ10_node_47 rfl rfl ?_
  refine r_iload_n 49 3 (hJ.pu _ _ _) dJ10_node_48 rfl rfl ?_
  refine r_icmp_leN 0 0 52 63 (hJ.pu _ _ _) dJ10_node_49 (by omega) (by omega) (by decide) (fun c49 => ?_) rfl (fun c49 => absurd c49 (by decide))
  refine r_aload_n 64 1 (hJ.pu _ _ _) dJ10_node_63 rfl rfl ?_
  exact Rt.a hR (Or.inl ⟨_, rfl⟩) dJ10_node_64 (Nat.zero_le _) (Nat.zero_le _) ⟨rfl, rfl⟩
set_option maxHeartbeats 2000000 in
theorem cp_J10_node_20 (D : DD) (l : Launch) {H0 : Heap} (a b c : Nat) (h1 : fld D 13 a 1 (.int (nI 2)) H0) (h2 : fld D 13 a 2 (.ref b) H0) (h3 : fld D 13 a 3 (.ref c) H0) : Cp D l yJ10_node cJ10_node 4 (Option.some (ClassFile.FieldType.object "java/util/LinkedList$Node")) 0 0 [.ref a, .int (nI 0)] H0 (some (.ref b)) := by
  refine Cp.of (by decide) (Nat.le_of_ble_eq_true rfl) (fun s A J hJ hR => ?_)
  show J H0 0 0 0 [] [(0, .ref a), (1, .int (nI 0))]
  refine r_iload_n 1 1 (hJ.pu _ _ _) dJ10_node_0 rfl rfl ?_
  refine r_aload_n 2 0 (hJ.pu _ _ _) dJ10_node_1 rfl rfl ?_
  refine j_getf 5 hJ (T := TJ10) (C := RJ10) 1 (v := .int (nI 2)) okJ10 h1 rfl (by decide) (Or.inl q292) (Or.inl rfl) dJ10_node_2 rfl ?_
  refine r_iconst 6 1 (hJ.pu _ _ _) dJ10_node_5 (by decide) rfl ?_
  refine r_ishr 7 (hJ.pu _ _ _) dJ10_node_6 rfl ?_
  refine r_eqi 1 (by decide) ?_
  refine r_icmp_geN 0 1 10 35 (hJ.pu _ _ _) dJ10_node_7 (by omega) (by omega) (by decide) (fun c7 => absurd c7 (by decide)) rfl (fun c7 => ?_)
  refine r_aload_n 11 0 (hJ.pu _ _ _) dJ10_node_10 rfl rfl ?_
  refine j_getf 14 hJ (T := TJ10) (C := RJ10) 2 (v := .ref b) okJ10 h2 rfl (by decide) (Or.inl q294) (Or.inl rfl) dJ10_node_11 rfl ?_
  refine r_astore_n 15 [(2, .ref b), (0, .ref a), (1, .int (nI 0))] (hJ.pu _ _ _) dJ10_node_14 rfl (by decide) rfl rfl ?_
  refine r_iconst 16 0 (hJ.pu _ _ _) dJ10_node_15 (by decide) rfl ?_
  refine r_istore_n 17 [(3, .int 0), (2, .ref b), (0, .ref a), (1, .int (nI 0))] (hJ.pu _ _ _) dJ10_node_16 rfl (by decide) rfl rfl ?_
  refine r_iload_n 18 0 (hJ.pu _ _ _) dJ10_node_17 rfl rfl ?_
  refine r_iload_n 19 3 (hJ.pu _ _ _) dJ10_node_18 rfl rfl ?_
  refine r_icmp_geN 0 0 22 33 (hJ.pu _ _ _) dJ10_node_19 (by omega) (by omega) (by decide) (fun c19 => ?_) rfl (fun c19 => absurd c19 (by decide))
  refine r_aload_n 34 1 (hJ.pu _ _ _) dJ10_node_33 rfl rfl ?_
  exact Rt.a hR (Or.inl ⟨_, rfl⟩) dJ10_node_34 (Nat.zero_le _) (Nat.zero_le _) ⟨rfl, rfl⟩
set_option maxHeartbeats 2000000 in
theorem cp_J10_node_21 (D : DD) (l : Launch) {H0 : Heap} (a b c : Nat) (h1 : fld D 13 a 1 (.int (nI 2)) H0) (h2 : fld D 13 a 2 (.ref b) H0) (h3 : fld D 13 a 3 (.ref c) H0) : Cp D l yJ10_node cJ10_node 4 (Option.some (ClassFile.FieldType.object "java/util/LinkedList$Node")) 0 0 [.ref a, .int (nI 1)] H0 (some (.ref c)) := by
  refine Cp.of (by decide) (Nat.le_of_ble_eq_true rfl) (fun s A J hJ hR => ?_)
  show J H0 0 0 0 [] [(0, .ref a), (1, .int (nI 1))]
  refine r_iload_n 1 1 (hJ.pu _ _ _) dJ10_node_0 rfl rfl ?_
  refine r_aload_n 2 0 (hJ.pu _ _ _) dJ10_node_1 rfl rfl ?_
  refine j_getf 5 hJ (T := TJ10) (C := RJ10) 1 (v := .int (nI 2)) okJ10 h1 rfl (by decide) (Or.inl q292) (Or.inl rfl) dJ10_node_2 rfl ?_
  refine r_iconst 6 1 (hJ.pu _ _ _) dJ10_node_5 (by decide) rfl ?_
  refine r_ishr 7 (hJ.pu _ _ _) dJ10_node_6 rfl ?_
  refine r_eqi 1 (by decide) ?_
  refine r_icmp_geN 1 1 10 35 (hJ.pu _ _ _) dJ10_node_7 (by omega) (by omega) (by decide) (fun c7 => ?_) rfl (fun c7 => absurd c7 (by decide))
  refine r_aload_n 36 0 (hJ.pu _ _ _) dJ10_node_35 rfl rfl ?_
  refine j_getf 39 hJ (T := TJ10) (C := RJ10) 3 (v := .ref c) okJ10 h3 rfl (by decide) (Or.inl q295) (Or.inl rfl) dJ10_node_36 rfl ?_
  refine r_astore_n 40 [(2, .ref c), (0, .ref a), (1, .int (nI 1))] (hJ.pu _ _ _) dJ10_node_39 rfl (by decide) rfl rfl ?_
  refine r_aload_n 41 1 (hJ.pu _ _ _) dJ10_node_40 rfl rfl ?_
  refine j_getf 44 hJ (T := TJ10) (C := RJ10) 1 (v := .int (nI 2)) okJ10 h1 rfl (by decide) (Or.inl q292) (Or.inl rfl) dJ10_node_41 rfl ?_
  refine r_iconst 45 1 (hJ.pu _ _ _) dJ10_node_44 (by decide) rfl ?_
  refine r_isubN 2 1 1 46 (hJ.pu _ _ _) dJ10_node_45 (by omega) (by omega) rfl ?_
  refine r_istore_n 47 [(3, .int (nI 1)), (2, .ref c), (0, .ref a), (1, .int (nI 1))] (hJ.pu _ _ _) dJ10_node_46 rfl (by decide) rfl rfl ?_
  refine r_iload_n 48 0 (hJ.pu _ _ _) dJ10_node_47 rfl rfl ?_
  refine r_iload_n 49 3 (hJ.pu _ _ _) dJ10_node_48 rfl rfl ?_
  refine r_icmp_leN 1 1 52 63 (hJ.pu _ _ _) dJ10_node_49 (by omega) (by omega) (by decide) (fun c49 => ?_) rfl (fun c49 => absurd c49 (by decide))
  refine r_aload_n 64 1 (hJ.pu _ _ _) dJ10_node_63 rfl rfl ?_
  exact Rt.a hR (Or.inl ⟨_, rfl⟩) dJ10_node_64 (Nat.zero_le _) (Nat.zero_le _) ⟨rfl, rfl⟩
set_option maxHeartbeats 4000000 in
theorem fc_J35_init_0 (D : DD) (l : Launch) {KS : Nat → Prop} {Hb : Heap} (it : Nat) (a : Nat) (mc : Int32) : Fc D l yJ35_init cJ35_init 3 none 1 0 0 20 KS Hb [.ref it, .ref a, .int (nI 0)] ([oC it 15 [.null, .null, .int 0, .int 0, .null]]) ([oC a 13 [.int mc, .int 0, .null, .null]]) (fun r w i => r = none ∧ w = [oC it 15 [.null, .null, .int (nI 0), .int mc, .ref a]] ∧ i = []) := by
  refine Fc.of (by decide) (Nat.le_of_ble_eq_true rfl) (fun s F hF hR => ?_)
  show F 0 0 ([oC it 15 [.null, .null, .int 0, .int 0, .null]]) ([oC a 13 [.int mc, .int 0, .null, .null]]) 0 [] [(0, .ref it), (1, .ref a), (2, .int (nI 0))]
  refine r_aload_n 1 0 (hF.pu _ _ _ _) dJ35_init_0 rfl rfl ?_
  refine r_aload_n 2 1 (hF.pu _ _ _ _) dJ35_init_1 rfl rfl ?_
  refine f_putF 5 hF 0 (T := TJ35) (C := RJ35) ([oC it 15 [.null, .null, .int 0, .int 0, .ref a]]) okJ35 rfl rfl 4 (by decide) q1134 rfl rfl rfl rfl rfl (Nat.le_of_ble_eq_true rfl) rfl dJ35_init_2 rfl ?_
  refine r_aload_n 6 0 (hF.pu _ _ _ _) dJ35_init_5 rfl rfl ?_
  refine f_objInit 9 hF q1125 q179 q180 ⟨by decide, by decide⟩ dJ35_init_6 rfl ?_
  refine r_aload_n 10 0 (hF.pu _ _ _ _) dJ35_init_9 rfl rfl ?_
  refine r_aload_n 11 0 (hF.pu _ _ _ _) dJ35_init_10 rfl rfl ?_
  refine f_getf 14 hF (T := TJ35) (C := RJ35) 4 (v := .ref a) okJ35 (fun _ z => ((z.o 0 rfl).fld 4 rfl)) rfl (by decide) (Or.inl q1134) (Or.inl rfl) dJ35_init_11 rfl ?_
  refine f_getf 17 hF (T := TJ10) (C := RJ10) 0 (v := .int mc) okJ10 (fun _ z => ((z.mo 0 rfl).fld 0 rfl)) rfl (by decide) (Or.inl q259) (Or.inr q260) dJ35_init_14 rfl ?_
  refine f_put 20 hF 0 (T := TJ35) (C := RJ35) ([oC it 15 [.null, .null, .int 0, .int mc, .ref a]]) okJ35 rfl rfl 3 (by decide) (Or.inl q1133) (Or.inl rfl) rfl rfl rfl (Nat.le_of_ble_eq_true rfl) rfl dJ35_init_17 rfl ?_
  refine r_aload_n 21 0 (hF.pu _ _ _ _) dJ35_init_20 rfl rfl ?_
  refine r_iload_n 22 2 (hF.pu _ _ _ _) dJ35_init_21 rfl rfl ?_
  refine r_aload_n 23 1 (hF.pu _ _ _ _) dJ35_init_22 rfl rfl ?_
  refine f_getf 26 hF (T := TJ10) (C := RJ10) 1 (v := .int 0) okJ10 (fun _ z => ((z.mo 0 rfl).fld 1 rfl)) rfl (by decide) (Or.inl q293) (Or.inl rfl) dJ35_init_23 rfl ?_
  refine r_icmp_neN 0 0 29 33 (hF.pu _ _ _ _) dJ35_init_26 (by omega) (by omega) (by decide) (fun c26 => absurd c26 (by decide)) rfl (fun c26 => ?_)
  refine r_null 30 (hF.pu _ _ _ _) dJ35_init_29 rfl ?_
  refine r_goto 38 (hF.pu _ _ _ _) dJ35_init_30 (by decide) ?_
  refine f_put 41 hF 0 (T := TJ35) (C := RJ35) ([oC it 15 [.null, .null, .int 0, .int mc, .ref a]]) okJ35 rfl rfl 1 (by decide) (Or.inl q1131) (Or.inl rfl) rfl rfl rfl (Nat.le_of_ble_eq_true rfl) rfl dJ35_init_38 rfl ?_
  refine r_aload_n 42 0 (hF.pu _ _ _ _) dJ35_init_41 rfl rfl ?_
  refine r_iload_n 43 2 (hF.pu _ _ _ _) dJ35_init_42 rfl rfl ?_
  refine f_put 46 hF 0 (T := TJ35) (C := RJ35) ([oC it 15 [.null, .null, .int (nI 0), .int mc, .ref a]]) okJ35 rfl rfl 2 (by decide) (Or.inl q1132) (Or.inl rfl) rfl rfl rfl (Nat.le_of_ble_eq_true rfl) rfl dJ35_init_43 rfl ?_
  refine f_imsub hF [] (imk [] rfl) ?_
  exact FR.v hR dJ35_init_46 (Nat.le_of_ble_eq_true rfl) (Nat.le_of_ble_eq_true rfl) ⟨rfl, rfl, rfl⟩
theorem dvJ35 : ∀ j, j < 5 → defaultValue (tyJ35 j) = vp_V [.null, .null, .int 0, .int 0, .null] j := by
  intro j hj
  rcases (show j = 0 ∨ j = 1 ∨ j = 2 ∨ j = 3 ∨ j = 4 by omega) with rfl | rfl | rfl | rfl | rfl <;> rfl
theorem yk_J35_init : yOk yJ35_init 2 := by decide +kernel
set_option maxHeartbeats 4000000 in
theorem fc_J10_listIterator_0 (D : DD) (l : Launch) {KS : Nat → Prop} {Hb : Heap} (a : Nat) (mc : Int32) : Fc D l yJ10_listIterator cJ10_listIterator 2 (Option.some (ClassFile.FieldType.object "java/util/ListIterator")) 2 1 5 42 KS Hb [.ref a, .int (nI 0)] ([]) ([oC a 13 [.int mc, .int 0, .null, .null]]) (fun r w i => ∃ it, r = some (.ref it) ∧ w = [oC it 15 [.null, .null, .int (nI 0), .int mc, .ref a]] ∧ i = []) := by
  refine Fc.of (by decide) (Nat.le_of_ble_eq_true rfl) (fun s F hF hR => ?_)
  show F 0 0 ([]) ([oC a 13 [.int mc, .int 0, .null, .null]]) 0 [] [(0, .ref a), (1, .int (nI 0))]
  refine r_aload_n 1 0 (hF.pu _ _ _ _) dJ10_listIterator_0 rfl rfl ?_
  refine r_iload_n 2 1 (hF.pu _ _ _ _) dJ10_listIterator_1 rfl rfl ?_
  refine f_callp 5 hF (fun _ z => cp_J10_checkPositionIndex D l a 0 0 ((z.mo 0 rfl).fld 1 rfl) (by omega) (by omega)) lk_J10_76 1 yk_J10_checkPositionIndex rfl ⟨by decide, by decide⟩ (fun _ z => ((z.mo 0 rfl).fld 0 rfl)) rfl rfl (Nat.le_of_ble_eq_true rfl) dJ10_listIterator_2 ⟨Nat.le_of_ble_eq_true rfl, Nat.le_of_ble_eq_true rfl⟩ rfl ?_
  refine f_new 8 hF (ci := 15) [.null, .null, .int 0, .int 0, .null] okJ35 rfl q1120 q1121 q147 dvJ35 ⟨Nat.le_of_ble_eq_true rfl, Nat.le_of_ble_eq_true rfl⟩ dJ10_listIterator_5 rfl (fun a1_ => ?_)
  refine r_dup 9 (hF.pu _ _ _ _) dJ10_listIterator_8 rfl rfl ?_
  refine r_aload_n 10 0 (hF.pu _ _ _ _) dJ10_listIterator_9 rfl rfl ?_
  refine r_iload_n 11 1 (hF.pu _ _ _ _) dJ10_listIterator_10 rfl rfl ?_
  refine f_callI 14 hF (fc_J35_init_0 (KS := KS) (Hb := Hb) D l a1_ a mc) (wr := ([])) rfl (imk [0] rfl) q1124 q147 q1122 q1123 rfl 2 yk_J35_init rfl ⟨by decide, by decide⟩ rfl (Nat.le_of_ble_eq_true rfl) dJ10_listIterator_11 ⟨Nat.le_of_ble_eq_true rfl, Nat.le_of_ble_eq_true rfl⟩ rfl (fun r ws_ im' hp => ?_)
  obtain ⟨rfl, rfl, rfl⟩ := hp
  show F 1 5 ([oC a1_ 15 [.null, .null, .int (nI 0), .int mc, .ref a]]) ([oC a 13 [.int mc, .int 0, .null, .null]]) 14 [.ref a1_] [(0, .ref a), (1, .int (nI 0))]
  refine f_imsub hF [] (imk [] rfl) ?_
  exact FR.a hR (Or.inl ⟨_, rfl⟩) dJ10_listIterator_14 (Nat.le_of_ble_eq_true rfl) (Nat.le_of_ble_eq_true rfl) ⟨_, rfl, rfl, rfl⟩
theorem lu_J7_47_J10_listIterator : GoodIn lw_all (va_wsU RJ7 47 "java/util/LinkedList" "java/util/AbstractList" ⟨"java/util/AbstractList", "listIterator", "(I)Ljava/util/ListIterator;"⟩ yJ10_listIterator (ws_ yJ10_listIterator cJ10_listIterator 2 (Option.some (ClassFile.FieldType.object "java/util/ListIterator")))) := lw_U q670 q672 q1159 q1097 q116 q1098
theorem yu_AbstractList_listIterator_1 : uOk "java/util/AbstractList" ⟨"java/util/AbstractList", "listIterator", "(I)Ljava/util/ListIterator;"⟩ 1 := by decide +kernel
set_option maxHeartbeats 4000000 in
theorem fc_J7_listIterator_0 (D : DD) (l : Launch) {KS : Nat → Prop} {Hb : Heap} (a : Nat) (mc : Int32) : Fc D l yJ7_listIterator cJ7_listIterator 1 (Option.some (ClassFile.FieldType.object "java/util/ListIterator")) 3 1 5 63 KS Hb [.ref a] ([]) ([oC a 13 [.int mc, .int 0, .null, .null]]) (fun r w i => ∃ it, r = some (.ref it) ∧ w = [oC it 15 [.null, .null, .int (nI 0), .int mc, .ref a]] ∧ i = []) := by
  refine Fc.of (by decide) (Nat.le_of_ble_eq_true rfl) (fun s F hF hR => ?_)
  show F 0 0 ([]) ([oC a 13 [.int mc, .int 0, .null, .null]]) 0 [] [(0, .ref a)]
  refine r_aload_n 1 0 (hF.pu _ _ _ _) dJ7_listIterator_0 rfl rfl ?_
  refine r_iconst 2 0 (hF.pu _ _ _ _) dJ7_listIterator_1 (by decide) rfl ?_
  refine f_callU 5 hF (fc_J10_listIterator_0 (KS := KS) (Hb := Hb) D l a mc) (wr := ([])) rfl (imk [0] rfl) lu_J7_47_J10_listIterator nw_q1160 1 yu_AbstractList_listIterator_1 rfl ⟨by decide, by decide⟩ (fun _ z => ((z.mo 0 rfl).fld 0 rfl)) rfl rfl (Nat.le_of_ble_eq_true rfl) dJ7_listIterator_2 ⟨Nat.le_of_ble_eq_true rfl, Nat.le_of_ble_eq_true rfl⟩ rfl (fun r ws_ im' hp => ?_)
  obtain ⟨a1_, rfl, rfl, rfl⟩ := hp
  show F 1 5 ([oC a1_ 15 [.null, .null, .int (nI 0), .int mc, .ref a]]) ([oC a 13 [.int mc, .int 0, .null, .null]]) 5 [.ref a1_] [(0, .ref a)]
  refine f_imsub hF [] (imk [] rfl) ?_
  exact FR.a hR (Or.inl ⟨_, rfl⟩) dJ7_listIterator_5 (Nat.le_of_ble_eq_true rfl) (Nat.le_of_ble_eq_true rfl) ⟨_, rfl, rfl, rfl⟩
theorem lu_J9_65_J7_listIterator : GoodIn lw_all (va_wsU RJ9 65 "java/util/LinkedList" "java/util/AbstractList" ⟨"java/util/AbstractSequentialList", "listIterator", "()Ljava/util/ListIterator;"⟩ yJ7_listIterator (ws_ yJ7_listIterator cJ7_listIterator 1 (Option.some (ClassFile.FieldType.object "java/util/ListIterator")))) := lw_U q1237 q1238 q1239 q668 q113 q669
theorem yu_AbstractList_listIterator_0 : uOk "java/util/AbstractList" ⟨"java/util/AbstractSequentialList", "listIterator", "()Ljava/util/ListIterator;"⟩ 0 := by decide +kernel
set_option maxHeartbeats 4000000 in
theorem fc_J9_iterator_0 (D : DD) (l : Launch) {KS : Nat → Prop} {Hb : Heap} (a : Nat) (mc : Int32) : Fc D l yJ9_iterator cJ9_iterator 1 (Option.some (ClassFile.FieldType.object "java/util/Iterator")) 4 1 5 83 KS Hb [.ref a] ([]) ([oC a 13 [.int mc, .int 0, .null, .null]]) (fun r w i => ∃ it, r = some (.ref it) ∧ w = [oC it 15 [.null, .null, .int (nI 0), .int mc, .ref a]] ∧ i = []) := by
  refine Fc.of (by decide) (Nat.le_of_ble_eq_true rfl) (fun s F hF hR => ?_)
  show F 0 0 ([]) ([oC a 13 [.int mc, .int 0, .null, .null]]) 0 [] [(0, .ref a)]
  refine r_aload_n 1 0 (hF.pu _ _ _ _) dJ9_iterator_0 rfl rfl ?_
  refine f_callU 4 hF (fc_J7_listIterator_0 (KS := KS) (Hb := Hb) D l a mc) (wr := ([])) rfl (imk [0] rfl) lu_J9_65_J7_listIterator nw_q665 0 yu_AbstractList_listIterator_0 rfl ⟨by decide, by decide⟩ (fun _ z => ((z.mo 0 rfl).fld 0 rfl)) rfl rfl (Nat.le_of_ble_eq_true rfl) dJ9_iterator_1 ⟨Nat.le_of_ble_eq_true rfl, Nat.le_of_ble_eq_true rfl⟩ rfl (fun r ws_ im' hp => ?_)
  obtain ⟨a1_, rfl, rfl, rfl⟩ := hp
  show F 1 5 ([oC a1_ 15 [.null, .null, .int (nI 0), .int mc, .ref a]]) ([oC a 13 [.int mc, .int 0, .null, .null]]) 4 [.ref a1_] [(0, .ref a)]
  refine f_imsub hF [] (imk [] rfl) ?_
  exact FR.a hR (Or.inl ⟨_, rfl⟩) dJ9_iterator_4 (Nat.le_of_ble_eq_true rfl) (Nat.le_of_ble_eq_true rfl) ⟨_, rfl, rfl, rfl⟩
theorem lk_J35_25 : GoodIn lw_all (wsV RJ35 25 yJ10_node.cls yJ10_node (ws_ yJ10_node cJ10_node 4 (Option.some (ClassFile.FieldType.object "java/util/LinkedList$Node")))) := lw_V q1126 q1127 q1128 q116 q1129
set_option maxHeartbeats 4000000 in
theorem fc_J35_init_1 (D : DD) (l : Launch) {KS : Nat → Prop} {Hb : Heap} (it : Nat) (a b y : Nat) (mc : Int32) : Fc D l yJ35_init cJ35_init 3 none 1 0 0 23 KS Hb [.ref it, .ref a, .int (nI 0)] ([oC it 15 [.null, .null, .int 0, .int 0, .null]]) ([oC a 13 [.int mc, .int 1, .ref b, .ref b], oC b 14 [.ref y, .null, .null]]) (fun r w i => r = none ∧ w = [oC it 15 [.null, .ref b, .int (nI 0), .int mc, .ref a]] ∧ i = []) := by
  refine Fc.of (by decide) (Nat.le_of_ble_eq_true rfl) (fun s F hF hR => ?_)
  show F 0 0 ([oC it 15 [.null, .null, .int 0, .int 0, .null]]) ([oC a 13 [.int mc, .int 1, .ref b, .ref b], oC b 14 [.ref y, .null, .null]]) 0 [] [(0, .ref it), (1, .ref a), (2, .int (nI 0))]
  refine r_aload_n 1 0 (hF.pu _ _ _ _) dJ35_init_0 rfl rfl ?_
  refine r_aload_n 2 1 (hF.pu _ _ _ _) dJ35_init_1 rfl rfl ?_
  refine f_putF 5 hF 0 (T := TJ35) (C := RJ35) ([oC it 15 [.null, .null, .int 0, .int 0, .ref a]]) okJ35 rfl rfl 4 (by decide) q1134 rfl rfl rfl rfl rfl (Nat.le_of_ble_eq_true rfl) rfl dJ35_init_2 rfl ?_
  refine r_aload_n 6 0 (hF.pu _ _ _ _) dJ35_init_5 rfl rfl ?_
  refine f_objInit 9 hF q1125 q179 q180 ⟨by decide, by decide⟩ dJ35_init_6 rfl ?_
  refine r_aload_n 10 0 (hF.pu _ _ _ _) dJ35_init_9 rfl rfl ?_
  refine r_aload_n 11 0 (hF.pu _ _ _ _) dJ35_init_10 rfl rfl ?_
  refine f_getf 14 hF (T := TJ35) (C := RJ35) 4 (v := .ref a) okJ35 (fun _ z => ((z.o 0 rfl).fld 4 rfl)) rfl (by decide) (Or.inl q1134) (Or.inl rfl) dJ35_init_11 rfl ?_
  refine f_getf 17 hF (T := TJ10) (C := RJ10) 0 (v := .int mc) okJ10 (fun _ z => ((z.mo 0 rfl).fld 0 rfl)) rfl (by decide) (Or.inl q259) (Or.inr q260) dJ35_init_14 rfl ?_
  refine f_put 20 hF 0 (T := TJ35) (C := RJ35) ([oC it 15 [.null, .null, .int 0, .int mc, .ref a]]) okJ35 rfl rfl 3 (by decide) (Or.inl q1133) (Or.inl rfl) rfl rfl rfl (Nat.le_of_ble_eq_true rfl) rfl dJ35_init_17 rfl ?_
  refine r_aload_n 21 0 (hF.pu _ _ _ _) dJ35_init_20 rfl rfl ?_
  refine r_iload_n 22 2 (hF.pu _ _ _ _) dJ35_init_21 rfl rfl ?_
  refine r_aload_n 23 1 (hF.pu _ _ _ _) dJ35_init_22 rfl rfl ?_
  refine f_getf 26 hF (T := TJ10) (C := RJ10) 1 (v := .int 1) okJ10 (fun _ z => ((z.mo 0 rfl).fld 1 rfl)) rfl (by decide) (Or.inl q293) (Or.inl rfl) dJ35_init_23 rfl ?_
  refine r_icmp_neN 0 1 29 33 (hF.pu _ _ _ _) dJ35_init_26 (by omega) (by omega) (by decide) (fun c26 => ?_) rfl (fun c26 => absurd c26 (by decide))
  refine r_aload_n 34 1 (hF.pu _ _ _ _) dJ35_init_33 rfl rfl ?_
  refine r_iload_n 35 2 (hF.pu _ _ _ _) dJ35_init_34 rfl rfl ?_
  refine f_callp 38 hF (fun _ z => cp_J10_node_10 D l a b b ((z.mo 0 rfl).fld 1 rfl) ((z.mo 0 rfl).fld 2 rfl) ((z.mo 0 rfl).fld 3 rfl)) lk_J35_25 1 yk_J10_node rfl ⟨by decide, by decide⟩ (fun _ z => ((z.mo 0 rfl).fld 0 rfl)) rfl rfl (Nat.le_of_ble_eq_true rfl) dJ35_init_35 ⟨Nat.le_of_ble_eq_true rfl, Nat.le_of_ble_eq_true rfl⟩ rfl ?_
  refine f_put 41 hF 0 (T := TJ35) (C := RJ35) ([oC it 15 [.null, .ref b, .int 0, .int mc, .ref a]]) okJ35 rfl rfl 1 (by decide) (Or.inl q1131) (Or.inl rfl) rfl rfl rfl (Nat.le_of_ble_eq_true rfl) rfl dJ35_init_38 rfl ?_
  refine r_aload_n 42 0 (hF.pu _ _ _ _) dJ35_init_41 rfl rfl ?_
  refine r_iload_n 43 2 (hF.pu _ _ _ _) dJ35_init_42 rfl rfl ?_
  refine f_put 46 hF 0 (T := TJ35) (C := RJ35) ([oC it 15 [.null, .ref b, .int (nI 0), .int mc, .ref a]]) okJ35 rfl rfl 2 (by decide) (Or.inl q1132) (Or.inl rfl) rfl rfl rfl (Nat.le_of_ble_eq_true rfl) rfl dJ35_init_43 rfl ?_
  refine f_imsub hF [] (imk [] rfl) ?_
  exact FR.v hR dJ35_init_46 (Nat.le_of_ble_eq_true rfl) (Nat.le_of_ble_eq_true rfl) ⟨rfl, rfl, rfl⟩
set_option maxHeartbeats 4000000 in
theorem fc_J10_listIterator_1 (D : DD) (l : Launch) {KS : Nat → Prop} {Hb : Heap} (a b y : Nat) (mc : Int32) : Fc D l yJ10_listIterator cJ10_listIterator 2 (Option.some (ClassFile.FieldType.object "java/util/ListIterator")) 2 1 5 45 KS Hb [.ref a, .int (nI 0)] ([]) ([oC a 13 [.int mc, .int 1, .ref b, .ref b], oC b 14 [.ref y, .null, .null]]) (fun r w i => ∃ it, r = some (.ref it) ∧ w = [oC it 15 [.null, .ref b, .int (nI 0), .int mc, .ref a]] ∧ i = []) := by
  refine Fc.of (by decide) (Nat.le_of_ble_eq_true rfl) (fun s F hF hR => ?_)
  show F 0 0 ([]) ([oC a 13 [.int mc, .int 1, .ref b, .ref b], oC b 14 [.ref y, .null, .null]]) 0 [] [(0, .ref a), (1, .int (nI 0))]
  refine r_aload_n 1 0 (hF.pu _ _ _ _) dJ10_listIterator_0 rfl rfl ?_
  refine r_iload_n 2 1 (hF.pu _ _ _ _) dJ10_listIterator_1 rfl rfl ?_
  refine f_callp 5 hF (fun _ z => cp_J10_checkPositionIndex D l a 1 0 ((z.mo 0 rfl).fld 1 rfl) (by omega) (by omega)) lk_J10_76 1 yk_J10_checkPositionIndex rfl ⟨by decide, by decide⟩ (fun _ z => ((z.mo 0 rfl).fld 0 rfl)) rfl rfl (Nat.le_of_ble_eq_true rfl) dJ10_listIterator_2 ⟨Nat.le_of_ble_eq_true rfl, Nat.le_of_ble_eq_true rfl⟩ rfl ?_
  refine f_new 8 hF (ci := 15) [.null, .null, .int 0, .int 0, .null] okJ35 rfl q1120 q1121 q147 dvJ35 ⟨Nat.le_of_ble_eq_true rfl, Nat.le_of_ble_eq_true rfl⟩ dJ10_listIterator_5 rfl (fun a1_ => ?_)
  refine r_dup 9 (hF.pu _ _ _ _) dJ10_listIterator_8 rfl rfl ?_
  refine r_aload_n 10 0 (hF.pu _ _ _ _) dJ10_listIterator_9 rfl rfl ?_
  refine r_iload_n 11 1 (hF.pu _ _ _ _) dJ10_listIterator_10 rfl rfl ?_
  refine f_callI 14 hF (fc_J35_init_1 (KS := KS) (Hb := Hb) D l a1_ a b y mc) (wr := ([])) rfl (imk [0, 1] rfl) q1124 q147 q1122 q1123 rfl 2 yk_J35_init rfl ⟨by decide, by decide⟩ rfl (Nat.le_of_ble_eq_true rfl) dJ10_listIterator_11 ⟨Nat.le_of_ble_eq_true rfl, Nat.le_of_ble_eq_true rfl⟩ rfl (fun r ws_ im' hp => ?_)
  obtain ⟨rfl, rfl, rfl⟩ := hp
  show F 1 5 ([oC a1_ 15 [.null, .ref b, .int (nI 0), .int mc, .ref a]]) ([oC a 13 [.int mc, .int 1, .ref b, .ref b], oC b 14 [.ref y, .null, .null]]) 14 [.ref a1_] [(0, .ref a), (1, .int (nI 0))]
  refine f_imsub hF [] (imk [] rfl) ?_
  exact FR.a hR (Or.inl ⟨_, rfl⟩) dJ10_listIterator_14 (Nat.le_of_ble_eq_true rfl) (Nat.le_of_ble_eq_true rfl) ⟨_, rfl, rfl, rfl⟩
set_option maxHeartbeats 4000000 in
theorem fc_J7_listIterator_1 (D : DD) (l : Launch) {KS : Nat → Prop} {Hb : Heap} (a b y : Nat) (mc : Int32) : Fc D l yJ7_listIterator cJ7_listIterator 1 (Option.some (ClassFile.FieldType.object "java/util/ListIterator")) 3 1 5 66 KS Hb [.ref a] ([]) ([oC a 13 [.int mc, .int 1, .ref b, .ref b], oC b 14 [.ref y, .null, .null]]) (fun r w i => ∃ it, r = some (.ref it) ∧ w = [oC it 15 [.null, .ref b, .int (nI 0), .int mc, .ref a]] ∧ i = []) := by
  refine Fc.of (by decide) (Nat.le_of_ble_eq_true rfl) (fun s F hF hR => ?_)
  show F 0 0 ([]) ([oC a 13 [.int mc, .int 1, .ref b, .ref b], oC b 14 [.ref y, .null, .null]]) 0 [] [(0, .ref a)]
  refine r_aload_n 1 0 (hF.pu _ _ _ _) dJ7_listIterator_0 rfl rfl ?_
  refine r_iconst 2 0 (hF.pu _ _ _ _) dJ7_listIterator_1 (by decide) rfl ?_
  refine f_callU 5 hF (fc_J10_listIterator_1 (KS := KS) (Hb := Hb) D l a b y mc) (wr := ([])) rfl (imk [0, 1] rfl) lu_J7_47_J10_listIterator nw_q1160 1 yu_AbstractList_listIterator_1 rfl ⟨by decide, by decide⟩ (fun _ z => ((z.mo 0 rfl).fld 0 rfl)) rfl rfl (Nat.le_of_ble_eq_true rfl) dJ7_listIterator_2 ⟨Nat.le_of_ble_eq_true rfl, Nat.le_of_ble_eq_true rfl⟩ rfl (fun r ws_ im' hp => ?_)
  obtain ⟨a1_, rfl, rfl, rfl⟩ := hp
  show F 1 5 ([oC a1_ 15 [.null, .ref b, .int (nI 0), .int mc, .ref a]]) ([oC a 13 [.int mc, .int 1, .ref b, .ref b], oC b 14 [.ref y, .null, .null]]) 5 [.ref a1_] [(0, .ref a)]
  refine f_imsub hF [] (imk [] rfl) ?_
  exact FR.a hR (Or.inl ⟨_, rfl⟩) dJ7_listIterator_5 (Nat.le_of_ble_eq_true rfl) (Nat.le_of_ble_eq_true rfl) ⟨_, rfl, rfl, rfl⟩
set_option maxHeartbeats 4000000 in
theorem fc_J9_iterator_1 (D : DD) (l : Launch) {KS : Nat → Prop} {Hb : Heap} (a b y : Nat) (mc : Int32) : Fc D l yJ9_iterator cJ9_iterator 1 (Option.some (ClassFile.FieldType.object "java/util/Iterator")) 4 1 5 86 KS Hb [.ref a] ([]) ([oC a 13 [.int mc, .int 1, .ref b, .ref b], oC b 14 [.ref y, .null, .null]]) (fun r w i => ∃ it, r = some (.ref it) ∧ w = [oC it 15 [.null, .ref b, .int (nI 0), .int mc, .ref a]] ∧ i = []) := by
  refine Fc.of (by decide) (Nat.le_of_ble_eq_true rfl) (fun s F hF hR => ?_)
  show F 0 0 ([]) ([oC a 13 [.int mc, .int 1, .ref b, .ref b], oC b 14 [.ref y, .null, .null]]) 0 [] [(0, .ref a)]
  refine r_aload_n 1 0 (hF.pu _ _ _ _) dJ9_iterator_0 rfl rfl ?_
  refine f_callU 4 hF (fc_J7_listIterator_1 (KS := KS) (Hb := Hb) D l a b y mc) (wr := ([])) rfl (imk [0, 1] rfl) lu_J9_65_J7_listIterator nw_q665 0 yu_AbstractList_listIterator_0 rfl ⟨by decide, by decide⟩ (fun _ z => ((z.mo 0 rfl).fld 0 rfl)) rfl rfl (Nat.le_of_ble_eq_true rfl) dJ9_iterator_1 ⟨Nat.le_of_ble_eq_true rfl, Nat.le_of_ble_eq_true rfl⟩ rfl (fun r ws_ im' hp => ?_)
  obtain ⟨a1_, rfl, rfl, rfl⟩ := hp
  show F 1 5 ([oC a1_ 15 [.null, .ref b, .int (nI 0), .int mc, .ref a]]) ([oC a 13 [.int mc, .int 1, .ref b, .ref b], oC b 14 [.ref y, .null, .null]]) 4 [.ref a1_] [(0, .ref a)]
  refine f_imsub hF [] (imk [] rfl) ?_
  exact FR.a hR (Or.inl ⟨_, rfl⟩) dJ9_iterator_4 (Nat.le_of_ble_eq_true rfl) (Nat.le_of_ble_eq_true rfl) ⟨_, rfl, rfl, rfl⟩
set_option maxHeartbeats 4000000 in
theorem fc_J35_init_2 (D : DD) (l : Launch) {KS : Nat → Prop} {Hb : Heap} (it : Nat) (a b y c w : Nat) (mc : Int32) : Fc D l yJ35_init cJ35_init 3 none 1 0 0 23 KS Hb [.ref it, .ref a, .int (nI 0)] ([oC it 15 [.null, .null, .int 0, .int 0, .null]]) ([oC a 13 [.int mc, .int 2, .ref b, .ref c], oC b 14 [.ref y, .ref c, .null], oC c 14 [.ref w, .null, .ref b]]) (fun r w i => r = none ∧ w = [oC it 15 [.null, .ref b, .int (nI 0), .int mc, .ref a]] ∧ i = []) := by
  refine Fc.of (by decide) (Nat.le_of_ble_eq_true rfl) (fun s F hF hR => ?_)
  show F 0 0 ([oC it 15 [.null, .null, .int 0, .int 0, .null]]) ([oC a 13 [.int mc, .int 2, .ref b, .ref c], oC b 14 [.ref y, .ref c, .null], oC c 14 [.ref w, .null, .ref b]]) 0 [] [(0, .ref it), (1, .ref a), (2, .int (nI 0))]
  refine r_aload_n 1 0 (hF.pu _ _ _ _) dJ35_init_0 rfl rfl ?_
  refine r_aload_n 2 1 (hF.pu _ _ _ _) dJ35_init_1 rfl rfl ?_
  refine f_putF 5 hF 0 (T := TJ35) (C := RJ35) ([oC it 15 [.null, .null, .int 0, .int 0, .ref a]]) okJ35 rfl rfl 4 (by decide) q1134 rfl rfl rfl rfl rfl (Nat.le_of_ble_eq_true rfl) rfl dJ35_init_2 rfl ?_
  refine r_aload_n 6 0 (hF.pu _ _ _ _) dJ35_init_5 rfl rfl ?_
  refine f_objInit 9 hF q1125 q179 q180 ⟨by decide, by decide⟩ dJ35_init_6 rfl ?_
  refine r_aload_n 10 0 (hF.pu _ _ _ _) dJ35_init_9 rfl rfl ?_
  refine r_aload_n 11 0 (hF.pu _ _ _ _) dJ35_init_10 rfl rfl ?_
  refine f_getf 14 hF (T := TJ35) (C := RJ35) 4 (v := .ref a) okJ35 (fun _ z => ((z.o 0 rfl).fld 4 rfl)) rfl (by decide) (Or.inl q1134) (Or.inl rfl) dJ35_init_11 rfl ?_
  refine f_getf 17 hF (T := TJ10) (C := RJ10) 0 (v := .int mc) okJ10 (fun _ z => ((z.mo 0 rfl).fld 0 rfl)) rfl (by decide) (Or.inl q259) (Or.inr q260) dJ35_init_14 rfl ?_
  refine f_put 20 hF 0 (T := TJ35) (C := RJ35) ([oC it 15 [.null, .null, .int 0, .int mc, .ref a]]) okJ35 rfl rfl 3 (by decide) (Or.inl q1133) (Or.inl rfl) rfl rfl rfl (Nat.le_of_ble_eq_true rfl) rfl dJ35_init_17 rfl ?_
  refine r_aload_n 21 0 (hF.pu _ _ _ _) dJ35_init_20 rfl rfl ?_
  refine r_iload_n 22 2 (hF.pu _ _ _ _) dJ35_init_21 rfl rfl ?_
  refine r_aload_n 23 1 (hF.pu _ _ _ _) dJ35_init_22 rfl rfl ?_
  refine f_getf 26 hF (T := TJ10) (C := RJ10) 1 (v := .int 2) okJ10 (fun _ z => ((z.mo 0 rfl).fld 1 rfl)) rfl (by decide) (Or.inl q293) (Or.inl rfl) dJ35_init_23 rfl ?_
  refine r_icmp_neN 0 2 29 33 (hF.pu _ _ _ _) dJ35_init_26 (by omega) (by omega) (by decide) (fun c26 => ?_) rfl (fun c26 => absurd c26 (by decide))
  refine r_aload_n 34 1 (hF.pu _ _ _ _) dJ35_init_33 rfl rfl ?_
  refine r_iload_n 35 2 (hF.pu _ _ _ _) dJ35_init_34 rfl rfl ?_
  refine f_callp 38 hF (fun _ z => cp_J10_node_20 D l a b c ((z.mo 0 rfl).fld 1 rfl) ((z.mo 0 rfl).fld 2 rfl) ((z.mo 0 rfl).fld 3 rfl)) lk_J35_25 1 yk_J10_node rfl ⟨by decide, by decide⟩ (fun _ z => ((z.mo 0 rfl).fld 0 rfl)) rfl rfl (Nat.le_of_ble_eq_true rfl) dJ35_init_35 ⟨Nat.le_of_ble_eq_true rfl, Nat.le_of_ble_eq_true rfl⟩ rfl ?_
  refine f_put 41 hF 0 (T := TJ35) (C := RJ35) ([oC it 15 [.null, .ref b, .int 0, .int mc, .ref a]]) okJ35 rfl rfl 1 (by decide) (Or.inl q1131) (Or.inl rfl) rfl rfl rfl (Nat.le_of_ble_eq_true rfl) rfl dJ35_init_38 rfl ?_
  refine r_aload_n 42 0 (hF.pu _ _ _ _) dJ35_init_41 rfl rfl ?_
  refine r_iload_n 43 2 (hF.pu _ _ _ _) dJ35_init_42 rfl rfl ?_
  refine f_put 46 hF 0 (T := TJ35) (C := RJ35) ([oC it 15 [.null, .ref b, .int (nI 0), .int mc, .ref a]]) okJ35 rfl rfl 2 (by decide) (Or.inl q1132) (Or.inl rfl) rfl rfl rfl (Nat.le_of_ble_eq_true rfl) rfl dJ35_init_43 rfl ?_
  refine f_imsub hF [] (imk [] rfl) ?_
  exact FR.v hR dJ35_init_46 (Nat.le_of_ble_eq_true rfl) (Nat.le_of_ble_eq_true rfl) ⟨rfl, rfl, rfl⟩
set_option maxHeartbeats 4000000 in
theorem fc_J10_listIterator_2 (D : DD) (l : Launch) {KS : Nat → Prop} {Hb : Heap} (a b y c w : Nat) (mc : Int32) : Fc D l yJ10_listIterator cJ10_listIterator 2 (Option.some (ClassFile.FieldType.object "java/util/ListIterator")) 2 1 5 45 KS Hb [.ref a, .int (nI 0)] ([]) ([oC a 13 [.int mc, .int 2, .ref b, .ref c], oC b 14 [.ref y, .ref c, .null], oC c 14 [.ref w, .null, .ref b]]) (fun r w i => ∃ it, r = some (.ref it) ∧ w = [oC it 15 [.null, .ref b, .int (nI 0), .int mc, .ref a]] ∧ i = []) := by
  refine Fc.of (by decide) (Nat.le_of_ble_eq_true rfl) (fun s F hF hR => ?_)
  show F 0 0 ([]) ([oC a 13 [.int mc, .int 2, .ref b, .ref c], oC b 14 [.ref y, .ref c, .null], oC c 14 [.ref w, .null, .ref b]]) 0 [] [(0, .ref a), (1, .int (nI 0))]
  refine r_aload_n 1 0 (hF.pu _ _ _ _) dJ10_listIterator_0 rfl rfl ?_
  refine r_iload_n 2 1 (hF.pu _ _ _ _) dJ10_listIterator_1 rfl rfl ?_
  refine f_callp 5 hF (fun _ z => cp_J10_checkPositionIndex D l a 2 0 ((z.mo 0 rfl).fld 1 rfl) (by omega) (by omega)) lk_J10_76 1 yk_J10_checkPositionIndex rfl ⟨by decide, by decide⟩ (fun _ z => ((z.mo 0 rfl).fld 0 rfl)) rfl rfl (Nat.le_of_ble_eq_true rfl) dJ10_listIterator_2 ⟨Nat.le_of_ble_eq_true rfl, Nat.le_of_ble_eq_true rfl⟩ rfl ?_
  refine f_new 8 hF (ci := 15) [.null, .null, .int 0, .int 0, .null] okJ35 rfl q1120 q1121 q147 dvJ35 ⟨Nat.le_of_ble_eq_true rfl, Nat.le_of_ble_eq_true rfl⟩ dJ10_listIterator_5 rfl (fun a1_ => ?_)
  refine r_dup 9 (hF.pu _ _ _ _) dJ10_listIterator_8 rfl rfl ?_
  refine r_aload_n 10 0 (hF.pu _ _ _ _) dJ10_listIterator_9 rfl rfl ?_
  refine r_iload_n 11 1 (hF.pu _ _ _ _) dJ10_listIterator_10 rfl rfl ?_
  refine f_callI 14 hF (fc_J35_init_2 (KS := KS) (Hb := Hb) D l a1_ a b y c w mc) (wr := ([])) rfl (imk [0, 1, 2] rfl) q1124 q147 q1122 q1123 rfl 2 yk_J35_init rfl ⟨by decide, by decide⟩ rfl (Nat.le_of_ble_eq_true rfl) dJ10_listIterator_11 ⟨Nat.le_of_ble_eq_true rfl, Nat.le_of_ble_eq_true rfl⟩ rfl (fun r ws_ im' hp => ?_)
  obtain ⟨rfl, rfl, rfl⟩ := hp
  show F 1 5 ([oC a1_ 15 [.null, .ref b, .int (nI 0), .int mc, .ref a]]) ([oC a 13 [.int mc, .int 2, .ref b, .ref c], oC b 14 [.ref y, .ref c, .null], oC c 14 [.ref w, .null, .ref b]]) 14 [.ref a1_] [(0, .ref a), (1, .int (nI 0))]
  refine f_imsub hF [] (imk [] rfl) ?_
  exact FR.a hR (Or.inl ⟨_, rfl⟩) dJ10_listIterator_14 (Nat.le_of_ble_eq_true rfl) (Nat.le_of_ble_eq_true rfl) ⟨_, rfl, rfl, rfl⟩
set_option maxHeartbeats 4000000 in
theorem fc_J7_listIterator_2 (D : DD) (l : Launch) {KS : Nat → Prop} {Hb : Heap} (a b y c w : Nat) (mc : Int32) : Fc D l yJ7_listIterator cJ7_listIterator 1 (Option.some (ClassFile.FieldType.object "java/util/ListIterator")) 3 1 5 66 KS Hb [.ref a] ([]) ([oC a 13 [.int mc, .int 2, .ref b, .ref c], oC b 14 [.ref y, .ref c, .null], oC c 14 [.ref w, .null, .ref b]]) (fun r w i => ∃ it, r = some (.ref it) ∧ w = [oC it 15 [.null, .ref b, .int (nI 0), .int mc, .ref a]] ∧ i = []) := by
  refine Fc.of (by decide) (Nat.le_of_ble_eq_true rfl) (fun s F hF hR => ?_)
  show F 0 0 ([]) ([oC a 13 [.int mc, .int 2, .ref b, .ref c], oC b 14 [.ref y, .ref c, .null], oC c 14 [.ref w, .null, .ref b]]) 0 [] [(0, .ref a)]
  refine r_aload_n 1 0 (hF.pu _ _ _ _) dJ7_listIterator_0 rfl rfl ?_
  refine r_iconst 2 0 (hF.pu _ _ _ _) dJ7_listIterator_1 (by decide) rfl ?_
  refine f_callU 5 hF (fc_J10_listIterator_2 (KS := KS) (Hb := Hb) D l a b y c w mc) (wr := ([])) rfl (imk [0, 1, 2] rfl) lu_J7_47_J10_listIterator nw_q1160 1 yu_AbstractList_listIterator_1 rfl ⟨by decide, by decide⟩ (fun _ z => ((z.mo 0 rfl).fld 0 rfl)) rfl rfl (Nat.le_of_ble_eq_true rfl) dJ7_listIterator_2 ⟨Nat.le_of_ble_eq_true rfl, Nat.le_of_ble_eq_true rfl⟩ rfl (fun r ws_ im' hp => ?_)
  obtain ⟨a1_, rfl, rfl, rfl⟩ := hp
  show F 1 5 ([oC a1_ 15 [.null, .ref b, .int (nI 0), .int mc, .ref a]]) ([oC a 13 [.int mc, .int 2, .ref b, .ref c], oC b 14 [.ref y, .ref c, .null], oC c 14 [.ref w, .null, .ref b]]) 5 [.ref a1_] [(0, .ref a)]
  refine f_imsub hF [] (imk [] rfl) ?_
  exact FR.a hR (Or.inl ⟨_, rfl⟩) dJ7_listIterator_5 (Nat.le_of_ble_eq_true rfl) (Nat.le_of_ble_eq_true rfl) ⟨_, rfl, rfl, rfl⟩
set_option maxHeartbeats 4000000 in
theorem fc_J9_iterator_2 (D : DD) (l : Launch) {KS : Nat → Prop} {Hb : Heap} (a b y c w : Nat) (mc : Int32) : Fc D l yJ9_iterator cJ9_iterator 1 (Option.some (ClassFile.FieldType.object "java/util/Iterator")) 4 1 5 86 KS Hb [.ref a] ([]) ([oC a 13 [.int mc, .int 2, .ref b, .ref c], oC b 14 [.ref y, .ref c, .null], oC c 14 [.ref w, .null, .ref b]]) (fun r w i => ∃ it, r = some (.ref it) ∧ w = [oC it 15 [.null, .ref b, .int (nI 0), .int mc, .ref a]] ∧ i = []) := by
  refine Fc.of (by decide) (Nat.le_of_ble_eq_true rfl) (fun s F hF hR => ?_)
  show F 0 0 ([]) ([oC a 13 [.int mc, .int 2, .ref b, .ref c], oC b 14 [.ref y, .ref c, .null], oC c 14 [.ref w, .null, .ref b]]) 0 [] [(0, .ref a)]
  refine r_aload_n 1 0 (hF.pu _ _ _ _) dJ9_iterator_0 rfl rfl ?_
  refine f_callU 4 hF (fc_J7_listIterator_2 (KS := KS) (Hb := Hb) D l a b y c w mc) (wr := ([])) rfl (imk [0, 1, 2] rfl) lu_J9_65_J7_listIterator nw_q665 0 yu_AbstractList_listIterator_0 rfl ⟨by decide, by decide⟩ (fun _ z => ((z.mo 0 rfl).fld 0 rfl)) rfl rfl (Nat.le_of_ble_eq_true rfl) dJ9_iterator_1 ⟨Nat.le_of_ble_eq_true rfl, Nat.le_of_ble_eq_true rfl⟩ rfl (fun r ws_ im' hp => ?_)
  obtain ⟨a1_, rfl, rfl, rfl⟩ := hp
  show F 1 5 ([oC a1_ 15 [.null, .ref b, .int (nI 0), .int mc, .ref a]]) ([oC a 13 [.int mc, .int 2, .ref b, .ref c], oC b 14 [.ref y, .ref c, .null], oC c 14 [.ref w, .null, .ref b]]) 4 [.ref a1_] [(0, .ref a)]
  refine f_imsub hF [] (imk [] rfl) ?_
  exact FR.a hR (Or.inl ⟨_, rfl⟩) dJ9_iterator_4 (Nat.le_of_ble_eq_true rfl) (Nat.le_of_ble_eq_true rfl) ⟨_, rfl, rfl, rfl⟩
set_option maxHeartbeats 2000000 in
theorem cp_J35_hasNext (D : DD) (l : Launch) {H0 : Heap} (it a ix n : Nat) (h1 : fld D 15 it 2 (.int (nI ix)) H0) (h2 : fld D 15 it 4 (.ref a) H0) (h3 : fld D 13 a 1 (.int (nI n)) H0) (hx : ix < 9) (hn : n < 9) : Cp D l yJ35_hasNext cJ35_hasNext 1 (some .boolean) 0 0 [.ref it] H0 (some (.int (zB (decide (ix < n))))) := by
  refine Cp.of (by decide) (Nat.le_of_ble_eq_true rfl) (fun s A J hJ hR => ?_)
  show J H0 0 0 0 [] [(0, .ref it)]
  refine r_aload_n 1 0 (hJ.pu _ _ _) dJ35_hasNext_0 rfl rfl ?_
  refine j_getf 4 hJ (T := TJ35) (C := RJ35) 2 (v := .int (nI ix)) okJ35 h1 rfl (by decide) (Or.inl q1132) (Or.inl rfl) dJ35_hasNext_1 rfl ?_
  refine r_aload_n 5 0 (hJ.pu _ _ _) dJ35_hasNext_4 rfl rfl ?_
  refine j_getf 8 hJ (T := TJ35) (C := RJ35) 4 (v := .ref a) okJ35 h2 rfl (by decide) (Or.inl q1134) (Or.inl rfl) dJ35_hasNext_5 rfl ?_
  refine j_getf 11 hJ (T := TJ10) (C := RJ10) 1 (v := .int (nI n)) okJ10 h3 rfl (by decide) (Or.inl q293) (Or.inl rfl) dJ35_hasNext_8 rfl ?_
  refine r_icmp_geN ix n 14 18 (hJ.pu _ _ _) dJ35_hasNext_11 (by omega) (by omega) (by decide) (fun c11 => ?_) rfl (fun c11 => ?_)
  · refine r_iconst 19 0 (hJ.pu _ _ _) dJ35_hasNext_18 (by decide) rfl ?_
    exact Rt.i hR rfl dJ35_hasNext_19 (Nat.zero_le _) (Nat.zero_le _) ⟨(by first | (rw [decide_eq_true (by omega)]; rfl) | (rw [decide_eq_false (by omega)]; rfl)), rfl⟩
  · refine r_iconst 15 1 (hJ.pu _ _ _) dJ35_hasNext_14 (by decide) rfl ?_
    refine r_goto 19 (hJ.pu _ _ _) dJ35_hasNext_15 (by decide) ?_
    exact Rt.i hR rfl dJ35_hasNext_19 (Nat.zero_le _) (Nat.zero_le _) ⟨(by first | (rw [decide_eq_true (by omega)]; rfl) | (rw [decide_eq_false (by omega)]; rfl)), rfl⟩
set_option maxHeartbeats 2000000 in
theorem cp_J35_checkForComodification (D : DD) (l : Launch) {H0 : Heap} (it a : Nat) (mc : Int32) (h1 : fld D 15 it 3 (.int mc) H0) (h2 : fld D 15 it 4 (.ref a) H0) (h3 : fld D 13 a 0 (.int mc) H0) : Cp D l yJ35_checkForComodification cJ35_checkForComodification 1 none 0 0 [.ref it] H0 none := by
  refine Cp.of (by decide) (Nat.le_of_ble_eq_true rfl) (fun s A J hJ hR => ?_)
  show J H0 0 0 0 [] [(0, .ref it)]
  refine r_aload_n 1 0 (hJ.pu _ _ _) dJ35_checkForComodification_0 rfl rfl ?_
  refine j_getf 4 hJ (T := TJ35) (C := RJ35) 4 (v := .ref a) okJ35 h2 rfl (by decide) (Or.inl q1134) (Or.inl rfl) dJ35_checkForComodification_1 rfl ?_
  refine j_getf 7 hJ (T := TJ10) (C := RJ10) 0 (v := .int mc) okJ10 h3 rfl (by decide) (Or.inl q259) (Or.inr q260) dJ35_checkForComodification_4 rfl ?_
  refine r_aload_n 8 0 (hJ.pu _ _ _) dJ35_checkForComodification_7 rfl rfl ?_
  refine j_getf 11 hJ (T := TJ35) (C := RJ35) 3 (v := .int mc) okJ35 h1 rfl (by decide) (Or.inl q1133) (Or.inl rfl) dJ35_checkForComodification_8 rfl ?_
  refine r_icmp_eq 14 22 (hJ.pu _ _ _) dJ35_checkForComodification_11 (by decide) (fun c11 => ?_) rfl (fun c11 => absurd c11 (fun z => z rfl))
  exact Rt.v hR dJ35_checkForComodification_22 (Nat.zero_le _) (Nat.zero_le _) ⟨rfl, rfl⟩
theorem lk_J35_36 : GoodIn lw_all (wsV RJ35 36 yJ35_checkForComodification.cls yJ35_checkForComodification (ws_ yJ35_checkForComodification cJ35_checkForComodification 1 none)) := lw_V q1612 q1613 q1614 q147 q1615
theorem yk_J35_checkForComodification : yOk yJ35_checkForComodification 0 := by decide +kernel
theorem lk_J35_39 : GoodIn lw_all (wsV RJ35 39 yJ35_hasNext.cls yJ35_hasNext (ws_ yJ35_hasNext cJ35_hasNext 1 (some .boolean))) := lw_V q1616 q1356 q3927 q147 q1358
theorem yk_J35_hasNext : yOk yJ35_hasNext 0 := by decide +kernel
set_option maxHeartbeats 4000000 in
theorem fc_J35_next_e (D : DD) (l : Launch) {KS : Nat → Prop} {Hb : Heap} (it a b x ix n : Nat) (mc : Int32) (lr p q pv : Value) (hx : ix < n) (hn : n < 9) : Fc D l yJ35_next cJ35_next 1 (Option.some (ClassFile.FieldType.object "java/lang/Object")) 1 0 0 20 KS Hb [.ref it] ([oC it 15 [lr, .ref b, .int (nI ix), .int mc, .ref a]]) ([oC a 13 [.int mc, .int (nI n), p, q], oC b 14 [.ref x, .null, pv]]) (fun r w i => r = some (.ref x) ∧ w = [oC it 15 [.ref b, .null, .int (nI (ix + 1)), .int mc, .ref a]] ∧ i = []) := by
  refine Fc.of (by decide) (Nat.le_of_ble_eq_true rfl) (fun s F hF hR => ?_)
  show F 0 0 ([oC it 15 [lr, .ref b, .int (nI ix), .int mc, .ref a]]) ([oC a 13 [.int mc, .int (nI n), p, q], oC b 14 [.ref x, .null, pv]]) 0 [] [(0, .ref it)]
  refine r_aload_n 1 0 (hF.pu _ _ _ _) dJ35_next_0 rfl rfl ?_
  refine f_callp 4 hF (fun _ z => cp_J35_checkForComodification D l it a mc ((z.o 0 rfl).fld 3 rfl) ((z.o 0 rfl).fld 4 rfl) ((z.mo 0 rfl).fld 0 rfl)) lk_J35_36 0 yk_J35_checkForComodification rfl ⟨by decide, by decide⟩ (fun _ z => ((z.o 0 rfl).fld 0 rfl)) rfl rfl (Nat.le_of_ble_eq_true rfl) dJ35_next_1 ⟨Nat.le_of_ble_eq_true rfl, Nat.le_of_ble_eq_true rfl⟩ rfl ?_
  refine r_aload_n 5 0 (hF.pu _ _ _ _) dJ35_next_4 rfl rfl ?_
  refine f_callp 8 hF (fun _ z => cp_J35_hasNext D l it a ix n ((z.o 0 rfl).fld 2 rfl) ((z.o 0 rfl).fld 4 rfl) ((z.mo 0 rfl).fld 1 rfl) (by omega) (by omega)) lk_J35_39 0 yk_J35_hasNext rfl ⟨by decide, by decide⟩ (fun _ z => ((z.o 0 rfl).fld 0 rfl)) rfl rfl (Nat.le_of_ble_eq_true rfl) dJ35_next_5 ⟨Nat.le_of_ble_eq_true rfl, Nat.le_of_ble_eq_true rfl⟩ rfl ?_
  refine r_eqi 1 (by rw [decide_eq_true hx]; rfl) ?_
  refine r_if_ne 11 19 (hF.pu _ _ _ _) dJ35_next_8 (by decide) (fun _ => ?_) rfl (fun c => absurd c (by decide))
  refine r_aload_n 20 0 (hF.pu _ _ _ _) dJ35_next_19 rfl rfl ?_
  refine r_aload_n 21 0 (hF.pu _ _ _ _) dJ35_next_20 rfl rfl ?_
  refine f_getf 24 hF (T := TJ35) (C := RJ35) 1 (v := .ref b) okJ35 (fun _ z => ((z.o 0 rfl).fld 1 rfl)) rfl (by decide) (Or.inl q1131) (Or.inl rfl) dJ35_next_21 rfl ?_
  refine f_put 27 hF 0 (T := TJ35) (C := RJ35) ([oC it 15 [.ref b, .ref b, .int (nI ix), .int mc, .ref a]]) okJ35 rfl rfl 0 (by decide) (Or.inl q1130) (Or.inl rfl) rfl rfl rfl (Nat.le_of_ble_eq_true rfl) rfl dJ35_next_24 rfl ?_
  refine r_aload_n 28 0 (hF.pu _ _ _ _) dJ35_next_27 rfl rfl ?_
  refine r_aload_n 29 0 (hF.pu _ _ _ _) dJ35_next_28 rfl rfl ?_
  refine f_getf 32 hF (T := TJ35) (C := RJ35) 1 (v := .ref b) okJ35 (fun _ z => ((z.o 0 rfl).fld 1 rfl)) rfl (by decide) (Or.inl q1131) (Or.inl rfl) dJ35_next_29 rfl ?_
  refine f_getf 35 hF (T := TJ39) (C := RJ39) 1 (v := .null) okJ39 (fun _ z => ((z.mo 1 rfl).fld 1 rfl)) rfl (by decide) (Or.inl q1733) (Or.inl rfl) dJ35_next_32 rfl ?_
  refine f_put 38 hF 0 (T := TJ35) (C := RJ35) ([oC it 15 [.ref b, .null, .int (nI ix), .int mc, .ref a]]) okJ35 rfl rfl 1 (by decide) (Or.inl q1131) (Or.inl rfl) rfl rfl rfl (Nat.le_of_ble_eq_true rfl) rfl dJ35_next_35 rfl ?_
  refine r_aload_n 39 0 (hF.pu _ _ _ _) dJ35_next_38 rfl rfl ?_
  refine r_dup 40 (hF.pu _ _ _ _) dJ35_next_39 rfl rfl ?_
  refine f_getf 43 hF (T := TJ35) (C := RJ35) 2 (v := .int (nI ix)) okJ35 (fun _ z => ((z.o 0 rfl).fld 2 rfl)) rfl (by decide) (Or.inl q1132) (Or.inl rfl) dJ35_next_40 rfl ?_
  refine r_iconst 44 1 (hF.pu _ _ _ _) dJ35_next_43 (by decide) rfl ?_
  refine r_iaddN ix 1 (ix + 1) 45 (hF.pu _ _ _ _) dJ35_next_44 rfl rfl ?_
  refine f_put 48 hF 0 (T := TJ35) (C := RJ35) ([oC it 15 [.ref b, .null, .int (nI (ix + 1)), .int mc, .ref a]]) okJ35 rfl rfl 2 (by decide) (Or.inl q1132) (Or.inl rfl) rfl rfl rfl (Nat.le_of_ble_eq_true rfl) rfl dJ35_next_45 rfl ?_
  refine r_aload_n 49 0 (hF.pu _ _ _ _) dJ35_next_48 rfl rfl ?_
  refine f_getf 52 hF (T := TJ35) (C := RJ35) 0 (v := .ref b) okJ35 (fun _ z => ((z.o 0 rfl).fld 0 rfl)) rfl (by decide) (Or.inl q1130) (Or.inl rfl) dJ35_next_49 rfl ?_
  refine f_getf 55 hF (T := TJ39) (C := RJ39) 0 (v := .ref x) okJ39 (fun _ z => ((z.mo 1 rfl).fld 0 rfl)) rfl (by decide) (Or.inl q1730) (Or.inl rfl) dJ35_next_52 rfl ?_
  refine f_imsub hF [] (imk [] rfl) ?_
  exact FR.a hR (Or.inl ⟨_, rfl⟩) dJ35_next_55 (Nat.le_of_ble_eq_true rfl) (Nat.le_of_ble_eq_true rfl) ⟨rfl, rfl, rfl⟩
set_option maxHeartbeats 4000000 in
theorem fc_J35_next_c (D : DD) (l : Launch) {KS : Nat → Prop} {Hb : Heap} (it a b x c ix n : Nat) (mc : Int32) (lr p q pv : Value) (hx : ix < n) (hn : n < 9) : Fc D l yJ35_next cJ35_next 1 (Option.some (ClassFile.FieldType.object "java/lang/Object")) 1 0 0 20 KS Hb [.ref it] ([oC it 15 [lr, .ref b, .int (nI ix), .int mc, .ref a]]) ([oC a 13 [.int mc, .int (nI n), p, q], oC b 14 [.ref x, .ref c, pv]]) (fun r w i => r = some (.ref x) ∧ w = [oC it 15 [.ref b, .ref c, .int (nI (ix + 1)), .int mc, .ref a]] ∧ i = []) := by
  refine Fc.of (by decide) (Nat.le_of_ble_eq_true rfl) (fun s F hF hR => ?_)
  show F 0 0 ([oC it 15 [lr, .ref b, .int (nI ix), .int mc, .ref a]]) ([oC a 13 [.int mc, .int (nI n), p, q], oC b 14 [.ref x, .ref c, pv]]) 0 [] [(0, .ref it)]
  refine r_aload_n 1 0 (hF.pu _ _ _ _) dJ35_next_0 rfl rfl ?_
  refine f_callp 4 hF (fun _ z => cp_J35_checkForComodification D l it a mc ((z.o 0 rfl).fld 3 rfl) ((z.o 0 rfl).fld 4 rfl) ((z.mo 0 rfl).fld 0 rfl)) lk_J35_36 0 yk_J35_checkForComodification rfl ⟨by decide, by decide⟩ (fun _ z => ((z.o 0 rfl).fld 0 rfl)) rfl rfl (Nat.le_of_ble_eq_true rfl) dJ35_next_1 ⟨Nat.le_of_ble_eq_true rfl, Nat.le_of_ble_eq_true rfl⟩ rfl ?_
  refine r_aload_n 5 0 (hF.pu _ _ _ _) dJ35_next_4 rfl rfl ?_
  refine f_callp 8 hF (fun _ z => cp_J35_hasNext D l it a ix n ((z.o 0 rfl).fld 2 rfl) ((z.o 0 rfl).fld 4 rfl) ((z.mo 0 rfl).fld 1 rfl) (by omega) (by omega)) lk_J35_39 0 yk_J35_hasNext rfl ⟨by decide, by decide⟩ (fun _ z => ((z.o 0 rfl).fld 0 rfl)) rfl rfl (Nat.le_of_ble_eq_true rfl) dJ35_next_5 ⟨Nat.le_of_ble_eq_true rfl, Nat.le_of_ble_eq_true rfl⟩ rfl ?_
  refine r_eqi 1 (by rw [decide_eq_true hx]; rfl) ?_
  refine r_if_ne 11 19 (hF.pu _ _ _ _) dJ35_next_8 (by decide) (fun _ => ?_) rfl (fun c => absurd c (by decide))
  refine r_aload_n 20 0 (hF.pu _ _ _ _) dJ35_next_19 rfl rfl ?_
  refine r_aload_n 21 0 (hF.pu _ _ _ _) dJ35_next_20 rfl rfl ?_
  refine f_getf 24 hF (T := TJ35) (C := RJ35) 1 (v := .ref b) okJ35 (fun _ z => ((z.o 0 rfl).fld 1 rfl)) rfl (by decide) (Or.inl q1131) (Or.inl rfl) dJ35_next_21 rfl ?_
  refine f_put 27 hF 0 (T := TJ35) (C := RJ35) ([oC it 15 [.ref b, .ref b, .int (nI ix), .int mc, .ref a]]) okJ35 rfl rfl 0 (by decide) (Or.inl q1130) (Or.inl rfl) rfl rfl rfl (Nat.le_of_ble_eq_true rfl) rfl dJ35_next_24 rfl ?_
  refine r_aload_n 28 0 (hF.pu _ _ _ _) dJ35_next_27 rfl rfl ?_
  refine r_aload_n 29 0 (hF.pu _ _ _ _) dJ35_next_28 rfl rfl ?_
  refine f_getf 32 hF (T := TJ35) (C := RJ35) 1 (v := .ref b) okJ35 (fun _ z => ((z.o 0 rfl).fld 1 rfl)) rfl (by decide) (Or.inl q1131) (Or.inl rfl) dJ35_next_29 rfl ?_
  refine f_getf 35 hF (T := TJ39) (C := RJ39) 1 (v := .ref c) okJ39 (fun _ z => ((z.mo 1 rfl).fld 1 rfl)) rfl (by decide) (Or.inl q1733) (Or.inl rfl) dJ35_next_32 rfl ?_
  refine f_put 38 hF 0 (T := TJ35) (C := RJ35) ([oC it 15 [.ref b, .ref c, .int (nI ix), .int mc, .ref a]]) okJ35 rfl rfl 1 (by decide) (Or.inl q1131) (Or.inl rfl) rfl rfl rfl (Nat.le_of_ble_eq_true rfl) rfl dJ35_next_35 rfl ?_
  refine r_aload_n 39 0 (hF.pu _ _ _ _) dJ35_next_38 rfl rfl ?_
  refine r_dup 40 (hF.pu _ _ _ _) dJ35_next_39 rfl rfl ?_
  refine f_getf 43 hF (T := TJ35) (C := RJ35) 2 (v := .int (nI ix)) okJ35 (fun _ z => ((z.o 0 rfl).fld 2 rfl)) rfl (by decide) (Or.inl q1132) (Or.inl rfl) dJ35_next_40 rfl ?_
  refine r_iconst 44 1 (hF.pu _ _ _ _) dJ35_next_43 (by decide) rfl ?_
  refine r_iaddN ix 1 (ix + 1) 45 (hF.pu _ _ _ _) dJ35_next_44 rfl rfl ?_
  refine f_put 48 hF 0 (T := TJ35) (C := RJ35) ([oC it 15 [.ref b, .ref c, .int (nI (ix + 1)), .int mc, .ref a]]) okJ35 rfl rfl 2 (by decide) (Or.inl q1132) (Or.inl rfl) rfl rfl rfl (Nat.le_of_ble_eq_true rfl) rfl dJ35_next_45 rfl ?_
  refine r_aload_n 49 0 (hF.pu _ _ _ _) dJ35_next_48 rfl rfl ?_
  refine f_getf 52 hF (T := TJ35) (C := RJ35) 0 (v := .ref b) okJ35 (fun _ z => ((z.o 0 rfl).fld 0 rfl)) rfl (by decide) (Or.inl q1130) (Or.inl rfl) dJ35_next_49 rfl ?_
  refine f_getf 55 hF (T := TJ39) (C := RJ39) 0 (v := .ref x) okJ39 (fun _ z => ((z.mo 1 rfl).fld 0 rfl)) rfl (by decide) (Or.inl q1730) (Or.inl rfl) dJ35_next_52 rfl ?_
  refine f_imsub hF [] (imk [] rfl) ?_
  exact FR.a hR (Or.inl ⟨_, rfl⟩) dJ35_next_55 (Nat.le_of_ble_eq_true rfl) (Nat.le_of_ble_eq_true rfl) ⟨rfl, rfl, rfl⟩
