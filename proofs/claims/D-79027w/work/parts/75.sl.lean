set_option maxHeartbeats 2000000 in
theorem cp_J7_subListRangeCheck (D : DD) (l : Launch) {H0 : Heap} (i j n : Nat) (h1 : i ≤ j) (h2 : j ≤ n) (hn : n < 2 ^ 31) : Cp D l yJ7_subListRangeCheck cJ7_subListRangeCheck 3 none 0 0 [.int (nI i), .int (nI j), .int (nI n)] H0 none := by
  refine Cp.of (by decide) (Nat.le_of_ble_eq_true rfl) (fun s A J hJ hR => ?_)
  show J H0 0 0 0 [] [(0, .int (nI i)), (1, .int (nI j)), (2, .int (nI n))]
  refine r_iload_n 1 0 (hJ.pu _ _ _) dJ7_subListRangeCheck_0 rfl rfl ?_
  refine r_if_geN i 4 31 (hJ.pu _ _ _) dJ7_subListRangeCheck_1 (by omega) (by decide) ?_
  refine r_iload_n 32 1 (hJ.pu _ _ _) dJ7_subListRangeCheck_31 rfl rfl ?_
  refine r_iload_n 33 2 (hJ.pu _ _ _) dJ7_subListRangeCheck_32 rfl rfl ?_
  refine r_icmp_leN j n 36 63 (hJ.pu _ _ _) dJ7_subListRangeCheck_33 (by omega) (by omega) (by decide) (fun c33 => ?_) rfl (fun c33 => absurd c33 (by omega))
  refine r_iload_n 64 0 (hJ.pu _ _ _) dJ7_subListRangeCheck_63 rfl rfl ?_
  refine r_iload_n 65 1 (hJ.pu _ _ _) dJ7_subListRangeCheck_64 rfl rfl ?_
  refine r_icmp_leN i j 68 109 (hJ.pu _ _ _) dJ7_subListRangeCheck_65 (by omega) (by omega) (by decide) (fun c65 => ?_) rfl (fun c65 => absurd c65 (by omega))
  exact Rt.v hR dJ7_subListRangeCheck_109 (Nat.zero_le _) (Nat.zero_le _) ⟨rfl, rfl⟩
set_option maxHeartbeats 4000000 in
theorem fc_J48_init (D : DD) (l : Launch) {KS : Nat → Prop} {Hb : Heap} (sl a i j : Nat) (mc : Int32) (hij : i ≤ j) (x y z : Value) : Fc D l yJ48_init cJ48_init 4 none 3 0 0 60 KS Hb [.ref sl, .ref a, .int (nI i), .int (nI j)] ([oC sl 22 [.int 0, .null, .null, .int 0, .int 0]]) ([oC a 12 [.int mc, x, y]]) (fun r w i_ => r = none ∧ w = [oC sl 22 [.int mc, .ref a, .null, .int (nI i), .int (nI (j - i))]] ∧ i_ = []) := by
  refine Fc.of (by decide) (Nat.le_of_ble_eq_true rfl) (fun s F hF hR => ?_)
  show F 0 0 ([oC sl 22 [.int 0, .null, .null, .int 0, .int 0]]) ([oC a 12 [.int mc, x, y]]) 0 [] [(0, .ref sl), (1, .ref a), (2, .int (nI i)), (3, .int (nI j))]
  refine r_aload_n 1 0 (hF.pu _ _ _ _) dJ48_init_0 rfl rfl ?_
  refine f_callI 4 hF (fc_J7_init_J48 (KS := KS) (Hb := Hb) D l sl) (wr := ([])) rfl (imk [] rfl) q247 q113 q2645 q246 rfl 0 yk_J7_init rfl ⟨by decide, by decide⟩ rfl (Nat.le_of_ble_eq_true rfl) dJ48_init_1 ⟨Nat.le_of_ble_eq_true rfl, Nat.le_of_ble_eq_true rfl⟩ rfl (fun r ws_ im' hp => ?_)
  obtain ⟨rfl, rfl, rfl⟩ := hp
  show F 0 0 ([oC sl 22 [.int 0, .null, .null, .int 0, .int 0]]) ([oC a 12 [.int mc, x, y]]) 4 [] [(0, .ref sl), (1, .ref a), (2, .int (nI i)), (3, .int (nI j))]
  refine r_aload_n 5 0 (hF.pu _ _ _ _) dJ48_init_4 rfl rfl ?_
  refine r_aload_n 6 1 (hF.pu _ _ _ _) dJ48_init_5 rfl rfl ?_
  refine f_putF 9 hF 0 (T := TJ48) (C := RJ48) ([oC sl 22 [.int 0, .ref a, .null, .int 0, .int 0]]) okJ48 rfl rfl 1 (by decide) q2646 rfl rfl rfl rfl rfl (Nat.le_of_ble_eq_true rfl) rfl dJ48_init_6 rfl ?_
  refine r_aload_n 10 0 (hF.pu _ _ _ _) dJ48_init_9 rfl rfl ?_
  refine r_null 11 (hF.pu _ _ _ _) dJ48_init_10 rfl ?_
  refine f_putF 14 hF 0 (T := TJ48) (C := RJ48) ([oC sl 22 [.int 0, .ref a, .null, .int 0, .int 0]]) okJ48 rfl rfl 2 (by decide) q2648 rfl rfl rfl rfl rfl (Nat.le_of_ble_eq_true rfl) rfl dJ48_init_11 rfl ?_
  refine r_aload_n 15 0 (hF.pu _ _ _ _) dJ48_init_14 rfl rfl ?_
  refine r_iload_n 16 2 (hF.pu _ _ _ _) dJ48_init_15 rfl rfl ?_
  refine f_putF 19 hF 0 (T := TJ48) (C := RJ48) ([oC sl 22 [.int 0, .ref a, .null, .int (nI i), .int 0]]) okJ48 rfl rfl 3 (by decide) q2649 rfl rfl rfl rfl rfl (Nat.le_of_ble_eq_true rfl) rfl dJ48_init_16 rfl ?_
  refine r_aload_n 20 0 (hF.pu _ _ _ _) dJ48_init_19 rfl rfl ?_
  refine r_iload_n 21 3 (hF.pu _ _ _ _) dJ48_init_20 rfl rfl ?_
  refine r_iload_n 22 2 (hF.pu _ _ _ _) dJ48_init_21 rfl rfl ?_
  refine r_isubN j i (j - i) 23 (hF.pu _ _ _ _) dJ48_init_22 (by omega) (by omega) rfl ?_
  refine f_put 26 hF 0 (T := TJ48) (C := RJ48) ([oC sl 22 [.int 0, .ref a, .null, .int (nI i), .int (nI (j - i))]]) okJ48 rfl rfl 4 (by decide) (Or.inl q2651) (Or.inl rfl) rfl rfl rfl (Nat.le_of_ble_eq_true rfl) rfl dJ48_init_23 rfl ?_
  refine r_aload_n 27 0 (hF.pu _ _ _ _) dJ48_init_26 rfl rfl ?_
  refine r_aload_n 28 1 (hF.pu _ _ _ _) dJ48_init_27 rfl rfl ?_
  refine f_getf 31 hF (T := TJ8) (C := RJ8) 0 (v := .int mc) okJ8 (fun _ z => ((z.mo 0 rfl).fld 0 rfl)) rfl (by decide) (Or.inl q264) (Or.inr q262) dJ48_init_28 rfl ?_
  refine f_put 34 hF 0 (T := TJ48) (C := RJ48) ([oC sl 22 [.int mc, .ref a, .null, .int (nI i), .int (nI (j - i))]]) okJ48 rfl rfl 0 (by decide) (Or.inl q266) (Or.inr q267) rfl rfl rfl (Nat.le_of_ble_eq_true rfl) rfl dJ48_init_31 rfl ?_
  refine f_imsub hF [] (imk [] rfl) ?_
  exact FR.v hR dJ48_init_34 (Nat.le_of_ble_eq_true rfl) (Nat.le_of_ble_eq_true rfl) ⟨rfl, rfl, rfl⟩
theorem yk_J7_subListRangeCheck : yOk yJ7_subListRangeCheck 3 := by decide +kernel
theorem dvJ48 : ∀ j, j < 5 → defaultValue (tyJ48 j) = vp_V [.int 0, .null, .null, .int 0, .int 0] j := by
  intro j hj
  rcases (show j = 0 ∨ j = 1 ∨ j = 2 ∨ j = 3 ∨ j = 4 by omega) with rfl | rfl | rfl | rfl | rfl <;> rfl
theorem yk_J48_init : yOk yJ48_init 3 := by decide +kernel
set_option maxHeartbeats 4000000 in
theorem fc_J8_subList (D : DD) (l : Launch) {KS : Nat → Prop} {Hb : Heap} (a e i j n : Nat) (mc : Int32) (hij : i ≤ j) (hjn : j ≤ n) (hn : n < 2 ^ 31) : Fc D l yJ8_subList cJ8_subList 3 (Option.some (ClassFile.FieldType.object "java/util/List")) 4 1 5 83 KS Hb [.ref a, .int (nI i), .int (nI j)] ([]) ([oC a 12 [.int mc, .ref e, .int (nI n)]]) (fun r w i_ => ∃ sl, r = some (.ref sl) ∧ w = [oC sl 22 [.int mc, .ref a, .null, .int (nI i), .int (nI (j - i))]] ∧ i_ = []) := by
  refine Fc.of (by decide) (Nat.le_of_ble_eq_true rfl) (fun s F hF hR => ?_)
  show F 0 0 ([]) ([oC a 12 [.int mc, .ref e, .int (nI n)]]) 0 [] [(0, .ref a), (1, .int (nI i)), (2, .int (nI j))]
  refine r_iload_n 1 1 (hF.pu _ _ _ _) dJ8_subList_0 rfl rfl ?_
  refine r_iload_n 2 2 (hF.pu _ _ _ _) dJ8_subList_1 rfl rfl ?_
  refine r_aload_n 3 0 (hF.pu _ _ _ _) dJ8_subList_2 rfl rfl ?_
  refine f_getf 6 hF (T := TJ8) (C := RJ8) 2 (v := .int (nI n)) okJ8 (fun _ z => ((z.mo 0 rfl).fld 2 rfl)) rfl (by decide) (Or.inl q257) (Or.inl rfl) dJ8_subList_3 rfl ?_
  refine f_callSU (x := ⟨"java/util/ArrayList", "subListRangeCheck", "(III)V"⟩) (y := yJ7_subListRangeCheck) (owner := "java/util/AbstractList") 9 hF rfl (fun _ => cp_J7_subListRangeCheck D l i j n (by omega) (by omega) (by omega)) (lw_SU (x := ⟨"java/util/ArrayList", "subListRangeCheck", "(III)V"⟩) (y := yJ7_subListRangeCheck) q2623 q2624 q2625 q113 q2626) 3 yk_J7_subListRangeCheck rfl ⟨by decide, by decide⟩ rfl (Nat.le_of_ble_eq_true rfl) dJ8_subList_6 ⟨Nat.le_of_ble_eq_true rfl, Nat.le_of_ble_eq_true rfl⟩ rfl ?_
  refine f_new 12 hF (ci := 22) [.int 0, .null, .null, .int 0, .int 0] okJ48 rfl q2641 q647 q165 dvJ48 ⟨Nat.le_of_ble_eq_true rfl, Nat.le_of_ble_eq_true rfl⟩ dJ8_subList_9 rfl (fun a1_ => ?_)
  refine r_dup 13 (hF.pu _ _ _ _) dJ8_subList_12 rfl rfl ?_
  refine r_aload_n 14 0 (hF.pu _ _ _ _) dJ8_subList_13 rfl rfl ?_
  refine r_iload_n 15 1 (hF.pu _ _ _ _) dJ8_subList_14 rfl rfl ?_
  refine r_iload_n 16 2 (hF.pu _ _ _ _) dJ8_subList_15 rfl rfl ?_
  refine f_callI 19 hF (fc_J48_init (KS := KS) (Hb := Hb) D l a1_ a i j mc (by omega) (.ref e) (.int (nI n)) .null) (wr := ([])) rfl (imk [0] rfl) q2644 q165 q2642 q2643 rfl 3 yk_J48_init rfl ⟨by decide, by decide⟩ rfl (Nat.le_of_ble_eq_true rfl) dJ8_subList_16 ⟨Nat.le_of_ble_eq_true rfl, Nat.le_of_ble_eq_true rfl⟩ rfl (fun r ws_ im' hp => ?_)
  obtain ⟨rfl, rfl, rfl⟩ := hp
  show F 1 5 ([oC a1_ 22 [.int mc, .ref a, .null, .int (nI i), .int (nI (j - i))]]) ([oC a 12 [.int mc, .ref e, .int (nI n)]]) 19 [.ref a1_] [(0, .ref a), (1, .int (nI i)), (2, .int (nI j))]
  refine f_imsub hF [] (imk [] rfl) ?_
  exact FR.a hR (Or.inl ⟨_, rfl⟩) dJ8_subList_19 (Nat.le_of_ble_eq_true rfl) (Nat.le_of_ble_eq_true rfl) ⟨_, rfl, rfl, rfl⟩
set_option maxHeartbeats 2000000 in
theorem cp_J48_checkForComodification (D : DD) (l : Launch) {H0 : Heap} (sl a : Nat) (mc : Int32) (h0 : fld D 22 sl 0 (.int mc) H0) (h1 : fld D 22 sl 1 (.ref a) H0) (ha0 : fld D 12 a 0 (.int mc) H0) : Cp D l yJ48_checkForComodification cJ48_checkForComodification 1 none 0 0 [.ref sl] H0 none := by
  refine Cp.of (by decide) (Nat.le_of_ble_eq_true rfl) (fun s A J hJ hR => ?_)
  show J H0 0 0 0 [] [(0, .ref sl)]
  refine r_aload_n 1 0 (hJ.pu _ _ _) dJ48_checkForComodification_0 rfl rfl ?_
  refine j_getf 4 hJ (T := TJ48) (C := RJ48) 1 (v := .ref a) okJ48 h1 rfl (by decide) (Or.inl q2646) (Or.inl rfl) dJ48_checkForComodification_1 rfl ?_
  refine j_getf 7 hJ (T := TJ8) (C := RJ8) 0 (v := .int mc) okJ8 ha0 rfl (by decide) (Or.inl q264) (Or.inr q262) dJ48_checkForComodification_4 rfl ?_
  refine r_aload_n 8 0 (hJ.pu _ _ _) dJ48_checkForComodification_7 rfl rfl ?_
  refine j_getf 11 hJ (T := TJ48) (C := RJ48) 0 (v := .int mc) okJ48 h0 rfl (by decide) (Or.inl q266) (Or.inr q267) dJ48_checkForComodification_8 rfl ?_
  refine r_icmp_eq 14 22 (hJ.pu _ _ _) dJ48_checkForComodification_11 (by decide) (fun c11 => ?_) rfl (fun c11 => absurd c11 (fun z => z rfl))
  exact Rt.v hR dJ48_checkForComodification_22 (Nat.zero_le _) (Nat.zero_le _) ⟨rfl, rfl⟩
theorem lk_J48_36 : GoodIn lw_all (wsV RJ48 36 yJ48_checkForComodification.cls yJ48_checkForComodification (ws_ yJ48_checkForComodification cJ48_checkForComodification 1 none)) := lw_V q644 q646 qs5 q165 q648
theorem yk_J48_checkForComodification : yOk yJ48_checkForComodification 0 := by decide +kernel
set_option maxHeartbeats 2000000 in
theorem cp_J48_size (D : DD) (l : Launch) {H0 : Heap} (sl a : Nat) (mc : Int32) (h0 : fld D 22 sl 0 (.int mc) H0) (h1 : fld D 22 sl 1 (.ref a) H0) (ha0 : fld D 12 a 0 (.int mc) H0) (n : Nat) (h4 : fld D 22 sl 4 (.int (nI n)) H0) : Cp D l yJ48_size cJ48_size 1 (some .int) 1 20 [.ref sl] H0 (some (.int (nI n))) := by
  refine Cp.of (by decide) (Nat.le_of_ble_eq_true rfl) (fun s A J hJ hR => ?_)
  show J H0 0 0 0 [] [(0, .ref sl)]
  refine r_aload_n 1 0 (hJ.pu _ _ _) dJ48_size_0 rfl rfl ?_
  refine j_callp 4 hJ (cp_J48_checkForComodification D l sl a mc h0 h1 ha0) lk_J48_36 0 yk_J48_checkForComodification rfl ⟨by decide, by decide⟩ h0 rfl rfl (Nat.le_of_ble_eq_true rfl) dJ48_size_1 ⟨Nat.zero_le _, Nat.zero_le _⟩ rfl ?_
  refine r_aload_n 5 0 (hJ.pu _ _ _) dJ48_size_4 rfl rfl ?_
  refine j_getf 8 hJ (T := TJ48) (C := RJ48) 4 (v := .int (nI n)) okJ48 h4 rfl (by decide) (Or.inl q2651) (Or.inl rfl) dJ48_size_5 rfl ?_
  exact Rt.i hR rfl dJ48_size_8 (Nat.zero_le _) (Nat.zero_le _) ⟨rfl, rfl⟩
theorem lk_J48_30 : GoodIn lw_all (va_wsS RJ48 30 yJ5_checkIndex (ws_ yJ5_checkIndex cJ5_checkIndex 2 (some .int))) := lw_S q1400 q1385 q111 q1386
theorem lk_J48_39 : GoodIn lw_all (wsV RJ48 39 yJ8_elementData.cls yJ8_elementData (ws_ yJ8_elementData cJ8_elementData 2 (Option.some (ClassFile.FieldType.object "java/lang/Object")))) := lw_V q1401 q1395 q1396 q114 q1397
set_option maxHeartbeats 2000000 in
theorem cp_J48_get (D : DD) (l : Launch) {H0 : Heap} (sl a : Nat) (mc : Int32) (h0 : fld D 22 sl 0 (.int mc) H0) (h1 : fld D 22 sl 1 (.ref a) H0) (ha0 : fld D 12 a 0 (.int mc) H0) (e cap o n i x : Nat) (h3 : fld D 22 sl 3 (.int (nI o)) H0) (h4 : fld D 22 sl 4 (.int (nI n)) H0) (ha1 : fld D 12 a 1 (.ref e) H0) (hel : elr D 3 cap e (o + i) (some x) H0) (hi : i < n) (hn : n < 2 ^ 31) (hic : o + i < cap) (hc : cap < 2 ^ 31) : Cp D l yJ48_get cJ48_get 2 (Option.some (ClassFile.FieldType.object "java/lang/Object")) 2 43 [.ref sl, .int (nI i)] H0 (some (.ref x)) := by
  refine Cp.of (by decide) (Nat.le_of_ble_eq_true rfl) (fun s A J hJ hR => ?_)
  show J H0 0 0 0 [] [(0, .ref sl), (1, .int (nI i))]
  refine r_iload_n 1 1 (hJ.pu _ _ _) dJ48_get_0 rfl rfl ?_
  refine r_aload_n 2 0 (hJ.pu _ _ _) dJ48_get_1 rfl rfl ?_
  refine j_getf 5 hJ (T := TJ48) (C := RJ48) 4 (v := .int (nI n)) okJ48 h4 rfl (by decide) (Or.inl q2651) (Or.inl rfl) dJ48_get_2 rfl ?_
  refine cs_row 8 hJ (ts_J5_checkIndex D l i n (by omega) (by omega)) lk_J48_30 2 yk_J5_checkIndex rfl ⟨by decide, by decide⟩ rfl (Nat.le_of_ble_eq_true rfl) dJ48_get_5 ⟨Nat.zero_le _, Nat.zero_le _⟩ rfl ?_
  refine r_pop 9 (hJ.pu _ _ _) dJ48_get_8 rfl rfl ?_
  refine r_aload_n 10 0 (hJ.pu _ _ _) dJ48_get_9 rfl rfl ?_
  refine j_callp 13 hJ (cp_J48_checkForComodification D l sl a mc h0 h1 ha0) lk_J48_36 0 yk_J48_checkForComodification rfl ⟨by decide, by decide⟩ h0 rfl rfl (Nat.le_of_ble_eq_true rfl) dJ48_get_10 ⟨Nat.zero_le _, Nat.zero_le _⟩ rfl ?_
  refine r_aload_n 14 0 (hJ.pu _ _ _) dJ48_get_13 rfl rfl ?_
  refine j_getf 17 hJ (T := TJ48) (C := RJ48) 1 (v := .ref a) okJ48 h1 rfl (by decide) (Or.inl q2646) (Or.inl rfl) dJ48_get_14 rfl ?_
  refine r_aload_n 18 0 (hJ.pu _ _ _) dJ48_get_17 rfl rfl ?_
  refine j_getf 21 hJ (T := TJ48) (C := RJ48) 3 (v := .int (nI o)) okJ48 h3 rfl (by decide) (Or.inl q2649) (Or.inl rfl) dJ48_get_18 rfl ?_
  refine r_iload_n 22 1 (hJ.pu _ _ _) dJ48_get_21 rfl rfl ?_
  refine r_iaddN o i (o + i) 23 (hJ.pu _ _ _) dJ48_get_22 rfl rfl ?_
  refine j_callp 26 hJ (cp_J8_elementData D l a e cap (o + i) x ha1 hel hic hc) lk_J48_39 1 yk_J8_elementData rfl ⟨by decide, by decide⟩ ha0 rfl rfl (Nat.le_of_ble_eq_true rfl) dJ48_get_23 ⟨Nat.zero_le _, Nat.zero_le _⟩ rfl ?_
  exact Rt.a hR (Or.inl ⟨_, rfl⟩) dJ48_get_26 (Nat.zero_le _) (Nat.zero_le _) ⟨rfl, rfl⟩
set_option maxHeartbeats 4000000 in
theorem fc_J48_set (D : DD) (l : Launch) {KS : Nat → Prop} {Hb : Heap} (sl a e o n i x x0 : Nat) (mc : Int32) (asz : Value) (f : Nat → Option Nat) (hi : i < n) (hn : n < 2 ^ 31) (hc : o + i < 10) (hf : f (o + i) = some x0) (wv iv : va_W) (hx : ∀ H, (∀ q ∈ wv ++ iv, va_at D.1 aCl q H) → anyK D "java/lang/Object" x H) : Fc D l yJ48_set cJ48_set 4 (Option.some (ClassFile.FieldType.object "java/lang/Object")) 2 0 0 43 KS Hb [.ref sl, .int (nI i), .ref x] ((aC D 3 e (qA 10 f)) :: wv) ((oC sl 22 [.int mc, .ref a, .null, .int (nI o), .int (nI n)]) :: (oC a 12 [.int mc, .ref e, asz]) :: iv) (fun r w i_ => r = some (.ref x0) ∧ w = aC D 3 e (qA 10 (va_up f (o + i) (some x))) :: wv ∧ i_ = []) := by
  refine Fc.of (by decide) (Nat.le_of_ble_eq_true rfl) (fun s F hF hR => ?_)
  show F 0 0 ((aC D 3 e (qA 10 f)) :: wv) ((oC sl 22 [.int mc, .ref a, .null, .int (nI o), .int (nI n)]) :: (oC a 12 [.int mc, .ref e, asz]) :: iv) 0 [] [(0, .ref sl), (1, .int (nI i)), (2, .ref x)]
  refine r_iload_n 1 1 (hF.pu _ _ _ _) dJ48_set_0 rfl rfl ?_
  refine r_aload_n 2 0 (hF.pu _ _ _ _) dJ48_set_1 rfl rfl ?_
  refine f_getf 5 hF (T := TJ48) (C := RJ48) 4 (v := .int (nI n)) okJ48 (fun _ z => ((z.mo 0 rfl).fld 4 rfl)) rfl (by decide) (Or.inl q2651) (Or.inl rfl) dJ48_set_2 rfl ?_
  refine f_callS' 8 hF (ts_J5_checkIndex D l i n (by omega) (by omega)) lk_J48_30 2 yk_J5_checkIndex rfl ⟨by decide, by decide⟩ rfl (Nat.le_of_ble_eq_true rfl) dJ48_set_5 ⟨Nat.le_of_ble_eq_true rfl, Nat.le_of_ble_eq_true rfl⟩ rfl ?_
  refine r_pop 9 (hF.pu _ _ _ _) dJ48_set_8 rfl rfl ?_
  refine r_aload_n 10 0 (hF.pu _ _ _ _) dJ48_set_9 rfl rfl ?_
  refine f_callp 13 hF (fun _ z => cp_J48_checkForComodification D l sl a mc ((z.mo 0 rfl).fld 0 rfl) ((z.mo 0 rfl).fld 1 rfl) ((z.mo 1 rfl).fld 0 rfl)) lk_J48_36 0 yk_J48_checkForComodification rfl ⟨by decide, by decide⟩ (fun _ z => ((z.mo 0 rfl).fld 0 rfl)) rfl rfl (Nat.le_of_ble_eq_true rfl) dJ48_set_10 ⟨Nat.le_of_ble_eq_true rfl, Nat.le_of_ble_eq_true rfl⟩ rfl ?_
  refine r_aload_n 14 0 (hF.pu _ _ _ _) dJ48_set_13 rfl rfl ?_
  refine f_getf 17 hF (T := TJ48) (C := RJ48) 1 (v := .ref a) okJ48 (fun _ z => ((z.mo 0 rfl).fld 1 rfl)) rfl (by decide) (Or.inl q2646) (Or.inl rfl) dJ48_set_14 rfl ?_
  refine r_aload_n 18 0 (hF.pu _ _ _ _) dJ48_set_17 rfl rfl ?_
  refine f_getf 21 hF (T := TJ48) (C := RJ48) 3 (v := .int (nI o)) okJ48 (fun _ z => ((z.mo 0 rfl).fld 3 rfl)) rfl (by decide) (Or.inl q2649) (Or.inl rfl) dJ48_set_18 rfl ?_
  refine r_iload_n 22 1 (hF.pu _ _ _ _) dJ48_set_21 rfl rfl ?_
  refine r_iaddN o i (o + i) 23 (hF.pu _ _ _ _) dJ48_set_22 rfl rfl ?_
  refine f_callp 26 hF (fun _ z => cp_J8_elementData D l a e 10 (o + i) x0 ((z.mo 1 rfl).fld 1 rfl) ⟨_, (z.a 0 rfl), hf⟩ (by omega) (by decide)) lk_J48_39 1 yk_J8_elementData rfl ⟨by decide, by decide⟩ (fun _ z => ((z.mo 1 rfl).fld 0 rfl)) rfl rfl (Nat.le_of_ble_eq_true rfl) dJ48_set_23 ⟨Nat.le_of_ble_eq_true rfl, Nat.le_of_ble_eq_true rfl⟩ rfl ?_
  refine r_astore_n 27 [(3, .ref x0), (0, .ref sl), (1, .int (nI i)), (2, .ref x)] (hF.pu _ _ _ _) dJ48_set_26 rfl (by decide) rfl rfl ?_
  refine r_aload_n 28 1 (hF.pu _ _ _ _) dJ48_set_27 rfl rfl ?_
  refine f_getf 31 hF (T := TJ48) (C := RJ48) 1 (v := .ref a) okJ48 (fun _ z => ((z.mo 0 rfl).fld 1 rfl)) rfl (by decide) (Or.inl q2646) (Or.inl rfl) dJ48_set_28 rfl ?_
  refine f_getf 34 hF (T := TJ8) (C := RJ8) 1 (v := .ref e) okJ8 (fun _ z => ((z.mo 1 rfl).fld 1 rfl)) rfl (by decide) (Or.inl q252) (Or.inl rfl) dJ48_set_31 rfl ?_
  refine r_aload_n 35 1 (hF.pu _ _ _ _) dJ48_set_34 rfl rfl ?_
  refine f_getf 38 hF (T := TJ48) (C := RJ48) 3 (v := .int (nI o)) okJ48 (fun _ z => ((z.mo 0 rfl).fld 3 rfl)) rfl (by decide) (Or.inl q2649) (Or.inl rfl) dJ48_set_35 rfl ?_
  refine r_iload_n 39 2 (hF.pu _ _ _ _) dJ48_set_38 rfl rfl ?_
  refine r_iaddN o i (o + i) 40 (hF.pu _ _ _ _) dJ48_set_39 rfl rfl ?_
  refine r_aload_n 41 3 (hF.pu _ _ _ _) dJ48_set_40 rfl rfl ?_
  refine f_aast 42 hF 0 ((aC D 3 e (qA 10 (va_up f (o + i) (some x)))) :: wv) rfl rfl (fun _ z => (hx _ (fun q hq => (List.mem_append.mp hq).elim (fun h => z.2.1 q (by simp [h])) (fun h => z.2.2 q (by simp [h]))))) (o + i) rfl (by omega) (by omega) rfl dJ48_set_41 rfl ?_
  refine r_aload_n 43 0 (hF.pu _ _ _ _) dJ48_set_42 rfl rfl ?_
  refine f_imsub hF [] (imk [] rfl) ?_
  exact FR.a hR (Or.inl ⟨_, rfl⟩) dJ48_set_43 (Nat.le_of_ble_eq_true rfl) (Nat.le_of_ble_eq_true rfl) ⟨rfl, rfl, rfl⟩
theorem lf_J41_15_J48_size : GoodIn lw_all (va_wsF RJ41 15 "java/util/ArrayList$SubList" ⟨"java/util/List", "size", "()I"⟩ yJ48_size (ws_ yJ48_size cJ48_size 1 (some .int))) := lw_F q2667 q1825 q642 q165 q643
theorem fo_J48_size_List_size : fwOk ("java/util/ArrayList$SubList", ⟨"java/util/List", "size", "()I"⟩, yJ48_size) = true := by decide +kernel
set_option maxHeartbeats 4000000 in
theorem fc_J41_rotate1_1 (D : DD) (l : Launch) {KS : Nat → Prop} {Hb : Heap} (sl a e : Nat) (mc : Int32) (asz : Value) (o : Nat) : Fc D l yJ41_rotate1 cJ41_rotate1 8 none 2 0 0 40 KS Hb [.ref sl, .int 1] ([]) ([oC sl 22 [.int mc, .ref a, .null, .int (nI o), .int (nI 1)], oC a 12 [.int mc, .ref e, asz]]) (fun r w i_ => r = none ∧ w = [] ∧ i_ = []) := by
  refine Fc.of (by decide) (Nat.le_of_ble_eq_true rfl) (fun s F hF hR => ?_)
  show F 0 0 ([]) ([oC sl 22 [.int mc, .ref a, .null, .int (nI o), .int (nI 1)], oC a 12 [.int mc, .ref e, asz]]) 0 [] [(0, .ref sl), (1, .int 1)]
  refine r_aload_n 1 0 (hF.pu _ _ _ _) dJ41_rotate1_0 rfl rfl ?_
  refine f_callFp 6 hF (fun _ z => cp_J48_size D l sl a mc ((z.mo 0 rfl).fld 0 rfl) ((z.mo 0 rfl).fld 1 rfl) ((z.mo 1 rfl).fld 0 rfl) 1 ((z.mo 0 rfl).fld 4 rfl)) lf_J41_15_J48_size fw_14 fo_J48_size_List_size 0 yf_List_size_0 rfl ⟨by decide, by decide⟩ (fun _ z => ((z.mo 0 rfl).fld 0 rfl)) rfl rfl (Nat.le_of_ble_eq_true rfl) dJ41_rotate1_1 ⟨Nat.le_of_ble_eq_true rfl, Nat.le_of_ble_eq_true rfl⟩ rfl ?_
  refine r_istore_n 7 [(2, .int (nI 1)), (0, .ref sl), (1, .int 1)] (hF.pu _ _ _ _) dJ41_rotate1_6 rfl (by decide) rfl rfl ?_
  refine r_iload_n 8 0 (hF.pu _ _ _ _) dJ41_rotate1_7 rfl rfl ?_
  refine r_if_ne 11 12 (hF.pu _ _ _ _) dJ41_rotate1_8 (by decide) (fun _ => ?_) rfl (fun c => absurd c (by decide))
  refine r_iload_n 13 2 (hF.pu _ _ _ _) dJ41_rotate1_12 rfl rfl ?_
  refine r_iload_n 14 0 (hF.pu _ _ _ _) dJ41_rotate1_13 rfl rfl ?_
  refine r_irem 15 (hF.pu _ _ _ _) dJ41_rotate1_14 (by decide) rfl ?_
  refine r_eqi (0) (by decide) ?_
  refine r_istore_n 16 [(1, .int 0), (2, .int (nI 1)), (0, .ref sl)] (hF.pu _ _ _ _) dJ41_rotate1_15 rfl (by decide) rfl rfl ?_
  refine r_iload_n 17 0 (hF.pu _ _ _ _) dJ41_rotate1_16 rfl rfl ?_
  refine r_if_ge 20 24 (hF.pu _ _ _ _) dJ41_rotate1_17 (by decide) (fun _ => ?_) rfl (fun c => absurd (by decide) c)
  refine r_iload_n 25 0 (hF.pu _ _ _ _) dJ41_rotate1_24 rfl rfl ?_
  refine r_if_ne 28 29 (hF.pu _ _ _ _) dJ41_rotate1_25 (by decide) (fun c => absurd (by decide) c) rfl (fun _ => ?_)
  refine f_imsub hF [] (imk [] rfl) ?_
  exact FR.v hR dJ41_rotate1_28 (Nat.le_of_ble_eq_true rfl) (Nat.le_of_ble_eq_true rfl) ⟨rfl, rfl, rfl⟩
theorem lf_J41_28_J48_get : GoodIn lw_all (va_wsF RJ41 28 "java/util/ArrayList$SubList" ⟨"java/util/List", "get", "(I)Ljava/lang/Object;"⟩ yJ48_get (ws_ yJ48_get cJ48_get 2 (Option.some (ClassFile.FieldType.object "java/lang/Object")))) := lw_F q2672 q1558 q1398 q165 q1399
theorem fo_J48_get_List_get : fwOk ("java/util/ArrayList$SubList", ⟨"java/util/List", "get", "(I)Ljava/lang/Object;"⟩, yJ48_get) = true := by decide +kernel
theorem lf_J41_109_J48_set : GoodIn lw_all (va_wsF RJ41 109 "java/util/ArrayList$SubList" ⟨"java/util/List", "set", "(ILjava/lang/Object;)Ljava/lang/Object;"⟩ yJ48_set (ws_ yJ48_set cJ48_set 4 (Option.some (ClassFile.FieldType.object "java/lang/Object")))) := lw_F q2674 q2700 q2689 q165 q2690
theorem yf_List_set_2 : yOk ⟨"java/util/List", "set", "(ILjava/lang/Object;)Ljava/lang/Object;"⟩ 2 := by decide +kernel
theorem fo_J48_set_List_set : fwOk ("java/util/ArrayList$SubList", ⟨"java/util/List", "set", "(ILjava/lang/Object;)Ljava/lang/Object;"⟩, yJ48_set) = true := by decide +kernel
set_option maxHeartbeats 4000000 in
theorem fc_J41_rotate1_p (D : DD) (l : Launch) {KS : Nat → Prop} {Hb : Heap} (sl a e : Nat) (mc : Int32) (asz : Value) (x0 x1 : Nat) (v0 v1 : Int64) (f : Nat → Option Nat) (hf0 : f 0 = some x0) (hf1 : f 1 = some x1) : Fc D l yJ41_rotate1 cJ41_rotate1 8 none 3 0 0 66 KS Hb [.ref sl, .int 1] ([aC D 3 e (qA 10 f)]) ([oC sl 22 [.int mc, .ref a, .null, .int (nI 0), .int (nI 2)], oC a 12 [.int mc, .ref e, asz], oC x0 20 [.long v0], oC x1 20 [.long v1]]) (fun r w i_ => r = none ∧ w = [aC D 3 e (qA 10 (va_up (va_up f 1 (some x0)) 0 (some x1)))] ∧ i_ = []) := by
  refine Fc.of (by decide) (Nat.le_of_ble_eq_true rfl) (fun s F hF hR => ?_)
  show F 0 0 ([aC D 3 e (qA 10 f)]) ([oC sl 22 [.int mc, .ref a, .null, .int (nI 0), .int (nI 2)], oC a 12 [.int mc, .ref e, asz], oC x0 20 [.long v0], oC x1 20 [.long v1]]) 0 [] [(0, .ref sl), (1, .int 1)]
  refine r_aload_n 1 0 (hF.pu _ _ _ _) dJ41_rotate1_0 rfl rfl ?_
  refine f_callFp 6 hF (fun _ z => cp_J48_size D l sl a mc ((z.mo 0 rfl).fld 0 rfl) ((z.mo 0 rfl).fld 1 rfl) ((z.mo 1 rfl).fld 0 rfl) 2 ((z.mo 0 rfl).fld 4 rfl)) lf_J41_15_J48_size fw_14 fo_J48_size_List_size 0 yf_List_size_0 rfl ⟨by decide, by decide⟩ (fun _ z => ((z.mo 0 rfl).fld 0 rfl)) rfl rfl (Nat.le_of_ble_eq_true rfl) dJ41_rotate1_1 ⟨Nat.le_of_ble_eq_true rfl, Nat.le_of_ble_eq_true rfl⟩ rfl ?_
  refine r_istore_n 7 [(2, .int (nI 2)), (0, .ref sl), (1, .int 1)] (hF.pu _ _ _ _) dJ41_rotate1_6 rfl (by decide) rfl rfl ?_
  refine r_iload_n 8 0 (hF.pu _ _ _ _) dJ41_rotate1_7 rfl rfl ?_
  refine r_if_ne 11 12 (hF.pu _ _ _ _) dJ41_rotate1_8 (by decide) (fun _ => ?_) rfl (fun c => absurd c (by decide))
  refine r_iload_n 13 2 (hF.pu _ _ _ _) dJ41_rotate1_12 rfl rfl ?_
  refine r_iload_n 14 0 (hF.pu _ _ _ _) dJ41_rotate1_13 rfl rfl ?_
  refine r_irem 15 (hF.pu _ _ _ _) dJ41_rotate1_14 (by decide) rfl ?_
  refine r_eqi (1) (by decide) ?_
  refine r_istore_n 16 [(1, .int 1), (2, .int (nI 2)), (0, .ref sl)] (hF.pu _ _ _ _) dJ41_rotate1_15 rfl (by decide) rfl rfl ?_
  refine r_iload_n 17 0 (hF.pu _ _ _ _) dJ41_rotate1_16 rfl rfl ?_
  refine r_if_ge 20 24 (hF.pu _ _ _ _) dJ41_rotate1_17 (by decide) (fun _ => ?_) rfl (fun c => absurd (by decide) c)
  refine r_iload_n 25 0 (hF.pu _ _ _ _) dJ41_rotate1_24 rfl rfl ?_
  refine r_if_ne 28 29 (hF.pu _ _ _ _) dJ41_rotate1_25 (by decide) (fun _ => ?_) rfl (fun c => absurd c (by decide))
  refine r_iload_n 30 1 (hF.pu _ _ _ _) dJ41_rotate1_29 rfl rfl ?_
  refine r_iload_n 31 0 (hF.pu _ _ _ _) dJ41_rotate1_30 rfl rfl ?_
  refine r_isubN 2 1 1 32 (hF.pu _ _ _ _) dJ41_rotate1_31 (by omega) (by omega) rfl ?_
  refine r_istore_n 33 [(3, .int (nI 1)), (1, .int 1), (2, .int (nI 2)), (0, .ref sl)] (hF.pu _ _ _ _) dJ41_rotate1_32 rfl (by decide) rfl rfl ?_
  refine r_iconst 34 0 (hF.pu _ _ _ _) dJ41_rotate1_33 (by decide) rfl ?_
  refine r_istore 36 [(4, .int 0), (3, .int (nI 1)), (1, .int 1), (2, .int (nI 2)), (0, .ref sl)] (hF.pu _ _ _ _) dJ41_rotate1_34 (by decide) rfl rfl ?_
  refine r_iconst 37 0 (hF.pu _ _ _ _) dJ41_rotate1_36 (by decide) rfl ?_
  refine r_istore 39 [(5, .int 0), (4, .int 0), (3, .int (nI 1)), (1, .int 1), (2, .int (nI 2)), (0, .ref sl)] (hF.pu _ _ _ _) dJ41_rotate1_37 (by decide) rfl rfl ?_
  refine r_iload 41 0 (hF.pu _ _ _ _) dJ41_rotate1_39 rfl rfl ?_
  refine r_iload_n 42 4 (hF.pu _ _ _ _) dJ41_rotate1_41 rfl rfl ?_
  refine r_icmp_geN 0 2 45 105 (hF.pu _ _ _ _) dJ41_rotate1_42 (by omega) (by omega) (by decide) (fun c42 => absurd c42 (by decide)) rfl (fun c42 => ?_)
  refine r_aload_n 46 5 (hF.pu _ _ _ _) dJ41_rotate1_45 rfl rfl ?_
  refine r_iload 48 1 (hF.pu _ _ _ _) dJ41_rotate1_46 rfl rfl ?_
  refine f_callFp 53 hF (fun _ z => cp_J48_get D l sl a mc ((z.mo 0 rfl).fld 0 rfl) ((z.mo 0 rfl).fld 1 rfl) ((z.mo 1 rfl).fld 0 rfl) e 10 0 2 0 x0 ((z.mo 0 rfl).fld 3 rfl) ((z.mo 0 rfl).fld 4 rfl) ((z.mo 1 rfl).fld 1 rfl) ⟨_, (z.a 0 rfl), hf0⟩ (by decide) (by decide) (by decide) (by decide)) lf_J41_28_J48_get fw_10 fo_J48_get_List_get 1 yf_List_get_1 rfl ⟨by decide, by decide⟩ (fun _ z => ((z.mo 0 rfl).fld 0 rfl)) rfl rfl (Nat.le_of_ble_eq_true rfl) dJ41_rotate1_48 ⟨Nat.le_of_ble_eq_true rfl, Nat.le_of_ble_eq_true rfl⟩ rfl ?_
  refine r_astore 55 [(6, .ref x0), (5, .int 0), (4, .int 0), (3, .int (nI 1)), (1, .int 1), (2, .int (nI 2)), (0, .ref sl)] (hF.pu _ _ _ _) dJ41_rotate1_53 (by decide) rfl rfl ?_
  refine r_iload 57 2 (hF.pu _ _ _ _) dJ41_rotate1_55 rfl rfl ?_
  refine r_istore 59 [(7, .int 0), (6, .ref x0), (5, .int 0), (4, .int 0), (3, .int (nI 1)), (1, .int 1), (2, .int (nI 2)), (0, .ref sl)] (hF.pu _ _ _ _) dJ41_rotate1_57 (by decide) rfl rfl ?_
  refine r_iload 61 0 (hF.pu _ _ _ _) dJ41_rotate1_59 rfl rfl ?_
  refine r_iload_n 62 4 (hF.pu _ _ _ _) dJ41_rotate1_61 rfl rfl ?_
  refine r_icmp_ltN 0 1 65 71 (hF.pu _ _ _ _) dJ41_rotate1_62 (by omega) (by omega) (by decide) (fun c62 => ?_) rfl (fun c62 => absurd c62 (by decide))
  refine r_iload 73 0 (hF.pu _ _ _ _) dJ41_rotate1_71 rfl rfl ?_
  refine r_iload_n 74 5 (hF.pu _ _ _ _) dJ41_rotate1_73 rfl rfl ?_
  refine r_iaddN 0 1 1 75 (hF.pu _ _ _ _) dJ41_rotate1_74 (by omega) rfl ?_
  refine r_eqi (nI 1) (by decide) ?_
  refine r_istore 77 [(7, .int (nI 1)), (6, .ref x0), (5, .int 0), (4, .int 0), (3, .int (nI 1)), (1, .int 1), (2, .int (nI 2)), (0, .ref sl)] (hF.pu _ _ _ _) dJ41_rotate1_75 (by decide) rfl rfl ?_
  refine r_aload_n 78 7 (hF.pu _ _ _ _) dJ41_rotate1_77 rfl rfl ?_
  refine r_iload 80 0 (hF.pu _ _ _ _) dJ41_rotate1_78 rfl rfl ?_
  refine r_aload 82 1 (hF.pu _ _ _ _) dJ41_rotate1_80 rfl rfl ?_
  refine f_callF 87 hF (fc_J48_set (KS := KS) (Hb := Hb) D l sl a e 0 2 1 x0 x1 mc asz f (by decide) (by decide) (by decide) hf1 [] [oC x0 20 [.long v0]] (fun H h => anyK.ofob (h _ List.mem_cons_self) rfl nw_q3979)) (wr := ([])) rfl (imk [0, 1, 2] rfl) lf_J41_109_J48_set fw_13 fo_J48_set_List_set 2 yf_List_set_2 rfl ⟨by decide, by decide⟩ (fun _ z => ((z.mo 0 rfl).fld 0 rfl)) rfl rfl (Nat.le_of_ble_eq_true rfl) dJ41_rotate1_82 ⟨Nat.le_of_ble_eq_true rfl, Nat.le_of_ble_eq_true rfl⟩ rfl (fun r ws_ im' hp => ?_)
  obtain ⟨rfl, rfl, rfl⟩ := hp
  show F 0 0 ([aC D 3 e (qA 10 (va_up f 1 (some x0)))]) ([oC sl 22 [.int mc, .ref a, .null, .int (nI 0), .int (nI 2)], oC a 12 [.int mc, .ref e, asz], oC x0 20 [.long v0], oC x1 20 [.long v1]]) 87 [.ref x1] [(7, .int (nI 1)), (6, .ref x0), (5, .int 0), (4, .int 0), (3, .int (nI 1)), (1, .int 1), (2, .int (nI 2)), (0, .ref sl)]
  refine r_astore 89 [(6, .ref x1), (7, .int (nI 1)), (5, .int 0), (4, .int 0), (3, .int (nI 1)), (1, .int 1), (2, .int (nI 2)), (0, .ref sl)] (hF.pu _ _ _ _) dJ41_rotate1_87 (by decide) rfl rfl ?_
  refine r_iinc 92 (nI (0 + 1)) 2 [(5, .int (nI (0 + 1))), (6, .ref x1), (7, .int (nI 1)), (4, .int 0), (3, .int (nI 1)), (1, .int 1), (2, .int (nI 2)), (0, .ref sl)] (hF.pu _ _ _ _) dJ41_rotate1_89 rfl (nI_1 0) (by decide) rfl rfl ?_
  refine r_iload 94 2 (hF.pu _ _ _ _) dJ41_rotate1_92 rfl rfl ?_
  refine r_iload 96 3 (hF.pu _ _ _ _) dJ41_rotate1_94 rfl rfl ?_
  refine r_icmp_neN 1 0 99 59 (hF.pu _ _ _ _) dJ41_rotate1_96 (by omega) (by omega) (by decide) (fun c96 => ?_) rfl (fun c96 => absurd c96 (by decide))
  refine r_iload 61 2 (hF.pu _ _ _ _) dJ41_rotate1_59 rfl rfl ?_
  refine r_iload_n 62 4 (hF.pu _ _ _ _) dJ41_rotate1_61 rfl rfl ?_
  refine r_icmp_ltN 1 1 65 71 (hF.pu _ _ _ _) dJ41_rotate1_62 (by omega) (by omega) (by decide) (fun c62 => absurd c62 (by decide)) rfl (fun c62 => ?_)
  refine r_iload 67 2 (hF.pu _ _ _ _) dJ41_rotate1_65 rfl rfl ?_
  refine r_iload_n 68 6 (hF.pu _ _ _ _) dJ41_rotate1_67 rfl rfl ?_
  refine r_isub 69 (hF.pu _ _ _ _) dJ41_rotate1_68 rfl ?_
  refine r_eqi ((-1)) (by decide) ?_
  refine r_istore 71 [(7, .int (-1)), (5, .int (nI (0 + 1))), (6, .ref x1), (4, .int 0), (3, .int (nI 1)), (1, .int 1), (2, .int (nI 2)), (0, .ref sl)] (hF.pu _ _ _ _) dJ41_rotate1_69 (by decide) rfl rfl ?_
  refine r_iload 73 0 (hF.pu _ _ _ _) dJ41_rotate1_71 rfl rfl ?_
  refine r_iload_n 74 5 (hF.pu _ _ _ _) dJ41_rotate1_73 rfl rfl ?_
  refine r_iadd 75 (hF.pu _ _ _ _) dJ41_rotate1_74 rfl ?_
  refine r_eqi (nI 0) (by decide) ?_
  refine r_istore 77 [(7, .int (nI 0)), (5, .int (nI (0 + 1))), (6, .ref x1), (4, .int 0), (3, .int (nI 1)), (1, .int 1), (2, .int (nI 2)), (0, .ref sl)] (hF.pu _ _ _ _) dJ41_rotate1_75 (by decide) rfl rfl ?_
  refine r_aload_n 78 7 (hF.pu _ _ _ _) dJ41_rotate1_77 rfl rfl ?_
  refine r_iload 80 0 (hF.pu _ _ _ _) dJ41_rotate1_78 rfl rfl ?_
  refine r_aload 82 2 (hF.pu _ _ _ _) dJ41_rotate1_80 rfl rfl ?_
  refine f_callF 87 hF (fc_J48_set (KS := KS) (Hb := Hb) D l sl a e 0 2 0 x1 x0 mc asz (va_up f 1 (some x0)) (by decide) (by decide) (by decide) hf0 [] [oC x1 20 [.long v1]] (fun H h => anyK.ofob (h _ List.mem_cons_self) rfl nw_q3979)) (wr := ([])) rfl (imk [0, 1, 3] rfl) lf_J41_109_J48_set fw_13 fo_J48_set_List_set 2 yf_List_set_2 rfl ⟨by decide, by decide⟩ (fun _ z => ((z.mo 0 rfl).fld 0 rfl)) rfl rfl (Nat.le_of_ble_eq_true rfl) dJ41_rotate1_82 ⟨Nat.le_of_ble_eq_true rfl, Nat.le_of_ble_eq_true rfl⟩ rfl (fun r ws_ im' hp => ?_)
  obtain ⟨rfl, rfl, rfl⟩ := hp
  show F 0 0 ([aC D 3 e (qA 10 (va_up (va_up f 1 (some x0)) 0 (some x1)))]) ([oC sl 22 [.int mc, .ref a, .null, .int (nI 0), .int (nI 2)], oC a 12 [.int mc, .ref e, asz], oC x0 20 [.long v0], oC x1 20 [.long v1]]) 87 [.ref x0] [(7, .int (nI 0)), (5, .int (nI (0 + 1))), (6, .ref x1), (4, .int 0), (3, .int (nI 1)), (1, .int 1), (2, .int (nI 2)), (0, .ref sl)]
  refine r_astore 89 [(6, .ref x0), (7, .int (nI 0)), (5, .int (nI (0 + 1))), (4, .int 0), (3, .int (nI 1)), (1, .int 1), (2, .int (nI 2)), (0, .ref sl)] (hF.pu _ _ _ _) dJ41_rotate1_87 (by decide) rfl rfl ?_
  refine r_iinc 92 (nI (1 + 1)) 2 [(5, .int (nI (1 + 1))), (6, .ref x0), (7, .int (nI 0)), (4, .int 0), (3, .int (nI 1)), (1, .int 1), (2, .int (nI 2)), (0, .ref sl)] (hF.pu _ _ _ _) dJ41_rotate1_89 rfl (nI_1 1) (by decide) rfl rfl ?_
  refine r_iload 94 2 (hF.pu _ _ _ _) dJ41_rotate1_92 rfl rfl ?_
  refine r_iload 96 3 (hF.pu _ _ _ _) dJ41_rotate1_94 rfl rfl ?_
  refine r_icmp_neN 0 0 99 59 (hF.pu _ _ _ _) dJ41_rotate1_96 (by omega) (by omega) (by decide) (fun c96 => absurd c96 (by decide)) rfl (fun c96 => ?_)
  refine r_iinc 102 (nI (0 + 1)) 3 [(4, .int (nI (0 + 1))), (5, .int (nI (1 + 1))), (6, .ref x0), (7, .int (nI 0)), (3, .int (nI 1)), (1, .int 1), (2, .int (nI 2)), (0, .ref sl)] (hF.pu _ _ _ _) dJ41_rotate1_99 rfl (nI_1 0) (by decide) rfl rfl ?_
  refine r_goto 39 (hF.pu _ _ _ _) dJ41_rotate1_102 (by decide) ?_
  refine r_iload 41 1 (hF.pu _ _ _ _) dJ41_rotate1_39 rfl rfl ?_
  refine r_iload_n 42 6 (hF.pu _ _ _ _) dJ41_rotate1_41 rfl rfl ?_
  refine r_icmp_geN 2 2 45 105 (hF.pu _ _ _ _) dJ41_rotate1_42 (by omega) (by omega) (by decide) (fun c42 => ?_) rfl (fun c42 => absurd c42 (by decide))
  refine f_imsub hF [] (imk [] rfl) ?_
  exact FR.v hR dJ41_rotate1_105 (Nat.le_of_ble_eq_true rfl) (Nat.le_of_ble_eq_true rfl) ⟨rfl, rfl, rfl⟩
set_option maxHeartbeats 4000000 in
theorem fc_J41_rotate1_m (D : DD) (l : Launch) {KS : Nat → Prop} {Hb : Heap} (sl a e : Nat) (mc : Int32) (asz : Value) (x0 x1 : Nat) (v0 v1 : Int64) (f : Nat → Option Nat) (hf0 : f 0 = some x0) (hf1 : f 1 = some x1) : Fc D l yJ41_rotate1 cJ41_rotate1 8 none 3 0 0 66 KS Hb [.ref sl, .int (-1)] ([aC D 3 e (qA 10 f)]) ([oC sl 22 [.int mc, .ref a, .null, .int (nI 0), .int (nI 2)], oC a 12 [.int mc, .ref e, asz], oC x0 20 [.long v0], oC x1 20 [.long v1]]) (fun r w i_ => r = none ∧ w = [aC D 3 e (qA 10 (va_up (va_up f 1 (some x0)) 0 (some x1)))] ∧ i_ = []) := by
  refine Fc.of (by decide) (Nat.le_of_ble_eq_true rfl) (fun s F hF hR => ?_)
  show F 0 0 ([aC D 3 e (qA 10 f)]) ([oC sl 22 [.int mc, .ref a, .null, .int (nI 0), .int (nI 2)], oC a 12 [.int mc, .ref e, asz], oC x0 20 [.long v0], oC x1 20 [.long v1]]) 0 [] [(0, .ref sl), (1, .int (-1))]
  refine r_aload_n 1 0 (hF.pu _ _ _ _) dJ41_rotate1_0 rfl rfl ?_
  refine f_callFp 6 hF (fun _ z => cp_J48_size D l sl a mc ((z.mo 0 rfl).fld 0 rfl) ((z.mo 0 rfl).fld 1 rfl) ((z.mo 1 rfl).fld 0 rfl) 2 ((z.mo 0 rfl).fld 4 rfl)) lf_J41_15_J48_size fw_14 fo_J48_size_List_size 0 yf_List_size_0 rfl ⟨by decide, by decide⟩ (fun _ z => ((z.mo 0 rfl).fld 0 rfl)) rfl rfl (Nat.le_of_ble_eq_true rfl) dJ41_rotate1_1 ⟨Nat.le_of_ble_eq_true rfl, Nat.le_of_ble_eq_true rfl⟩ rfl ?_
  refine r_istore_n 7 [(2, .int (nI 2)), (0, .ref sl), (1, .int (-1))] (hF.pu _ _ _ _) dJ41_rotate1_6 rfl (by decide) rfl rfl ?_
  refine r_iload_n 8 0 (hF.pu _ _ _ _) dJ41_rotate1_7 rfl rfl ?_
  refine r_if_ne 11 12 (hF.pu _ _ _ _) dJ41_rotate1_8 (by decide) (fun _ => ?_) rfl (fun c => absurd c (by decide))
  refine r_iload_n 13 2 (hF.pu _ _ _ _) dJ41_rotate1_12 rfl rfl ?_
  refine r_iload_n 14 0 (hF.pu _ _ _ _) dJ41_rotate1_13 rfl rfl ?_
  refine r_irem 15 (hF.pu _ _ _ _) dJ41_rotate1_14 (by decide) rfl ?_
  refine r_eqi (-1) (by decide) ?_
  refine r_istore_n 16 [(1, .int (-1)), (2, .int (nI 2)), (0, .ref sl)] (hF.pu _ _ _ _) dJ41_rotate1_15 rfl (by decide) rfl rfl ?_
  refine r_iload_n 17 0 (hF.pu _ _ _ _) dJ41_rotate1_16 rfl rfl ?_
  refine r_if_ge 20 24 (hF.pu _ _ _ _) dJ41_rotate1_17 (by decide) (fun c => absurd c (by decide)) rfl (fun _ => ?_)
  refine r_iload_n 21 0 (hF.pu _ _ _ _) dJ41_rotate1_20 rfl rfl ?_
  refine r_iload_n 22 1 (hF.pu _ _ _ _) dJ41_rotate1_21 rfl rfl ?_
  refine r_iadd 23 (hF.pu _ _ _ _) dJ41_rotate1_22 rfl ?_
  refine r_eqi (1) (by decide) ?_
  refine r_istore_n 24 [(1, .int 1), (2, .int (nI 2)), (0, .ref sl)] (hF.pu _ _ _ _) dJ41_rotate1_23 rfl (by decide) rfl rfl ?_
  refine r_iload_n 25 0 (hF.pu _ _ _ _) dJ41_rotate1_24 rfl rfl ?_
  refine r_if_ne 28 29 (hF.pu _ _ _ _) dJ41_rotate1_25 (by decide) (fun _ => ?_) rfl (fun c => absurd c (by decide))
  refine r_iload_n 30 1 (hF.pu _ _ _ _) dJ41_rotate1_29 rfl rfl ?_
  refine r_iload_n 31 0 (hF.pu _ _ _ _) dJ41_rotate1_30 rfl rfl ?_
  refine r_isubN 2 1 1 32 (hF.pu _ _ _ _) dJ41_rotate1_31 (by omega) (by omega) rfl ?_
  refine r_istore_n 33 [(3, .int (nI 1)), (1, .int 1), (2, .int (nI 2)), (0, .ref sl)] (hF.pu _ _ _ _) dJ41_rotate1_32 rfl (by decide) rfl rfl ?_
  refine r_iconst 34 0 (hF.pu _ _ _ _) dJ41_rotate1_33 (by decide) rfl ?_
  refine r_istore 36 [(4, .int 0), (3, .int (nI 1)), (1, .int 1), (2, .int (nI 2)), (0, .ref sl)] (hF.pu _ _ _ _) dJ41_rotate1_34 (by decide) rfl rfl ?_
  refine r_iconst 37 0 (hF.pu _ _ _ _) dJ41_rotate1_36 (by decide) rfl ?_
  refine r_istore 39 [(5, .int 0), (4, .int 0), (3, .int (nI 1)), (1, .int 1), (2, .int (nI 2)), (0, .ref sl)] (hF.pu _ _ _ _) dJ41_rotate1_37 (by decide) rfl rfl ?_
  refine r_iload 41 0 (hF.pu _ _ _ _) dJ41_rotate1_39 rfl rfl ?_
  refine r_iload_n 42 4 (hF.pu _ _ _ _) dJ41_rotate1_41 rfl rfl ?_
  refine r_icmp_geN 0 2 45 105 (hF.pu _ _ _ _) dJ41_rotate1_42 (by omega) (by omega) (by decide) (fun c42 => absurd c42 (by decide)) rfl (fun c42 => ?_)
  refine r_aload_n 46 5 (hF.pu _ _ _ _) dJ41_rotate1_45 rfl rfl ?_
  refine r_iload 48 1 (hF.pu _ _ _ _) dJ41_rotate1_46 rfl rfl ?_
  refine f_callFp 53 hF (fun _ z => cp_J48_get D l sl a mc ((z.mo 0 rfl).fld 0 rfl) ((z.mo 0 rfl).fld 1 rfl) ((z.mo 1 rfl).fld 0 rfl) e 10 0 2 0 x0 ((z.mo 0 rfl).fld 3 rfl) ((z.mo 0 rfl).fld 4 rfl) ((z.mo 1 rfl).fld 1 rfl) ⟨_, (z.a 0 rfl), hf0⟩ (by decide) (by decide) (by decide) (by decide)) lf_J41_28_J48_get fw_10 fo_J48_get_List_get 1 yf_List_get_1 rfl ⟨by decide, by decide⟩ (fun _ z => ((z.mo 0 rfl).fld 0 rfl)) rfl rfl (Nat.le_of_ble_eq_true rfl) dJ41_rotate1_48 ⟨Nat.le_of_ble_eq_true rfl, Nat.le_of_ble_eq_true rfl⟩ rfl ?_
  refine r_astore 55 [(6, .ref x0), (5, .int 0), (4, .int 0), (3, .int (nI 1)), (1, .int 1), (2, .int (nI 2)), (0, .ref sl)] (hF.pu _ _ _ _) dJ41_rotate1_53 (by decide) rfl rfl ?_
  refine r_iload 57 2 (hF.pu _ _ _ _) dJ41_rotate1_55 rfl rfl ?_
  refine r_istore 59 [(7, .int 0), (6, .ref x0), (5, .int 0), (4, .int 0), (3, .int (nI 1)), (1, .int 1), (2, .int (nI 2)), (0, .ref sl)] (hF.pu _ _ _ _) dJ41_rotate1_57 (by decide) rfl rfl ?_
  refine r_iload 61 0 (hF.pu _ _ _ _) dJ41_rotate1_59 rfl rfl ?_
  refine r_iload_n 62 4 (hF.pu _ _ _ _) dJ41_rotate1_61 rfl rfl ?_
  refine r_icmp_ltN 0 1 65 71 (hF.pu _ _ _ _) dJ41_rotate1_62 (by omega) (by omega) (by decide) (fun c62 => ?_) rfl (fun c62 => absurd c62 (by decide))
  refine r_iload 73 0 (hF.pu _ _ _ _) dJ41_rotate1_71 rfl rfl ?_
  refine r_iload_n 74 5 (hF.pu _ _ _ _) dJ41_rotate1_73 rfl rfl ?_
  refine r_iaddN 0 1 1 75 (hF.pu _ _ _ _) dJ41_rotate1_74 (by omega) rfl ?_
  refine r_eqi (nI 1) (by decide) ?_
  refine r_istore 77 [(7, .int (nI 1)), (6, .ref x0), (5, .int 0), (4, .int 0), (3, .int (nI 1)), (1, .int 1), (2, .int (nI 2)), (0, .ref sl)] (hF.pu _ _ _ _) dJ41_rotate1_75 (by decide) rfl rfl ?_
  refine r_aload_n 78 7 (hF.pu _ _ _ _) dJ41_rotate1_77 rfl rfl ?_
  refine r_iload 80 0 (hF.pu _ _ _ _) dJ41_rotate1_78 rfl rfl ?_
  refine r_aload 82 1 (hF.pu _ _ _ _) dJ41_rotate1_80 rfl rfl ?_
  refine f_callF 87 hF (fc_J48_set (KS := KS) (Hb := Hb) D l sl a e 0 2 1 x0 x1 mc asz f (by decide) (by decide) (by decide) hf1 [] [oC x0 20 [.long v0]] (fun H h => anyK.ofob (h _ List.mem_cons_self) rfl nw_q3979)) (wr := ([])) rfl (imk [0, 1, 2] rfl) lf_J41_109_J48_set fw_13 fo_J48_set_List_set 2 yf_List_set_2 rfl ⟨by decide, by decide⟩ (fun _ z => ((z.mo 0 rfl).fld 0 rfl)) rfl rfl (Nat.le_of_ble_eq_true rfl) dJ41_rotate1_82 ⟨Nat.le_of_ble_eq_true rfl, Nat.le_of_ble_eq_true rfl⟩ rfl (fun r ws_ im' hp => ?_)
  obtain ⟨rfl, rfl, rfl⟩ := hp
  show F 0 0 ([aC D 3 e (qA 10 (va_up f 1 (some x0)))]) ([oC sl 22 [.int mc, .ref a, .null, .int (nI 0), .int (nI 2)], oC a 12 [.int mc, .ref e, asz], oC x0 20 [.long v0], oC x1 20 [.long v1]]) 87 [.ref x1] [(7, .int (nI 1)), (6, .ref x0), (5, .int 0), (4, .int 0), (3, .int (nI 1)), (1, .int 1), (2, .int (nI 2)), (0, .ref sl)]
  refine r_astore 89 [(6, .ref x1), (7, .int (nI 1)), (5, .int 0), (4, .int 0), (3, .int (nI 1)), (1, .int 1), (2, .int (nI 2)), (0, .ref sl)] (hF.pu _ _ _ _) dJ41_rotate1_87 (by decide) rfl rfl ?_
  refine r_iinc 92 (nI (0 + 1)) 2 [(5, .int (nI (0 + 1))), (6, .ref x1), (7, .int (nI 1)), (4, .int 0), (3, .int (nI 1)), (1, .int 1), (2, .int (nI 2)), (0, .ref sl)] (hF.pu _ _ _ _) dJ41_rotate1_89 rfl (nI_1 0) (by decide) rfl rfl ?_
  refine r_iload 94 2 (hF.pu _ _ _ _) dJ41_rotate1_92 rfl rfl ?_
  refine r_iload 96 3 (hF.pu _ _ _ _) dJ41_rotate1_94 rfl rfl ?_
  refine r_icmp_neN 1 0 99 59 (hF.pu _ _ _ _) dJ41_rotate1_96 (by omega) (by omega) (by decide) (fun c96 => ?_) rfl (fun c96 => absurd c96 (by decide))
  refine r_iload 61 2 (hF.pu _ _ _ _) dJ41_rotate1_59 rfl rfl ?_
  refine r_iload_n 62 4 (hF.pu _ _ _ _) dJ41_rotate1_61 rfl rfl ?_
  refine r_icmp_ltN 1 1 65 71 (hF.pu _ _ _ _) dJ41_rotate1_62 (by omega) (by omega) (by decide) (fun c62 => absurd c62 (by decide)) rfl (fun c62 => ?_)
  refine r_iload 67 2 (hF.pu _ _ _ _) dJ41_rotate1_65 rfl rfl ?_
  refine r_iload_n 68 6 (hF.pu _ _ _ _) dJ41_rotate1_67 rfl rfl ?_
  refine r_isub 69 (hF.pu _ _ _ _) dJ41_rotate1_68 rfl ?_
  refine r_eqi ((-1)) (by decide) ?_
  refine r_istore 71 [(7, .int (-1)), (5, .int (nI (0 + 1))), (6, .ref x1), (4, .int 0), (3, .int (nI 1)), (1, .int 1), (2, .int (nI 2)), (0, .ref sl)] (hF.pu _ _ _ _) dJ41_rotate1_69 (by decide) rfl rfl ?_
  refine r_iload 73 0 (hF.pu _ _ _ _) dJ41_rotate1_71 rfl rfl ?_
  refine r_iload_n 74 5 (hF.pu _ _ _ _) dJ41_rotate1_73 rfl rfl ?_
  refine r_iadd 75 (hF.pu _ _ _ _) dJ41_rotate1_74 rfl ?_
  refine r_eqi (nI 0) (by decide) ?_
  refine r_istore 77 [(7, .int (nI 0)), (5, .int (nI (0 + 1))), (6, .ref x1), (4, .int 0), (3, .int (nI 1)), (1, .int 1), (2, .int (nI 2)), (0, .ref sl)] (hF.pu _ _ _ _) dJ41_rotate1_75 (by decide) rfl rfl ?_
  refine r_aload_n 78 7 (hF.pu _ _ _ _) dJ41_rotate1_77 rfl rfl ?_
  refine r_iload 80 0 (hF.pu _ _ _ _) dJ41_rotate1_78 rfl rfl ?_
  refine r_aload 82 2 (hF.pu _ _ _ _) dJ41_rotate1_80 rfl rfl ?_
  refine f_callF 87 hF (fc_J48_set (KS := KS) (Hb := Hb) D l sl a e 0 2 0 x1 x0 mc asz (va_up f 1 (some x0)) (by decide) (by decide) (by decide) hf0 [] [oC x1 20 [.long v1]] (fun H h => anyK.ofob (h _ List.mem_cons_self) rfl nw_q3979)) (wr := ([])) rfl (imk [0, 1, 3] rfl) lf_J41_109_J48_set fw_13 fo_J48_set_List_set 2 yf_List_set_2 rfl ⟨by decide, by decide⟩ (fun _ z => ((z.mo 0 rfl).fld 0 rfl)) rfl rfl (Nat.le_of_ble_eq_true rfl) dJ41_rotate1_82 ⟨Nat.le_of_ble_eq_true rfl, Nat.le_of_ble_eq_true rfl⟩ rfl (fun r ws_ im' hp => ?_)
  obtain ⟨rfl, rfl, rfl⟩ := hp
  show F 0 0 ([aC D 3 e (qA 10 (va_up (va_up f 1 (some x0)) 0 (some x1)))]) ([oC sl 22 [.int mc, .ref a, .null, .int (nI 0), .int (nI 2)], oC a 12 [.int mc, .ref e, asz], oC x0 20 [.long v0], oC x1 20 [.long v1]]) 87 [.ref x0] [(7, .int (nI 0)), (5, .int (nI (0 + 1))), (6, .ref x1), (4, .int 0), (3, .int (nI 1)), (1, .int 1), (2, .int (nI 2)), (0, .ref sl)]
  refine r_astore 89 [(6, .ref x0), (7, .int (nI 0)), (5, .int (nI (0 + 1))), (4, .int 0), (3, .int (nI 1)), (1, .int 1), (2, .int (nI 2)), (0, .ref sl)] (hF.pu _ _ _ _) dJ41_rotate1_87 (by decide) rfl rfl ?_
  refine r_iinc 92 (nI (1 + 1)) 2 [(5, .int (nI (1 + 1))), (6, .ref x0), (7, .int (nI 0)), (4, .int 0), (3, .int (nI 1)), (1, .int 1), (2, .int (nI 2)), (0, .ref sl)] (hF.pu _ _ _ _) dJ41_rotate1_89 rfl (nI_1 1) (by decide) rfl rfl ?_
  refine r_iload 94 2 (hF.pu _ _ _ _) dJ41_rotate1_92 rfl rfl ?_
  refine r_iload 96 3 (hF.pu _ _ _ _) dJ41_rotate1_94 rfl rfl ?_
  refine r_icmp_neN 0 0 99 59 (hF.pu _ _ _ _) dJ41_rotate1_96 (by omega) (by omega) (by decide) (fun c96 => absurd c96 (by decide)) rfl (fun c96 => ?_)
  refine r_iinc 102 (nI (0 + 1)) 3 [(4, .int (nI (0 + 1))), (5, .int (nI (1 + 1))), (6, .ref x0), (7, .int (nI 0)), (3, .int (nI 1)), (1, .int 1), (2, .int (nI 2)), (0, .ref sl)] (hF.pu _ _ _ _) dJ41_rotate1_99 rfl (nI_1 0) (by decide) rfl rfl ?_
  refine r_goto 39 (hF.pu _ _ _ _) dJ41_rotate1_102 (by decide) ?_
  refine r_iload 41 1 (hF.pu _ _ _ _) dJ41_rotate1_39 rfl rfl ?_
  refine r_iload_n 42 6 (hF.pu _ _ _ _) dJ41_rotate1_41 rfl rfl ?_
  refine r_icmp_geN 2 2 45 105 (hF.pu _ _ _ _) dJ41_rotate1_42 (by omega) (by omega) (by decide) (fun c42 => ?_) rfl (fun c42 => absurd c42 (by decide))
  refine f_imsub hF [] (imk [] rfl) ?_
  exact FR.v hR dJ41_rotate1_105 (Nat.le_of_ble_eq_true rfl) (Nat.le_of_ble_eq_true rfl) ⟨rfl, rfl, rfl⟩
theorem lk_J41_139 : GoodIn lw_all (va_wsS RJ41 139 yJ41_rotate1 (ws_ yJ41_rotate1 cJ41_rotate1 8 none)) := lw_S q2668 q2669 q155 q2670
theorem yk_J41_rotate1 : yOk yJ41_rotate1 2 := by decide +kernel
set_option maxHeartbeats 4000000 in
theorem fc_J41_rotate_1 (D : DD) (l : Launch) {KS : Nat → Prop} {Hb : Heap} (sl a e : Nat) (mc : Int32) (asz : Value) (o : Nat) : Fc D l yJ41_rotate cJ41_rotate 2 none 3 0 0 67 KS Hb [.ref sl, .int 1] ([]) ([oC sl 22 [.int mc, .ref a, .null, .int (nI o), .int (nI 1)], oC a 12 [.int mc, .ref e, asz]]) (fun r w i_ => r = none ∧ w = [] ∧ i_ = []) := by
  refine Fc.of (by decide) (Nat.le_of_ble_eq_true rfl) (fun s F hF hR => ?_)
  show F 0 0 ([]) ([oC sl 22 [.int mc, .ref a, .null, .int (nI o), .int (nI 1)], oC a 12 [.int mc, .ref e, asz]]) 0 [] [(0, .ref sl), (1, .int 1)]
  refine r_aload_n 1 0 (hF.pu _ _ _ _) dJ41_rotate_0 rfl rfl ?_
  refine f_instY 4 hF (fun _ z => ((z.mo 0 rfl).fld 0 rfl)) rfl q2225 nw_q3944 dJ41_rotate_1 rfl ?_
  refine r_if_ne 7 18 (hF.pu _ _ _ _) dJ41_rotate_4 (by decide) (fun _ => ?_) rfl (fun c => absurd c (by decide))
  refine r_aload_n 19 0 (hF.pu _ _ _ _) dJ41_rotate_18 rfl rfl ?_
  refine r_iload_n 20 1 (hF.pu _ _ _ _) dJ41_rotate_19 rfl rfl ?_
  refine f_callS 23 hF (fc_J41_rotate1_1 (KS := KS) (Hb := Hb) D l sl a e mc asz o) (wr := ([])) rfl (imk [0, 1] rfl) lk_J41_139 2 yk_J41_rotate1 rfl ⟨by decide, by decide⟩ rfl (Nat.le_of_ble_eq_true rfl) dJ41_rotate_20 ⟨Nat.le_of_ble_eq_true rfl, Nat.le_of_ble_eq_true rfl⟩ rfl (fun r ws_ im' hp => ?_)
  obtain ⟨rfl, rfl, rfl⟩ := hp
  show F 0 0 ([]) ([oC sl 22 [.int mc, .ref a, .null, .int (nI o), .int (nI 1)], oC a 12 [.int mc, .ref e, asz]]) 23 [] [(0, .ref sl), (1, .int 1)]
  refine r_goto 31 (hF.pu _ _ _ _) dJ41_rotate_23 (by decide) ?_
  refine f_imsub hF [] (imk [] rfl) ?_
  exact FR.v hR dJ41_rotate_31 (Nat.le_of_ble_eq_true rfl) (Nat.le_of_ble_eq_true rfl) ⟨rfl, rfl, rfl⟩
set_option maxHeartbeats 4000000 in
theorem fc_J41_rotate_p (D : DD) (l : Launch) {KS : Nat → Prop} {Hb : Heap} (sl a e : Nat) (mc : Int32) (asz : Value) (x0 x1 : Nat) (v0 v1 : Int64) (f : Nat → Option Nat) (hf0 : f 0 = some x0) (hf1 : f 1 = some x1) : Fc D l yJ41_rotate cJ41_rotate 2 none 4 0 0 93 KS Hb [.ref sl, .int 1] ([aC D 3 e (qA 10 f)]) ([oC sl 22 [.int mc, .ref a, .null, .int (nI 0), .int (nI 2)], oC a 12 [.int mc, .ref e, asz], oC x0 20 [.long v0], oC x1 20 [.long v1]]) (fun r w i_ => r = none ∧ w = [aC D 3 e (qA 10 (va_up (va_up f 1 (some x0)) 0 (some x1)))] ∧ i_ = []) := by
  refine Fc.of (by decide) (Nat.le_of_ble_eq_true rfl) (fun s F hF hR => ?_)
  show F 0 0 ([aC D 3 e (qA 10 f)]) ([oC sl 22 [.int mc, .ref a, .null, .int (nI 0), .int (nI 2)], oC a 12 [.int mc, .ref e, asz], oC x0 20 [.long v0], oC x1 20 [.long v1]]) 0 [] [(0, .ref sl), (1, .int 1)]
  refine r_aload_n 1 0 (hF.pu _ _ _ _) dJ41_rotate_0 rfl rfl ?_
  refine f_instY 4 hF (fun _ z => ((z.mo 0 rfl).fld 0 rfl)) rfl q2225 nw_q3944 dJ41_rotate_1 rfl ?_
  refine r_if_ne 7 18 (hF.pu _ _ _ _) dJ41_rotate_4 (by decide) (fun _ => ?_) rfl (fun c => absurd c (by decide))
  refine r_aload_n 19 0 (hF.pu _ _ _ _) dJ41_rotate_18 rfl rfl ?_
  refine r_iload_n 20 1 (hF.pu _ _ _ _) dJ41_rotate_19 rfl rfl ?_
  refine f_callS 23 hF (fc_J41_rotate1_p (KS := KS) (Hb := Hb) D l sl a e mc asz x0 x1 v0 v1 f hf0 hf1) (wr := ([])) rfl (imk [0, 1, 2, 3] rfl) lk_J41_139 2 yk_J41_rotate1 rfl ⟨by decide, by decide⟩ rfl (Nat.le_of_ble_eq_true rfl) dJ41_rotate_20 ⟨Nat.le_of_ble_eq_true rfl, Nat.le_of_ble_eq_true rfl⟩ rfl (fun r ws_ im' hp => ?_)
  obtain ⟨rfl, rfl, rfl⟩ := hp
  show F 0 0 ([aC D 3 e (qA 10 (va_up (va_up f 1 (some x0)) 0 (some x1)))]) ([oC sl 22 [.int mc, .ref a, .null, .int (nI 0), .int (nI 2)], oC a 12 [.int mc, .ref e, asz], oC x0 20 [.long v0], oC x1 20 [.long v1]]) 23 [] [(0, .ref sl), (1, .int 1)]
  refine r_goto 31 (hF.pu _ _ _ _) dJ41_rotate_23 (by decide) ?_
  refine f_imsub hF [] (imk [] rfl) ?_
  exact FR.v hR dJ41_rotate_31 (Nat.le_of_ble_eq_true rfl) (Nat.le_of_ble_eq_true rfl) ⟨rfl, rfl, rfl⟩
set_option maxHeartbeats 4000000 in
theorem fc_J41_rotate_m (D : DD) (l : Launch) {KS : Nat → Prop} {Hb : Heap} (sl a e : Nat) (mc : Int32) (asz : Value) (x0 x1 : Nat) (v0 v1 : Int64) (f : Nat → Option Nat) (hf0 : f 0 = some x0) (hf1 : f 1 = some x1) : Fc D l yJ41_rotate cJ41_rotate 2 none 4 0 0 93 KS Hb [.ref sl, .int (-1)] ([aC D 3 e (qA 10 f)]) ([oC sl 22 [.int mc, .ref a, .null, .int (nI 0), .int (nI 2)], oC a 12 [.int mc, .ref e, asz], oC x0 20 [.long v0], oC x1 20 [.long v1]]) (fun r w i_ => r = none ∧ w = [aC D 3 e (qA 10 (va_up (va_up f 1 (some x0)) 0 (some x1)))] ∧ i_ = []) := by
  refine Fc.of (by decide) (Nat.le_of_ble_eq_true rfl) (fun s F hF hR => ?_)
  show F 0 0 ([aC D 3 e (qA 10 f)]) ([oC sl 22 [.int mc, .ref a, .null, .int (nI 0), .int (nI 2)], oC a 12 [.int mc, .ref e, asz], oC x0 20 [.long v0], oC x1 20 [.long v1]]) 0 [] [(0, .ref sl), (1, .int (-1))]
  refine r_aload_n 1 0 (hF.pu _ _ _ _) dJ41_rotate_0 rfl rfl ?_
  refine f_instY 4 hF (fun _ z => ((z.mo 0 rfl).fld 0 rfl)) rfl q2225 nw_q3944 dJ41_rotate_1 rfl ?_
  refine r_if_ne 7 18 (hF.pu _ _ _ _) dJ41_rotate_4 (by decide) (fun _ => ?_) rfl (fun c => absurd c (by decide))
  refine r_aload_n 19 0 (hF.pu _ _ _ _) dJ41_rotate_18 rfl rfl ?_
  refine r_iload_n 20 1 (hF.pu _ _ _ _) dJ41_rotate_19 rfl rfl ?_
  refine f_callS 23 hF (fc_J41_rotate1_m (KS := KS) (Hb := Hb) D l sl a e mc asz x0 x1 v0 v1 f hf0 hf1) (wr := ([])) rfl (imk [0, 1, 2, 3] rfl) lk_J41_139 2 yk_J41_rotate1 rfl ⟨by decide, by decide⟩ rfl (Nat.le_of_ble_eq_true rfl) dJ41_rotate_20 ⟨Nat.le_of_ble_eq_true rfl, Nat.le_of_ble_eq_true rfl⟩ rfl (fun r ws_ im' hp => ?_)
  obtain ⟨rfl, rfl, rfl⟩ := hp
  show F 0 0 ([aC D 3 e (qA 10 (va_up (va_up f 1 (some x0)) 0 (some x1)))]) ([oC sl 22 [.int mc, .ref a, .null, .int (nI 0), .int (nI 2)], oC a 12 [.int mc, .ref e, asz], oC x0 20 [.long v0], oC x1 20 [.long v1]]) 23 [] [(0, .ref sl), (1, .int (-1))]
  refine r_goto 31 (hF.pu _ _ _ _) dJ41_rotate_23 (by decide) ?_
  refine f_imsub hF [] (imk [] rfl) ?_
  exact FR.v hR dJ41_rotate_31 (Nat.le_of_ble_eq_true rfl) (Nat.le_of_ble_eq_true rfl) ⟨rfl, rfl, rfl⟩
