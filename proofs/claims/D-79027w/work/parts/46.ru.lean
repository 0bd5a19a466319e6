set_option maxHeartbeats 2000000 in
theorem cp_J10_isPositionIndex (D : DD) (l : Launch) {H0 : Heap} (a n i : Nat) (h : fld D 13 a 1 (.int (nI n)) H0) (hi : i ≤ n) (hn : n ≤ 6) : Cp D l yJ10_isPositionIndex cJ10_isPositionIndex 2 (some .boolean) 0 0 [.ref a, .int (nI i)] H0 (some (.int 1)) := by
  refine Cp.of (by decide) (Nat.le_of_ble_eq_true rfl) (fun s A J hJ hR => ?_)
  show J H0 0 0 0 [] [(0, .ref a), (1, .int (nI i))]
  refine r_iload_n 1 1 (hJ.pu _ _ _) dJ10_isPositionIndex_0 rfl rfl ?_
  refine r_if_ltN i 4 16 (hJ.pu _ _ _) dJ10_isPositionIndex_1 (by omega) (by decide) rfl ?_
  refine r_iload_n 5 1 (hJ.pu _ _ _) dJ10_isPositionIndex_4 rfl rfl ?_
  refine r_aload_n 6 0 (hJ.pu _ _ _) dJ10_isPositionIndex_5 rfl rfl ?_
  refine j_getf 9 hJ (T := TJ10) (C := RJ10) 1 (v := .int (nI n)) okJ10 h rfl (by decide) (Or.inl q292) (Or.inl rfl) dJ10_isPositionIndex_6 rfl ?_
  refine r_icmp_gtN i n 12 16 (hJ.pu _ _ _) dJ10_isPositionIndex_9 (by omega) (by omega) (by decide) (fun c9 => absurd c9 (by omega)) rfl (fun c9 => ?_)
  refine r_iconst 13 1 (hJ.pu _ _ _) dJ10_isPositionIndex_12 (by decide) rfl ?_
  refine r_goto 17 (hJ.pu _ _ _) dJ10_isPositionIndex_13 (by decide) ?_
  exact Rt.i hR rfl dJ10_isPositionIndex_17 (Nat.zero_le _) (Nat.zero_le _) ⟨rfl, rfl⟩
theorem lk_J10_128 : GoodIn lw_all (wsV RJ10 128 yJ10_isPositionIndex.cls yJ10_isPositionIndex (ws_ yJ10_isPositionIndex cJ10_isPositionIndex 2 (some .boolean))) := lw_V q1103 q1105 qs14 q116 q1106
theorem yk_J10_isPositionIndex : yOk yJ10_isPositionIndex 1 := by decide +kernel
set_option maxHeartbeats 2000000 in
theorem cp_J10_checkPositionIndex (D : DD) (l : Launch) {H0 : Heap} (a n i : Nat) (h : fld D 13 a 1 (.int (nI n)) H0) (hi : i ≤ n) (hn : n ≤ 6) : Cp D l yJ10_checkPositionIndex cJ10_checkPositionIndex 2 none 1 21 [.ref a, .int (nI i)] H0 none := by
  refine Cp.of (by decide) (Nat.le_of_ble_eq_true rfl) (fun s A J hJ hR => ?_)
  show J H0 0 0 0 [] [(0, .ref a), (1, .int (nI i))]
  refine r_aload_n 1 0 (hJ.pu _ _ _) dJ10_checkPositionIndex_0 rfl rfl ?_
  refine r_iload_n 2 1 (hJ.pu _ _ _) dJ10_checkPositionIndex_1 rfl rfl ?_
  refine j_callp 5 hJ (cp_J10_isPositionIndex D l a n i h hi hn) lk_J10_128 1 yk_J10_isPositionIndex rfl ⟨by decide, by decide⟩ h rfl rfl (Nat.le_of_ble_eq_true rfl) dJ10_checkPositionIndex_2 ⟨Nat.zero_le _, Nat.zero_le _⟩ rfl ?_
  refine r_if_ne 8 21 (hJ.pu _ _ _) dJ10_checkPositionIndex_5 (by decide) (fun _ => ?_) rfl (fun c => absurd c (by decide))
  exact Rt.v hR dJ10_checkPositionIndex_21 (Nat.zero_le _) (Nat.zero_le _) ⟨rfl, rfl⟩
set_option maxHeartbeats 4000000 in
theorem fc_J10_toArray_0 (D : DD) (l : Launch) {KS : Nat → Prop} {Hb : Heap} (c b d : Nat) (m : Int32) (f : Nat → Nat) (iv : va_W) (hel : ∀ H, (∀ q ∈ iv, va_at D.1 aCl q H) → ∀ i, i < 0 → anyK D "java/lang/Object" (f i) H) : Fc D l yJ10_toArray cJ10_toArray 4 (Option.some (ClassFile.FieldType.array (ClassFile.FieldType.object "java/lang/Object"))) 0 1 0 0 KS Hb [.ref c] ([]) ((oC c 13 [.int m, .int 0, .null, .null]) :: iv) (fun r w i => ∃ x, r = some (.ref x) ∧ w = [aC D 3 x (qA 0 (fun _ => none))] ∧ i = []) := by
  refine Fc.of (by decide) (Nat.le_of_ble_eq_true rfl) (fun s F hF hR => ?_)
  show F 0 0 ([]) ((oC c 13 [.int m, .int 0, .null, .null]) :: iv) 0 [] [(0, .ref c)]
  refine r_aload_n 1 0 (hF.pu _ _ _ _) dJ10_toArray_0 rfl rfl ?_
  refine f_getf 4 hF (T := TJ10) (C := RJ10) 1 (v := .int 0) okJ10 (fun _ z => ((z.mo 0 rfl).fld 1 rfl)) rfl (by decide) (Or.inl q292) (Or.inl rfl) dJ10_toArray_1 rfl ?_
  refine f_newq 7 hF (t := 3) (List.mem_of_getElem? (i := 0) rfl) q1711 rfl rfl (by decide) ⟨Nat.le_of_ble_eq_true rfl, Nat.le_of_ble_eq_true rfl⟩ dJ10_toArray_4 rfl (fun a1_ => ?_)
  refine r_astore_n 8 [(1, .ref a1_), (0, .ref c)] (hF.pu _ _ _ _) dJ10_toArray_7 rfl (by decide) rfl rfl ?_
  refine r_iconst 9 0 (hF.pu _ _ _ _) dJ10_toArray_8 (by decide) rfl ?_
  refine r_istore_n 10 [(2, .int 0), (1, .ref a1_), (0, .ref c)] (hF.pu _ _ _ _) dJ10_toArray_9 rfl (by decide) rfl rfl ?_
  refine r_aload_n 11 2 (hF.pu _ _ _ _) dJ10_toArray_10 rfl rfl ?_
  refine f_getf 14 hF (T := TJ10) (C := RJ10) 2 (v := .null) okJ10 (fun _ z => ((z.mo 0 rfl).fld 2 rfl)) rfl (by decide) (Or.inl q294) (Or.inl rfl) dJ10_toArray_11 rfl ?_
  refine r_astore_nN 15 [(3, .null), (2, .int 0), (1, .ref a1_), (0, .ref c)] (hF.pu _ _ _ _) dJ10_toArray_14 rfl (by decide) rfl rfl ?_
  refine r_aload_nN 16 0 (hF.pu _ _ _ _) dJ10_toArray_15 rfl rfl ?_
  refine r_ifnullN 37 (hF.pu _ _ _ _) dJ10_toArray_16 (by decide) ?_
  refine r_aload_n 38 2 (hF.pu _ _ _ _) dJ10_toArray_37 rfl rfl ?_
  refine f_imsub hF [] (imk [] rfl) ?_
  exact FR.a hR (Or.inr ⟨_, rfl⟩) dJ10_toArray_38 (Nat.le_of_ble_eq_true rfl) (Nat.le_of_ble_eq_true rfl) ⟨_, rfl, rfl, rfl⟩
theorem lk_J10_76 : GoodIn lw_all (wsV RJ10 76 yJ10_checkPositionIndex.cls yJ10_checkPositionIndex (ws_ yJ10_checkPositionIndex cJ10_checkPositionIndex 2 none)) := lw_V q1099 q1101 qs13 q116 q1102
theorem yk_J10_checkPositionIndex : yOk yJ10_checkPositionIndex 1 := by decide +kernel
theorem lf_J10_80_J10_toArray : GoodIn lw_all (va_wsF RJ10 80 "java/util/LinkedList" ⟨"java/util/Collection", "toArray", "()[Ljava/lang/Object;"⟩ yJ10_toArray (ws_ yJ10_toArray cJ10_toArray 4 (Option.some (ClassFile.FieldType.array (ClassFile.FieldType.object "java/lang/Object"))))) := lw_F q1722 q1706 q1708 q116 q1710
theorem fo_J10_toArray_Collection_toArray : fwOk ("java/util/LinkedList", ⟨"java/util/Collection", "toArray", "()[Ljava/lang/Object;"⟩, yJ10_toArray) = true := by decide +kernel
set_option maxHeartbeats 4000000 in
theorem fc_J10_addAll_2_0 (D : DD) (l : Launch) {KS : Nat → Prop} {Hb : Heap} (a c b d : Nat) (mc m : Int32) (f : Nat → Nat) (iv : va_W) (hel : ∀ H, (∀ q ∈ iv, va_at D.1 aCl q H) → ∀ i, i < 0 → anyK D "java/lang/Object" (f i) H) : Fc D l yJ10_addAll_2 cJ10_addAll_2 13 (some .boolean) 2 1 0 42 KS Hb [.ref a, .int 0, .ref c] ([oC a 13 [.int mc, .int 0, .null, .null]]) ((oC c 13 [.int m, .int 0, .null, .null]) :: iv) (fun r w i => r = some (.int 0) ∧ w = [oC a 13 [.int mc, .int 0, .null, .null]] ∧ i = []) := by
  refine Fc.of (by decide) (Nat.le_of_ble_eq_true rfl) (fun s F hF hR => ?_)
  show F 0 0 ([oC a 13 [.int mc, .int 0, .null, .null]]) ((oC c 13 [.int m, .int 0, .null, .null]) :: iv) 0 [] [(0, .ref a), (1, .int 0), (2, .ref c)]
  refine r_aload_n 1 0 (hF.pu _ _ _ _) dJ10_addAll_2_0 rfl rfl ?_
  refine r_iload_n 2 1 (hF.pu _ _ _ _) dJ10_addAll_2_1 rfl rfl ?_
  refine f_callp 5 hF (fun _ z => cp_J10_checkPositionIndex D l a 0 0 ((z.o 0 rfl).fld 1 rfl) (by omega) (by omega)) lk_J10_76 1 yk_J10_checkPositionIndex rfl ⟨by decide, by decide⟩ (fun _ z => ((z.o 0 rfl).fld 0 rfl)) rfl rfl (Nat.le_of_ble_eq_true rfl) dJ10_addAll_2_2 ⟨Nat.le_of_ble_eq_true rfl, Nat.le_of_ble_eq_true rfl⟩ rfl ?_
  refine r_aload_n 6 2 (hF.pu _ _ _ _) dJ10_addAll_2_5 rfl rfl ?_
  refine f_callF 11 hF (fc_J10_toArray_0 (KS := KS) (Hb := Hb) D l c b d m f iv hel) (wr := ([oC a 13 [.int mc, .int 0, .null, .null]])) rfl (fun _ h => h) lf_J10_80_J10_toArray fw_33 fo_J10_toArray_Collection_toArray 0 yf_Collection_toArray_0 rfl ⟨by decide, by decide⟩ (fun _ z => ((z.mo 0 rfl).fld 0 rfl)) rfl rfl (Nat.le_of_ble_eq_true rfl) dJ10_addAll_2_6 ⟨Nat.le_of_ble_eq_true rfl, Nat.le_of_ble_eq_true rfl⟩ rfl (fun r ws_ im' hp => ?_)
  obtain ⟨a1_, rfl, rfl, rfl⟩ := hp
  show F 1 0 ([aC D 3 a1_ (qA 0 (fun _ => none)), oC a 13 [.int mc, .int 0, .null, .null]]) ((oC c 13 [.int m, .int 0, .null, .null]) :: iv) 11 [.ref a1_] [(0, .ref a), (1, .int 0), (2, .ref c)]
  refine r_astore_n 12 [(3, .ref a1_), (0, .ref a), (1, .int 0), (2, .ref c)] (hF.pu _ _ _ _) dJ10_addAll_2_11 rfl (by decide) rfl rfl ?_
  refine r_aload_n 13 0 (hF.pu _ _ _ _) dJ10_addAll_2_12 rfl rfl ?_
  refine f_alen 14 hF (fun _ z => (z.a 0 rfl)) rfl dJ10_addAll_2_13 rfl ?_
  refine r_istore 16 [(4, .int (nI 0)), (3, .ref a1_), (0, .ref a), (1, .int 0), (2, .ref c)] (hF.pu _ _ _ _) dJ10_addAll_2_14 (by decide) rfl rfl ?_
  refine r_iload 18 0 (hF.pu _ _ _ _) dJ10_addAll_2_16 rfl rfl ?_
  refine r_if_ne 21 23 (hF.pu _ _ _ _) dJ10_addAll_2_18 (by decide) (fun c => absurd (by decide) c) rfl (fun _ => ?_)
  refine r_iconst 22 0 (hF.pu _ _ _ _) dJ10_addAll_2_21 (by decide) rfl ?_
  refine f_kp hF [false] ([oC a 13 [.int mc, .int 0, .null, .null]]) rfl ?_
  refine f_imsub hF [] (imk [] rfl) ?_
  exact FR.i hR rfl dJ10_addAll_2_22 (Nat.le_of_ble_eq_true rfl) (Nat.le_of_ble_eq_true rfl) ⟨rfl, rfl, rfl⟩
theorem lk_J10_73 : GoodIn lw_all (wsV RJ10 73 yJ10_addAll_2.cls yJ10_addAll_2 (ws_ yJ10_addAll_2 cJ10_addAll_2 13 (some .boolean))) := lw_V q1717 q1718 q1719 q116 q1720
theorem yk_J10_addAll_2 : yOk yJ10_addAll_2 2 := by decide +kernel
set_option maxHeartbeats 4000000 in
theorem fc_J10_addAll_0 (D : DD) (l : Launch) {KS : Nat → Prop} {Hb : Heap} (a c b d : Nat) (mc m : Int32) (f : Nat → Nat) (iv : va_W) (hel : ∀ H, (∀ q ∈ iv, va_at D.1 aCl q H) → ∀ i, i < 0 → anyK D "java/lang/Object" (f i) H) : Fc D l yJ10_addAll cJ10_addAll 2 (some .boolean) 3 1 0 74 KS Hb [.ref a, .ref c] ([oC a 13 [.int mc, .int 0, .null, .null]]) ((oC c 13 [.int m, .int 0, .null, .null]) :: iv) (fun r w i => r = some (.int 0) ∧ w = [oC a 13 [.int mc, .int 0, .null, .null]] ∧ i = []) := by
  refine Fc.of (by decide) (Nat.le_of_ble_eq_true rfl) (fun s F hF hR => ?_)
  show F 0 0 ([oC a 13 [.int mc, .int 0, .null, .null]]) ((oC c 13 [.int m, .int 0, .null, .null]) :: iv) 0 [] [(0, .ref a), (1, .ref c)]
  refine r_aload_n 1 0 (hF.pu _ _ _ _) dJ10_addAll_0 rfl rfl ?_
  refine r_aload_n 2 0 (hF.pu _ _ _ _) dJ10_addAll_1 rfl rfl ?_
  refine f_getf 5 hF (T := TJ10) (C := RJ10) 1 (v := .int 0) okJ10 (fun _ z => ((z.o 0 rfl).fld 1 rfl)) rfl (by decide) (Or.inl q292) (Or.inl rfl) dJ10_addAll_2 rfl ?_
  refine r_aload_n 6 1 (hF.pu _ _ _ _) dJ10_addAll_5 rfl rfl ?_
  refine f_callV 9 hF (fc_J10_addAll_2_0 (KS := KS) (Hb := Hb) D l a c b d mc m f iv hel) (wr := ([])) rfl (fun _ h => h) lk_J10_73 2 yk_J10_addAll_2 rfl ⟨by decide, by decide⟩ (fun _ z => ((z.o 0 rfl).fld 0 rfl)) rfl rfl (Nat.le_of_ble_eq_true rfl) dJ10_addAll_6 ⟨Nat.le_of_ble_eq_true rfl, Nat.le_of_ble_eq_true rfl⟩ rfl (fun r ws_ im' hp => ?_)
  obtain ⟨rfl, rfl, rfl⟩ := hp
  show F 1 0 ([oC a 13 [.int mc, .int 0, .null, .null]]) ((oC c 13 [.int m, .int 0, .null, .null]) :: iv) 9 [.int 0] [(0, .ref a), (1, .ref c)]
  refine f_imsub hF [] (imk [] rfl) ?_
  exact FR.i hR rfl dJ10_addAll_9 (Nat.le_of_ble_eq_true rfl) (Nat.le_of_ble_eq_true rfl) ⟨rfl, rfl, rfl⟩
set_option maxHeartbeats 4000000 in
theorem fc_J10_toArray_1 (D : DD) (l : Launch) {KS : Nat → Prop} {Hb : Heap} (c b d : Nat) (m : Int32) (f : Nat → Nat) (iv : va_W) (hel : ∀ H, (∀ q ∈ iv, va_at D.1 aCl q H) → ∀ i, i < 1 → anyK D "java/lang/Object" (f i) H) : Fc D l yJ10_toArray cJ10_toArray 4 (Option.some (ClassFile.FieldType.array (ClassFile.FieldType.object "java/lang/Object"))) 0 1 1 0 KS Hb [.ref c] ([]) ((oC c 13 [.int m, .int 1, .ref b, .ref b]) :: (oC b 14 [.ref (f 0), .null, .null]) :: iv) (fun r w i => ∃ x, r = some (.ref x) ∧ w = [aC D 3 x (qA 1 (va_up (fun _ => none) 0 (some (f 0))))] ∧ i = []) := by
  refine Fc.of (by decide) (Nat.le_of_ble_eq_true rfl) (fun s F hF hR => ?_)
  show F 0 0 ([]) ((oC c 13 [.int m, .int 1, .ref b, .ref b]) :: (oC b 14 [.ref (f 0), .null, .null]) :: iv) 0 [] [(0, .ref c)]
  refine r_aload_n 1 0 (hF.pu _ _ _ _) dJ10_toArray_0 rfl rfl ?_
  refine f_getf 4 hF (T := TJ10) (C := RJ10) 1 (v := .int 1) okJ10 (fun _ z => ((z.mo 0 rfl).fld 1 rfl)) rfl (by decide) (Or.inl q292) (Or.inl rfl) dJ10_toArray_1 rfl ?_
  refine f_newq 7 hF (t := 3) (List.mem_of_getElem? (i := 0) rfl) q1711 rfl rfl (by decide) ⟨Nat.le_of_ble_eq_true rfl, Nat.le_of_ble_eq_true rfl⟩ dJ10_toArray_4 rfl (fun a1_ => ?_)
  refine r_astore_n 8 [(1, .ref a1_), (0, .ref c)] (hF.pu _ _ _ _) dJ10_toArray_7 rfl (by decide) rfl rfl ?_
  refine r_iconst 9 0 (hF.pu _ _ _ _) dJ10_toArray_8 (by decide) rfl ?_
  refine r_istore_n 10 [(2, .int 0), (1, .ref a1_), (0, .ref c)] (hF.pu _ _ _ _) dJ10_toArray_9 rfl (by decide) rfl rfl ?_
  refine r_aload_n 11 2 (hF.pu _ _ _ _) dJ10_toArray_10 rfl rfl ?_
  refine f_getf 14 hF (T := TJ10) (C := RJ10) 2 (v := .ref b) okJ10 (fun _ z => ((z.mo 0 rfl).fld 2 rfl)) rfl (by decide) (Or.inl q294) (Or.inl rfl) dJ10_toArray_11 rfl ?_
  refine r_astore_n 15 [(3, .ref b), (2, .int 0), (1, .ref a1_), (0, .ref c)] (hF.pu _ _ _ _) dJ10_toArray_14 rfl (by decide) rfl rfl ?_
  refine r_aload_n 16 0 (hF.pu _ _ _ _) dJ10_toArray_15 rfl rfl ?_
  refine r_ifnull 19 (hF.pu _ _ _ _) dJ10_toArray_16 rfl ?_
  refine r_aload_n 20 2 (hF.pu _ _ _ _) dJ10_toArray_19 rfl rfl ?_
  refine r_iload_n 21 1 (hF.pu _ _ _ _) dJ10_toArray_20 rfl rfl ?_
  refine r_iinc 24 (nI (0 + 1)) 1 [(2, .int (nI (0 + 1))), (3, .ref b), (1, .ref a1_), (0, .ref c)] (hF.pu _ _ _ _) dJ10_toArray_21 rfl (nI_1 0) (by decide) rfl rfl ?_
  refine r_aload_n 25 1 (hF.pu _ _ _ _) dJ10_toArray_24 rfl rfl ?_
  refine f_getf 28 hF (T := TJ39) (C := RJ39) 0 (v := .ref (f 0)) okJ39 (fun _ z => ((z.mo 1 rfl).fld 0 rfl)) rfl (by decide) (Or.inl q1731) (Or.inl rfl) dJ10_toArray_25 rfl ?_
  refine f_aast 29 hF 0 ([aC D 3 a1_ (qA 1 (va_up (fun _ => none) 0 (some (f 0))))]) rfl rfl (fun _ z => (hel _ (fun q hq => z.2.2 q (by simp [hq])) 0 (by decide))) 0 rfl (by decide) (by decide) rfl dJ10_toArray_28 rfl ?_
  refine r_aload_n 30 1 (hF.pu _ _ _ _) dJ10_toArray_29 rfl rfl ?_
  refine f_getf 33 hF (T := TJ39) (C := RJ39) 1 (v := .null) okJ39 (fun _ z => ((z.mo 1 rfl).fld 1 rfl)) rfl (by decide) (Or.inl q1734) (Or.inl rfl) dJ10_toArray_30 rfl ?_
  refine r_astore_nN 34 [(3, .null), (2, .int (nI (0 + 1))), (1, .ref a1_), (0, .ref c)] (hF.pu _ _ _ _) dJ10_toArray_33 rfl (by decide) rfl rfl ?_
  refine r_goto 15 (hF.pu _ _ _ _) dJ10_toArray_34 (by decide) ?_
  refine r_aload_nN 16 0 (hF.pu _ _ _ _) dJ10_toArray_15 rfl rfl ?_
  refine r_ifnullN 37 (hF.pu _ _ _ _) dJ10_toArray_16 (by decide) ?_
  refine r_aload_n 38 2 (hF.pu _ _ _ _) dJ10_toArray_37 rfl rfl ?_
  refine f_imsub hF [] (imk [] rfl) ?_
  exact FR.a hR (Or.inr ⟨_, rfl⟩) dJ10_toArray_38 (Nat.le_of_ble_eq_true rfl) (Nat.le_of_ble_eq_true rfl) ⟨_, rfl, rfl, rfl⟩
theorem dvJ39 : ∀ j, j < 3 → defaultValue (tyJ39 j) = vp_V [.null, .null, .null] j := by
  intro j hj
  rcases (show j = 0 ∨ j = 1 ∨ j = 2 by omega) with rfl | rfl | rfl <;> rfl
theorem yk_J39_init : yOk yJ39_init 3 := by decide +kernel
set_option maxHeartbeats 4000000 in
theorem fc_J10_addAll_2_1 (D : DD) (l : Launch) {KS : Nat → Prop} {Hb : Heap} (a c b d : Nat) (mc m : Int32) (f : Nat → Nat) (iv : va_W) (hel : ∀ H, (∀ q ∈ iv, va_at D.1 aCl q H) → ∀ i, i < 1 → anyK D "java/lang/Object" (f i) H) : Fc D l yJ10_addAll_2 cJ10_addAll_2 13 (some .boolean) 2 2 4 43 KS Hb [.ref a, .int 0, .ref c] ([oC a 13 [.int mc, .int 0, .null, .null]]) ((oC c 13 [.int m, .int 1, .ref b, .ref b]) :: (oC b 14 [.ref (f 0), .null, .null]) :: iv) (fun r w i => ∃ x, r = some (.int 1) ∧ w = [oC a 13 [.int (mc + 1), .int 1, .ref x, .ref x], oC x 14 [.ref (f 0), .null, .null]] ∧ i = []) := by
  refine Fc.of (by decide) (Nat.le_of_ble_eq_true rfl) (fun s F hF hR => ?_)
  show F 0 0 ([oC a 13 [.int mc, .int 0, .null, .null]]) ((oC c 13 [.int m, .int 1, .ref b, .ref b]) :: (oC b 14 [.ref (f 0), .null, .null]) :: iv) 0 [] [(0, .ref a), (1, .int 0), (2, .ref c)]
  refine r_aload_n 1 0 (hF.pu _ _ _ _) dJ10_addAll_2_0 rfl rfl ?_
  refine r_iload_n 2 1 (hF.pu _ _ _ _) dJ10_addAll_2_1 rfl rfl ?_
  refine f_callp 5 hF (fun _ z => cp_J10_checkPositionIndex D l a 0 0 ((z.o 0 rfl).fld 1 rfl) (by omega) (by omega)) lk_J10_76 1 yk_J10_checkPositionIndex rfl ⟨by decide, by decide⟩ (fun _ z => ((z.o 0 rfl).fld 0 rfl)) rfl rfl (Nat.le_of_ble_eq_true rfl) dJ10_addAll_2_2 ⟨Nat.le_of_ble_eq_true rfl, Nat.le_of_ble_eq_true rfl⟩ rfl ?_
  refine r_aload_n 6 2 (hF.pu _ _ _ _) dJ10_addAll_2_5 rfl rfl ?_
  refine f_callF 11 hF (fc_J10_toArray_1 (KS := KS) (Hb := Hb) D l c b d m f iv hel) (wr := ([oC a 13 [.int mc, .int 0, .null, .null]])) rfl (fun _ h => h) lf_J10_80_J10_toArray fw_33 fo_J10_toArray_Collection_toArray 0 yf_Collection_toArray_0 rfl ⟨by decide, by decide⟩ (fun _ z => ((z.mo 0 rfl).fld 0 rfl)) rfl rfl (Nat.le_of_ble_eq_true rfl) dJ10_addAll_2_6 ⟨Nat.le_of_ble_eq_true rfl, Nat.le_of_ble_eq_true rfl⟩ rfl (fun r ws_ im' hp => ?_)
  obtain ⟨a1_, rfl, rfl, rfl⟩ := hp
  show F 1 1 ([aC D 3 a1_ (qA 1 (va_up (fun _ => none) 0 (some (f 0)))), oC a 13 [.int mc, .int 0, .null, .null]]) ((oC c 13 [.int m, .int 1, .ref b, .ref b]) :: (oC b 14 [.ref (f 0), .null, .null]) :: iv) 11 [.ref a1_] [(0, .ref a), (1, .int 0), (2, .ref c)]
  refine r_astore_n 12 [(3, .ref a1_), (0, .ref a), (1, .int 0), (2, .ref c)] (hF.pu _ _ _ _) dJ10_addAll_2_11 rfl (by decide) rfl rfl ?_
  refine r_aload_n 13 0 (hF.pu _ _ _ _) dJ10_addAll_2_12 rfl rfl ?_
  refine f_alen 14 hF (fun _ z => (z.a 0 rfl)) rfl dJ10_addAll_2_13 rfl ?_
  refine r_istore 16 [(4, .int (nI 1)), (3, .ref a1_), (0, .ref a), (1, .int 0), (2, .ref c)] (hF.pu _ _ _ _) dJ10_addAll_2_14 (by decide) rfl rfl ?_
  refine r_iload 18 0 (hF.pu _ _ _ _) dJ10_addAll_2_16 rfl rfl ?_
  refine r_if_ne 21 23 (hF.pu _ _ _ _) dJ10_addAll_2_18 (by decide) (fun _ => ?_) rfl (fun c => absurd c (by decide))
  refine r_iload_n 24 3 (hF.pu _ _ _ _) dJ10_addAll_2_23 rfl rfl ?_
  refine r_aload_n 25 2 (hF.pu _ _ _ _) dJ10_addAll_2_24 rfl rfl ?_
  refine f_getf 28 hF (T := TJ10) (C := RJ10) 1 (v := .int 0) okJ10 (fun _ z => ((z.o 1 rfl).fld 1 rfl)) rfl (by decide) (Or.inl q292) (Or.inl rfl) dJ10_addAll_2_25 rfl ?_
  refine r_icmp_neN 0 0 31 43 (hF.pu _ _ _ _) dJ10_addAll_2_28 (by omega) (by omega) (by decide) (fun c28 => absurd c28 (by decide)) rfl (fun c28 => ?_)
  refine r_null 32 (hF.pu _ _ _ _) dJ10_addAll_2_31 rfl ?_
  refine r_astoreN 34 [(6, .null), (4, .int (nI 1)), (3, .ref a1_), (0, .ref a), (1, .int 0), (2, .ref c)] (hF.pu _ _ _ _) dJ10_addAll_2_32 (by decide) rfl rfl ?_
  refine r_aload_n 35 3 (hF.pu _ _ _ _) dJ10_addAll_2_34 rfl rfl ?_
  refine f_getf 38 hF (T := TJ10) (C := RJ10) 3 (v := .null) okJ10 (fun _ z => ((z.o 1 rfl).fld 3 rfl)) rfl (by decide) (Or.inl q295) (Or.inl rfl) dJ10_addAll_2_35 rfl ?_
  refine r_astoreN 40 [(5, .null), (6, .null), (4, .int (nI 1)), (3, .ref a1_), (0, .ref a), (1, .int 0), (2, .ref c)] (hF.pu _ _ _ _) dJ10_addAll_2_38 (by decide) rfl rfl ?_
  refine r_goto 57 (hF.pu _ _ _ _) dJ10_addAll_2_40 (by decide) ?_
  refine r_aload_n 58 3 (hF.pu _ _ _ _) dJ10_addAll_2_57 rfl rfl ?_
  refine r_astore 60 [(7, .ref a1_), (5, .null), (6, .null), (4, .int (nI 1)), (3, .ref a1_), (0, .ref a), (1, .int 0), (2, .ref c)] (hF.pu _ _ _ _) dJ10_addAll_2_58 (by decide) rfl rfl ?_
  refine r_aload 62 0 (hF.pu _ _ _ _) dJ10_addAll_2_60 rfl rfl ?_
  refine f_alen 63 hF (fun _ z => (z.a 0 rfl)) rfl dJ10_addAll_2_62 rfl ?_
  refine r_istore 65 [(8, .int (nI 1)), (7, .ref a1_), (5, .null), (6, .null), (4, .int (nI 1)), (3, .ref a1_), (0, .ref a), (1, .int 0), (2, .ref c)] (hF.pu _ _ _ _) dJ10_addAll_2_63 (by decide) rfl rfl ?_
  refine r_iconst 66 0 (hF.pu _ _ _ _) dJ10_addAll_2_65 (by decide) rfl ?_
  refine r_istore 68 [(9, .int 0), (8, .int (nI 1)), (7, .ref a1_), (5, .null), (6, .null), (4, .int (nI 1)), (3, .ref a1_), (0, .ref a), (1, .int 0), (2, .ref c)] (hF.pu _ _ _ _) dJ10_addAll_2_66 (by decide) rfl rfl ?_
  refine r_iload 70 0 (hF.pu _ _ _ _) dJ10_addAll_2_68 rfl rfl ?_
  refine r_iload 72 1 (hF.pu _ _ _ _) dJ10_addAll_2_70 rfl rfl ?_
  refine r_icmp_geN 0 1 75 131 (hF.pu _ _ _ _) dJ10_addAll_2_72 (by omega) (by omega) (by decide) (fun c72 => absurd c72 (by decide)) rfl (fun c72 => ?_)
  refine r_aload 77 2 (hF.pu _ _ _ _) dJ10_addAll_2_75 rfl rfl ?_
  refine r_iload 79 0 (hF.pu _ _ _ _) dJ10_addAll_2_77 rfl rfl ?_
  refine f_aald 80 hF 0 (x := some (f 0)) (fun _ z => ⟨_, (z.a 0 rfl), rfl⟩) rfl rfl (by decide) (by decide) dJ10_addAll_2_79 rfl ?_
  refine r_astore 82 [(10, .ref (f 0)), (9, .int 0), (8, .int (nI 1)), (7, .ref a1_), (5, .null), (6, .null), (4, .int (nI 1)), (3, .ref a1_), (0, .ref a), (1, .int 0), (2, .ref c)] (hF.pu _ _ _ _) dJ10_addAll_2_80 (by decide) rfl rfl ?_
  refine r_aload 84 0 (hF.pu _ _ _ _) dJ10_addAll_2_82 rfl rfl ?_
  refine r_astore 86 [(11, .ref (f 0)), (10, .ref (f 0)), (9, .int 0), (8, .int (nI 1)), (7, .ref a1_), (5, .null), (6, .null), (4, .int (nI 1)), (3, .ref a1_), (0, .ref a), (1, .int 0), (2, .ref c)] (hF.pu _ _ _ _) dJ10_addAll_2_84 (by decide) rfl rfl ?_
  refine f_new 89 hF (ci := 14) [.null, .null, .null] okJ39 rfl q1723 q1724 q151 dvJ39 ⟨Nat.le_of_ble_eq_true rfl, Nat.le_of_ble_eq_true rfl⟩ dJ10_addAll_2_86 rfl (fun a2_ => ?_)
  refine r_dup 90 (hF.pu _ _ _ _) dJ10_addAll_2_89 rfl rfl ?_
  refine r_aloadN 92 5 (hF.pu _ _ _ _) dJ10_addAll_2_90 rfl rfl ?_
  refine r_aload 94 0 (hF.pu _ _ _ _) dJ10_addAll_2_92 rfl rfl ?_
  refine r_null 95 (hF.pu _ _ _ _) dJ10_addAll_2_94 rfl ?_
  refine f_callI 98 hF (fc_J39_init_nn (KS := KS) (Hb := Hb) D l a2_ 0 (f 0) 0) (wr := ([aC D 3 a1_ (qA 1 (va_up (fun _ => none) 0 (some (f 0)))), oC a 13 [.int mc, .int 0, .null, .null]])) rfl (imk [] rfl) q1727 q151 q1725 q1726 rfl 3 yk_J39_init rfl ⟨by decide, by decide⟩ rfl (Nat.le_of_ble_eq_true rfl) dJ10_addAll_2_95 ⟨Nat.le_of_ble_eq_true rfl, Nat.le_of_ble_eq_true rfl⟩ rfl (fun r ws_ im' hp => ?_)
  obtain ⟨rfl, rfl, rfl⟩ := hp
  show F 2 4 ([oC a2_ 14 [.ref (f 0), .null, .null], aC D 3 a1_ (qA 1 (va_up (fun _ => none) 0 (some (f 0)))), oC a 13 [.int mc, .int 0, .null, .null]]) ((oC c 13 [.int m, .int 1, .ref b, .ref b]) :: (oC b 14 [.ref (f 0), .null, .null]) :: iv) 98 [.ref a2_] [(11, .ref (f 0)), (10, .ref (f 0)), (9, .int 0), (8, .int (nI 1)), (7, .ref a1_), (5, .null), (6, .null), (4, .int (nI 1)), (3, .ref a1_), (0, .ref a), (1, .int 0), (2, .ref c)]
  refine r_astore 100 [(12, .ref a2_), (11, .ref (f 0)), (10, .ref (f 0)), (9, .int 0), (8, .int (nI 1)), (7, .ref a1_), (5, .null), (6, .null), (4, .int (nI 1)), (3, .ref a1_), (0, .ref a), (1, .int 0), (2, .ref c)] (hF.pu _ _ _ _) dJ10_addAll_2_98 (by decide) rfl rfl ?_
  refine r_aloadN 102 6 (hF.pu _ _ _ _) dJ10_addAll_2_100 rfl rfl ?_
  refine r_ifnonnullN 105 (hF.pu _ _ _ _) dJ10_addAll_2_102 rfl ?_
  refine r_aload_n 106 10 (hF.pu _ _ _ _) dJ10_addAll_2_105 rfl rfl ?_
  refine r_aload 108 0 (hF.pu _ _ _ _) dJ10_addAll_2_106 rfl rfl ?_
  refine f_put 111 hF 2 (T := TJ10) (C := RJ10) ([oC a2_ 14 [.ref (f 0), .null, .null], aC D 3 a1_ (qA 1 (va_up (fun _ => none) 0 (some (f 0)))), oC a 13 [.int mc, .int 0, .ref a2_, .null]]) okJ10 rfl rfl 2 (by decide) (Or.inl q294) (Or.inl rfl) rfl rfl rfl (Nat.le_of_ble_eq_true rfl) rfl dJ10_addAll_2_108 rfl ?_
  refine r_goto 121 (hF.pu _ _ _ _) dJ10_addAll_2_111 (by decide) ?_
  refine r_aload 123 0 (hF.pu _ _ _ _) dJ10_addAll_2_121 rfl rfl ?_
  refine r_astore 125 [(5, .ref a2_), (12, .ref a2_), (11, .ref (f 0)), (10, .ref (f 0)), (9, .int 0), (8, .int (nI 1)), (7, .ref a1_), (6, .null), (4, .int (nI 1)), (3, .ref a1_), (0, .ref a), (1, .int 0), (2, .ref c)] (hF.pu _ _ _ _) dJ10_addAll_2_123 (by decide) rfl rfl ?_
  refine r_iinc 128 (nI (0 + 1)) 4 [(9, .int (nI (0 + 1))), (5, .ref a2_), (12, .ref a2_), (11, .ref (f 0)), (10, .ref (f 0)), (8, .int (nI 1)), (7, .ref a1_), (6, .null), (4, .int (nI 1)), (3, .ref a1_), (0, .ref a), (1, .int 0), (2, .ref c)] (hF.pu _ _ _ _) dJ10_addAll_2_125 rfl (nI_1 0) (by decide) rfl rfl ?_
  refine r_goto 68 (hF.pu _ _ _ _) dJ10_addAll_2_128 (by decide) ?_
  refine r_iload 70 0 (hF.pu _ _ _ _) dJ10_addAll_2_68 rfl rfl ?_
  refine r_iload 72 5 (hF.pu _ _ _ _) dJ10_addAll_2_70 rfl rfl ?_
  refine r_icmp_geN 1 1 75 131 (hF.pu _ _ _ _) dJ10_addAll_2_72 (by omega) (by omega) (by decide) (fun c72 => ?_) rfl (fun c72 => absurd c72 (by decide))
  refine r_aloadN 133 7 (hF.pu _ _ _ _) dJ10_addAll_2_131 rfl rfl ?_
  refine r_ifnonnullN 136 (hF.pu _ _ _ _) dJ10_addAll_2_133 rfl ?_
  refine r_aload_n 137 10 (hF.pu _ _ _ _) dJ10_addAll_2_136 rfl rfl ?_
  refine r_aload 139 1 (hF.pu _ _ _ _) dJ10_addAll_2_137 rfl rfl ?_
  refine f_put 142 hF 2 (T := TJ10) (C := RJ10) ([oC a2_ 14 [.ref (f 0), .null, .null], aC D 3 a1_ (qA 1 (va_up (fun _ => none) 0 (some (f 0)))), oC a 13 [.int mc, .int 0, .ref a2_, .ref a2_]]) okJ10 rfl rfl 3 (by decide) (Or.inl q295) (Or.inl rfl) rfl rfl rfl (Nat.le_of_ble_eq_true rfl) rfl dJ10_addAll_2_139 rfl ?_
  refine r_goto 159 (hF.pu _ _ _ _) dJ10_addAll_2_142 (by decide) ?_
  refine r_aload_n 160 10 (hF.pu _ _ _ _) dJ10_addAll_2_159 rfl rfl ?_
  refine r_dup 161 (hF.pu _ _ _ _) dJ10_addAll_2_160 rfl rfl ?_
  refine f_getf 164 hF (T := TJ10) (C := RJ10) 1 (v := .int 0) okJ10 (fun _ z => ((z.o 2 rfl).fld 1 rfl)) rfl (by decide) (Or.inl q292) (Or.inl rfl) dJ10_addAll_2_161 rfl ?_
  refine r_iload 166 8 (hF.pu _ _ _ _) dJ10_addAll_2_164 rfl rfl ?_
  refine r_iaddN 0 1 1 167 (hF.pu _ _ _ _) dJ10_addAll_2_166 (by omega) rfl ?_
  refine f_put 170 hF 2 (T := TJ10) (C := RJ10) ([oC a2_ 14 [.ref (f 0), .null, .null], aC D 3 a1_ (qA 1 (va_up (fun _ => none) 0 (some (f 0)))), oC a 13 [.int mc, .int (nI 1), .ref a2_, .ref a2_]]) okJ10 rfl rfl 1 (by decide) (Or.inl q292) (Or.inl rfl) rfl rfl rfl (Nat.le_of_ble_eq_true rfl) rfl dJ10_addAll_2_167 rfl ?_
  refine r_aload_n 171 10 (hF.pu _ _ _ _) dJ10_addAll_2_170 rfl rfl ?_
  refine r_dup 172 (hF.pu _ _ _ _) dJ10_addAll_2_171 rfl rfl ?_
  refine f_getf 175 hF (T := TJ10) (C := RJ10) 0 (v := .int mc) okJ10 (fun _ z => ((z.o 2 rfl).fld 0 rfl)) rfl (by decide) (Or.inl q271) (Or.inr q260) dJ10_addAll_2_172 rfl ?_
  refine r_iconst 176 1 (hF.pu _ _ _ _) dJ10_addAll_2_175 (by decide) rfl ?_
  refine r_iadd 177 (hF.pu _ _ _ _) dJ10_addAll_2_176 rfl ?_
  refine f_put 180 hF 2 (T := TJ10) (C := RJ10) ([oC a2_ 14 [.ref (f 0), .null, .null], aC D 3 a1_ (qA 1 (va_up (fun _ => none) 0 (some (f 0)))), oC a 13 [.int (mc + 1), .int (nI 1), .ref a2_, .ref a2_]]) okJ10 rfl rfl 0 (by decide) (Or.inl q271) (Or.inr q260) rfl rfl rfl (Nat.le_of_ble_eq_true rfl) rfl dJ10_addAll_2_177 rfl ?_
  refine r_iconst 181 1 (hF.pu _ _ _ _) dJ10_addAll_2_180 (by decide) rfl ?_
  refine f_kp hF [true, false] ([oC a2_ 14 [.ref (f 0), .null, .null], oC a 13 [.int (mc + 1), .int (nI 1), .ref a2_, .ref a2_]]) rfl ?_
  refine f_ups hF [1] ([oC a 13 [.int (mc + 1), .int (nI 1), .ref a2_, .ref a2_], oC a2_ 14 [.ref (f 0), .null, .null]]) rfl ?_
  refine f_imsub hF [] (imk [] rfl) ?_
  exact FR.i hR rfl dJ10_addAll_2_181 (Nat.le_of_ble_eq_true rfl) (Nat.le_of_ble_eq_true rfl) ⟨_, rfl, rfl, rfl⟩
set_option maxHeartbeats 4000000 in
theorem fc_J10_addAll_1 (D : DD) (l : Launch) {KS : Nat → Prop} {Hb : Heap} (a c b d : Nat) (mc m : Int32) (f : Nat → Nat) (iv : va_W) (hel : ∀ H, (∀ q ∈ iv, va_at D.1 aCl q H) → ∀ i, i < 1 → anyK D "java/lang/Object" (f i) H) : Fc D l yJ10_addAll cJ10_addAll 2 (some .boolean) 3 2 4 75 KS Hb [.ref a, .ref c] ([oC a 13 [.int mc, .int 0, .null, .null]]) ((oC c 13 [.int m, .int 1, .ref b, .ref b]) :: (oC b 14 [.ref (f 0), .null, .null]) :: iv) (fun r w i => ∃ x, r = some (.int 1) ∧ w = [oC a 13 [.int (mc + 1), .int 1, .ref x, .ref x], oC x 14 [.ref (f 0), .null, .null]] ∧ i = []) := by
  refine Fc.of (by decide) (Nat.le_of_ble_eq_true rfl) (fun s F hF hR => ?_)
  show F 0 0 ([oC a 13 [.int mc, .int 0, .null, .null]]) ((oC c 13 [.int m, .int 1, .ref b, .ref b]) :: (oC b 14 [.ref (f 0), .null, .null]) :: iv) 0 [] [(0, .ref a), (1, .ref c)]
  refine r_aload_n 1 0 (hF.pu _ _ _ _) dJ10_addAll_0 rfl rfl ?_
  refine r_aload_n 2 0 (hF.pu _ _ _ _) dJ10_addAll_1 rfl rfl ?_
  refine f_getf 5 hF (T := TJ10) (C := RJ10) 1 (v := .int 0) okJ10 (fun _ z => ((z.o 0 rfl).fld 1 rfl)) rfl (by decide) (Or.inl q292) (Or.inl rfl) dJ10_addAll_2 rfl ?_
  refine r_aload_n 6 1 (hF.pu _ _ _ _) dJ10_addAll_5 rfl rfl ?_
  refine f_callV 9 hF (fc_J10_addAll_2_1 (KS := KS) (Hb := Hb) D l a c b d mc m f iv hel) (wr := ([])) rfl (fun _ h => h) lk_J10_73 2 yk_J10_addAll_2 rfl ⟨by decide, by decide⟩ (fun _ z => ((z.o 0 rfl).fld 0 rfl)) rfl rfl (Nat.le_of_ble_eq_true rfl) dJ10_addAll_6 ⟨Nat.le_of_ble_eq_true rfl, Nat.le_of_ble_eq_true rfl⟩ rfl (fun r ws_ im' hp => ?_)
  obtain ⟨a1_, rfl, rfl, rfl⟩ := hp
  show F 2 4 ([oC a 13 [.int (mc + 1), .int 1, .ref a1_, .ref a1_], oC a1_ 14 [.ref (f 0), .null, .null]]) ((oC c 13 [.int m, .int 1, .ref b, .ref b]) :: (oC b 14 [.ref (f 0), .null, .null]) :: iv) 9 [.int 1] [(0, .ref a), (1, .ref c)]
  refine f_imsub hF [] (imk [] rfl) ?_
  exact FR.i hR rfl dJ10_addAll_9 (Nat.le_of_ble_eq_true rfl) (Nat.le_of_ble_eq_true rfl) ⟨_, rfl, rfl, rfl⟩
set_option maxHeartbeats 4000000 in
theorem fc_J10_toArray_2 (D : DD) (l : Launch) {KS : Nat → Prop} {Hb : Heap} (c b d : Nat) (m : Int32) (f : Nat → Nat) (iv : va_W) (hel : ∀ H, (∀ q ∈ iv, va_at D.1 aCl q H) → ∀ i, i < 2 → anyK D "java/lang/Object" (f i) H) : Fc D l yJ10_toArray cJ10_toArray 4 (Option.some (ClassFile.FieldType.array (ClassFile.FieldType.object "java/lang/Object"))) 0 1 2 0 KS Hb [.ref c] ([]) ((oC c 13 [.int m, .int 2, .ref b, .ref d]) :: (oC b 14 [.ref (f 0), .ref d, .null]) :: (oC d 14 [.ref (f 1), .null, .ref b]) :: iv) (fun r w i => ∃ x, r = some (.ref x) ∧ w = [aC D 3 x (qA 2 (va_up (va_up (fun _ => none) 0 (some (f 0))) 1 (some (f 1))))] ∧ i = []) := by
  refine Fc.of (by decide) (Nat.le_of_ble_eq_true rfl) (fun s F hF hR => ?_)
  show F 0 0 ([]) ((oC c 13 [.int m, .int 2, .ref b, .ref d]) :: (oC b 14 [.ref (f 0), .ref d, .null]) :: (oC d 14 [.ref (f 1), .null, .ref b]) :: iv) 0 [] [(0, .ref c)]
  refine r_aload_n 1 0 (hF.pu _ _ _ _) dJ10_toArray_0 rfl rfl ?_
  refine f_getf 4 hF (T := TJ10) (C := RJ10) 1 (v := .int 2) okJ10 (fun _ z => ((z.mo 0 rfl).fld 1 rfl)) rfl (by decide) (Or.inl q292) (Or.inl rfl) dJ10_toArray_1 rfl ?_
  refine f_newq 7 hF (t := 3) (List.mem_of_getElem? (i := 0) rfl) q1711 rfl rfl (by decide) ⟨Nat.le_of_ble_eq_true rfl, Nat.le_of_ble_eq_true rfl⟩ dJ10_toArray_4 rfl (fun a1_ => ?_)
  refine r_astore_n 8 [(1, .ref a1_), (0, .ref c)] (hF.pu _ _ _ _) dJ10_toArray_7 rfl (by decide) rfl rfl ?_
  refine r_iconst 9 0 (hF.pu _ _ _ _) dJ10_toArray_8 (by decide) rfl ?_
  refine r_istore_n 10 [(2, .int 0), (1, .ref a1_), (0, .ref c)] (hF.pu _ _ _ _) dJ10_toArray_9 rfl (by decide) rfl rfl ?_
  refine r_aload_n 11 2 (hF.pu _ _ _ _) dJ10_toArray_10 rfl rfl ?_
  refine f_getf 14 hF (T := TJ10) (C := RJ10) 2 (v := .ref b) okJ10 (fun _ z => ((z.mo 0 rfl).fld 2 rfl)) rfl (by decide) (Or.inl q294) (Or.inl rfl) dJ10_toArray_11 rfl ?_
  refine r_astore_n 15 [(3, .ref b), (2, .int 0), (1, .ref a1_), (0, .ref c)] (hF.pu _ _ _ _) dJ10_toArray_14 rfl (by decide) rfl rfl ?_
  refine r_aload_n 16 0 (hF.pu _ _ _ _) dJ10_toArray_15 rfl rfl ?_
  refine r_ifnull 19 (hF.pu _ _ _ _) dJ10_toArray_16 rfl ?_
  refine r_aload_n 20 2 (hF.pu _ _ _ _) dJ10_toArray_19 rfl rfl ?_
  refine r_iload_n 21 1 (hF.pu _ _ _ _) dJ10_toArray_20 rfl rfl ?_
  refine r_iinc 24 (nI (0 + 1)) 1 [(2, .int (nI (0 + 1))), (3, .ref b), (1, .ref a1_), (0, .ref c)] (hF.pu _ _ _ _) dJ10_toArray_21 rfl (nI_1 0) (by decide) rfl rfl ?_
  refine r_aload_n 25 1 (hF.pu _ _ _ _) dJ10_toArray_24 rfl rfl ?_
  refine f_getf 28 hF (T := TJ39) (C := RJ39) 0 (v := .ref (f 0)) okJ39 (fun _ z => ((z.mo 1 rfl).fld 0 rfl)) rfl (by decide) (Or.inl q1731) (Or.inl rfl) dJ10_toArray_25 rfl ?_
  refine f_aast 29 hF 0 ([aC D 3 a1_ (qA 2 (va_up (fun _ => none) 0 (some (f 0))))]) rfl rfl (fun _ z => (hel _ (fun q hq => z.2.2 q (by simp [hq])) 0 (by decide))) 0 rfl (by decide) (by decide) rfl dJ10_toArray_28 rfl ?_
  refine r_aload_n 30 1 (hF.pu _ _ _ _) dJ10_toArray_29 rfl rfl ?_
  refine f_getf 33 hF (T := TJ39) (C := RJ39) 1 (v := .ref d) okJ39 (fun _ z => ((z.mo 1 rfl).fld 1 rfl)) rfl (by decide) (Or.inl q1734) (Or.inl rfl) dJ10_toArray_30 rfl ?_
  refine r_astore_n 34 [(3, .ref d), (2, .int (nI (0 + 1))), (1, .ref a1_), (0, .ref c)] (hF.pu _ _ _ _) dJ10_toArray_33 rfl (by decide) rfl rfl ?_
  refine r_goto 15 (hF.pu _ _ _ _) dJ10_toArray_34 (by decide) ?_
  refine r_aload_n 16 0 (hF.pu _ _ _ _) dJ10_toArray_15 rfl rfl ?_
  refine r_ifnull 19 (hF.pu _ _ _ _) dJ10_toArray_16 rfl ?_
  refine r_aload_n 20 2 (hF.pu _ _ _ _) dJ10_toArray_19 rfl rfl ?_
  refine r_iload_n 21 1 (hF.pu _ _ _ _) dJ10_toArray_20 rfl rfl ?_
  refine r_iinc 24 (nI (1 + 1)) 1 [(2, .int (nI (1 + 1))), (3, .ref d), (1, .ref a1_), (0, .ref c)] (hF.pu _ _ _ _) dJ10_toArray_21 rfl (nI_1 1) (by decide) rfl rfl ?_
  refine r_aload_n 25 1 (hF.pu _ _ _ _) dJ10_toArray_24 rfl rfl ?_
  refine f_getf 28 hF (T := TJ39) (C := RJ39) 0 (v := .ref (f 1)) okJ39 (fun _ z => ((z.mo 2 rfl).fld 0 rfl)) rfl (by decide) (Or.inl q1731) (Or.inl rfl) dJ10_toArray_25 rfl ?_
  refine f_aast 29 hF 0 ([aC D 3 a1_ (qA 2 (va_up (va_up (fun _ => none) 0 (some (f 0))) 1 (some (f 1))))]) rfl rfl (fun _ z => (hel _ (fun q hq => z.2.2 q (by simp [hq])) 1 (by decide))) 1 rfl (by decide) (by decide) rfl dJ10_toArray_28 rfl ?_
  refine r_aload_n 30 1 (hF.pu _ _ _ _) dJ10_toArray_29 rfl rfl ?_
  refine f_getf 33 hF (T := TJ39) (C := RJ39) 1 (v := .null) okJ39 (fun _ z => ((z.mo 2 rfl).fld 1 rfl)) rfl (by decide) (Or.inl q1734) (Or.inl rfl) dJ10_toArray_30 rfl ?_
  refine r_astore_nN 34 [(3, .null), (2, .int (nI (1 + 1))), (1, .ref a1_), (0, .ref c)] (hF.pu _ _ _ _) dJ10_toArray_33 rfl (by decide) rfl rfl ?_
  refine r_goto 15 (hF.pu _ _ _ _) dJ10_toArray_34 (by decide) ?_
  refine r_aload_nN 16 0 (hF.pu _ _ _ _) dJ10_toArray_15 rfl rfl ?_
  refine r_ifnullN 37 (hF.pu _ _ _ _) dJ10_toArray_16 (by decide) ?_
  refine r_aload_n 38 2 (hF.pu _ _ _ _) dJ10_toArray_37 rfl rfl ?_
  refine f_imsub hF [] (imk [] rfl) ?_
  exact FR.a hR (Or.inr ⟨_, rfl⟩) dJ10_toArray_38 (Nat.le_of_ble_eq_true rfl) (Nat.le_of_ble_eq_true rfl) ⟨_, rfl, rfl, rfl⟩
set_option maxHeartbeats 4000000 in
theorem fc_J10_addAll_2_2 (D : DD) (l : Launch) {KS : Nat → Prop} {Hb : Heap} (a c b d : Nat) (mc m : Int32) (f : Nat → Nat) (iv : va_W) (hel : ∀ H, (∀ q ∈ iv, va_at D.1 aCl q H) → ∀ i, i < 2 → anyK D "java/lang/Object" (f i) H) : Fc D l yJ10_addAll_2 cJ10_addAll_2 13 (some .boolean) 2 3 8 43 KS Hb [.ref a, .int 0, .ref c] ([oC a 13 [.int mc, .int 0, .null, .null]]) ((oC c 13 [.int m, .int 2, .ref b, .ref d]) :: (oC b 14 [.ref (f 0), .ref d, .null]) :: (oC d 14 [.ref (f 1), .null, .ref b]) :: iv) (fun r w i => ∃ x y, r = some (.int 1) ∧ w = [oC a 13 [.int (mc + 1), .int 2, .ref x, .ref y], oC x 14 [.ref (f 0), .ref y, .null], oC y 14 [.ref (f 1), .null, .ref x]] ∧ i = []) := by
  refine Fc.of (by decide) (Nat.le_of_ble_eq_true rfl) (fun s F hF hR => ?_)
  show F 0 0 ([oC a 13 [.int mc, .int 0, .null, .null]]) ((oC c 13 [.int m, .int 2, .ref b, .ref d]) :: (oC b 14 [.ref (f 0), .ref d, .null]) :: (oC d 14 [.ref (f 1), .null, .ref b]) :: iv) 0 [] [(0, .ref a), (1, .int 0), (2, .ref c)]
  refine r_aload_n 1 0 (hF.pu _ _ _ _) dJ10_addAll_2_0 rfl rfl ?_
  refine r_iload_n 2 1 (hF.pu _ _ _ _) dJ10_addAll_2_1 rfl rfl ?_
  refine f_callp 5 hF (fun _ z => cp_J10_checkPositionIndex D l a 0 0 ((z.o 0 rfl).fld 1 rfl) (by omega) (by omega)) lk_J10_76 1 yk_J10_checkPositionIndex rfl ⟨by decide, by decide⟩ (fun _ z => ((z.o 0 rfl).fld 0 rfl)) rfl rfl (Nat.le_of_ble_eq_true rfl) dJ10_addAll_2_2 ⟨Nat.le_of_ble_eq_true rfl, Nat.le_of_ble_eq_true rfl⟩ rfl ?_
  refine r_aload_n 6 2 (hF.pu _ _ _ _) dJ10_addAll_2_5 rfl rfl ?_
  refine f_callF 11 hF (fc_J10_toArray_2 (KS := KS) (Hb := Hb) D l c b d m f iv hel) (wr := ([oC a 13 [.int mc, .int 0, .null, .null]])) rfl (fun _ h => h) lf_J10_80_J10_toArray fw_33 fo_J10_toArray_Collection_toArray 0 yf_Collection_toArray_0 rfl ⟨by decide, by decide⟩ (fun _ z => ((z.mo 0 rfl).fld 0 rfl)) rfl rfl (Nat.le_of_ble_eq_true rfl) dJ10_addAll_2_6 ⟨Nat.le_of_ble_eq_true rfl, Nat.le_of_ble_eq_true rfl⟩ rfl (fun r ws_ im' hp => ?_)
  obtain ⟨a1_, rfl, rfl, rfl⟩ := hp
  show F 1 2 ([aC D 3 a1_ (qA 2 (va_up (va_up (fun _ => none) 0 (some (f 0))) 1 (some (f 1)))), oC a 13 [.int mc, .int 0, .null, .null]]) ((oC c 13 [.int m, .int 2, .ref b, .ref d]) :: (oC b 14 [.ref (f 0), .ref d, .null]) :: (oC d 14 [.ref (f 1), .null, .ref b]) :: iv) 11 [.ref a1_] [(0, .ref a), (1, .int 0), (2, .ref c)]
  refine r_astore_n 12 [(3, .ref a1_), (0, .ref a), (1, .int 0), (2, .ref c)] (hF.pu _ _ _ _) dJ10_addAll_2_11 rfl (by decide) rfl rfl ?_
  refine r_aload_n 13 0 (hF.pu _ _ _ _) dJ10_addAll_2_12 rfl rfl ?_
  refine f_alen 14 hF (fun _ z => (z.a 0 rfl)) rfl dJ10_addAll_2_13 rfl ?_
  refine r_istore 16 [(4, .int (nI 2)), (3, .ref a1_), (0, .ref a), (1, .int 0), (2, .ref c)] (hF.pu _ _ _ _) dJ10_addAll_2_14 (by decide) rfl rfl ?_
  refine r_iload 18 0 (hF.pu _ _ _ _) dJ10_addAll_2_16 rfl rfl ?_
  refine r_if_ne 21 23 (hF.pu _ _ _ _) dJ10_addAll_2_18 (by decide) (fun _ => ?_) rfl (fun c => absurd c (by decide))
  refine r_iload_n 24 3 (hF.pu _ _ _ _) dJ10_addAll_2_23 rfl rfl ?_
  refine r_aload_n 25 2 (hF.pu _ _ _ _) dJ10_addAll_2_24 rfl rfl ?_
  refine f_getf 28 hF (T := TJ10) (C := RJ10) 1 (v := .int 0) okJ10 (fun _ z => ((z.o 1 rfl).fld 1 rfl)) rfl (by decide) (Or.inl q292) (Or.inl rfl) dJ10_addAll_2_25 rfl ?_
  refine r_icmp_neN 0 0 31 43 (hF.pu _ _ _ _) dJ10_addAll_2_28 (by omega) (by omega) (by decide) (fun c28 => absurd c28 (by decide)) rfl (fun c28 => ?_)
  refine r_null 32 (hF.pu _ _ _ _) dJ10_addAll_2_31 rfl ?_
  refine r_astoreN 34 [(6, .null), (4, .int (nI 2)), (3, .ref a1_), (0, .ref a), (1, .int 0), (2, .ref c)] (hF.pu _ _ _ _) dJ10_addAll_2_32 (by decide) rfl rfl ?_
  refine r_aload_n 35 3 (hF.pu _ _ _ _) dJ10_addAll_2_34 rfl rfl ?_
  refine f_getf 38 hF (T := TJ10) (C := RJ10) 3 (v := .null) okJ10 (fun _ z => ((z.o 1 rfl).fld 3 rfl)) rfl (by decide) (Or.inl q295) (Or.inl rfl) dJ10_addAll_2_35 rfl ?_
  refine r_astoreN 40 [(5, .null), (6, .null), (4, .int (nI 2)), (3, .ref a1_), (0, .ref a), (1, .int 0), (2, .ref c)] (hF.pu _ _ _ _) dJ10_addAll_2_38 (by decide) rfl rfl ?_
  refine r_goto 57 (hF.pu _ _ _ _) dJ10_addAll_2_40 (by decide) ?_
  refine r_aload_n 58 3 (hF.pu _ _ _ _) dJ10_addAll_2_57 rfl rfl ?_
  refine r_astore 60 [(7, .ref a1_), (5, .null), (6, .null), (4, .int (nI 2)), (3, .ref a1_), (0, .ref a), (1, .int 0), (2, .ref c)] (hF.pu _ _ _ _) dJ10_addAll_2_58 (by decide) rfl rfl ?_
  refine r_aload 62 0 (hF.pu _ _ _ _) dJ10_addAll_2_60 rfl rfl ?_
  refine f_alen 63 hF (fun _ z => (z.a 0 rfl)) rfl dJ10_addAll_2_62 rfl ?_
  refine r_istore 65 [(8, .int (nI 2)), (7, .ref a1_), (5, .null), (6, .null), (4, .int (nI 2)), (3, .ref a1_), (0, .ref a), (1, .int 0), (2, .ref c)] (hF.pu _ _ _ _) dJ10_addAll_2_63 (by decide) rfl rfl ?_
  refine r_iconst 66 0 (hF.pu _ _ _ _) dJ10_addAll_2_65 (by decide) rfl ?_
  refine r_istore 68 [(9, .int 0), (8, .int (nI 2)), (7, .ref a1_), (5, .null), (6, .null), (4, .int (nI 2)), (3, .ref a1_), (0, .ref a), (1, .int 0), (2, .ref c)] (hF.pu _ _ _ _) dJ10_addAll_2_66 (by decide) rfl rfl ?_
  refine r_iload 70 0 (hF.pu _ _ _ _) dJ10_addAll_2_68 rfl rfl ?_
  refine r_iload 72 1 (hF.pu _ _ _ _) dJ10_addAll_2_70 rfl rfl ?_
  refine r_icmp_geN 0 2 75 131 (hF.pu _ _ _ _) dJ10_addAll_2_72 (by omega) (by omega) (by decide) (fun c72 => absurd c72 (by decide)) rfl (fun c72 => ?_)
  refine r_aload 77 2 (hF.pu _ _ _ _) dJ10_addAll_2_75 rfl rfl ?_
  refine r_iload 79 0 (hF.pu _ _ _ _) dJ10_addAll_2_77 rfl rfl ?_
  refine f_aald 80 hF 0 (x := some (f 0)) (fun _ z => ⟨_, (z.a 0 rfl), rfl⟩) rfl rfl (by decide) (by decide) dJ10_addAll_2_79 rfl ?_
  refine r_astore 82 [(10, .ref (f 0)), (9, .int 0), (8, .int (nI 2)), (7, .ref a1_), (5, .null), (6, .null), (4, .int (nI 2)), (3, .ref a1_), (0, .ref a), (1, .int 0), (2, .ref c)] (hF.pu _ _ _ _) dJ10_addAll_2_80 (by decide) rfl rfl ?_
  refine r_aload 84 0 (hF.pu _ _ _ _) dJ10_addAll_2_82 rfl rfl ?_
  refine r_astore 86 [(11, .ref (f 0)), (10, .ref (f 0)), (9, .int 0), (8, .int (nI 2)), (7, .ref a1_), (5, .null), (6, .null), (4, .int (nI 2)), (3, .ref a1_), (0, .ref a), (1, .int 0), (2, .ref c)] (hF.pu _ _ _ _) dJ10_addAll_2_84 (by decide) rfl rfl ?_
  refine f_new 89 hF (ci := 14) [.null, .null, .null] okJ39 rfl q1723 q1724 q151 dvJ39 ⟨Nat.le_of_ble_eq_true rfl, Nat.le_of_ble_eq_true rfl⟩ dJ10_addAll_2_86 rfl (fun a2_ => ?_)
  refine r_dup 90 (hF.pu _ _ _ _) dJ10_addAll_2_89 rfl rfl ?_
  refine r_aloadN 92 5 (hF.pu _ _ _ _) dJ10_addAll_2_90 rfl rfl ?_
  refine r_aload 94 0 (hF.pu _ _ _ _) dJ10_addAll_2_92 rfl rfl ?_
  refine r_null 95 (hF.pu _ _ _ _) dJ10_addAll_2_94 rfl ?_
  refine f_callI 98 hF (fc_J39_init_nn (KS := KS) (Hb := Hb) D l a2_ 0 (f 0) 0) (wr := ([aC D 3 a1_ (qA 2 (va_up (va_up (fun _ => none) 0 (some (f 0))) 1 (some (f 1)))), oC a 13 [.int mc, .int 0, .null, .null]])) rfl (imk [] rfl) q1727 q151 q1725 q1726 rfl 3 yk_J39_init rfl ⟨by decide, by decide⟩ rfl (Nat.le_of_ble_eq_true rfl) dJ10_addAll_2_95 ⟨Nat.le_of_ble_eq_true rfl, Nat.le_of_ble_eq_true rfl⟩ rfl (fun r ws_ im' hp => ?_)
  obtain ⟨rfl, rfl, rfl⟩ := hp
  show F 2 5 ([oC a2_ 14 [.ref (f 0), .null, .null], aC D 3 a1_ (qA 2 (va_up (va_up (fun _ => none) 0 (some (f 0))) 1 (some (f 1)))), oC a 13 [.int mc, .int 0, .null, .null]]) ((oC c 13 [.int m, .int 2, .ref b, .ref d]) :: (oC b 14 [.ref (f 0), .ref d, .null]) :: (oC d 14 [.ref (f 1), .null, .ref b]) :: iv) 98 [.ref a2_] [(11, .ref (f 0)), (10, .ref (f 0)), (9, .int 0), (8, .int (nI 2)), (7, .ref a1_), (5, .null), (6, .null), (4, .int (nI 2)), (3, .ref a1_), (0, .ref a), (1, .int 0), (2, .ref c)]
  refine r_astore 100 [(12, .ref a2_), (11, .ref (f 0)), (10, .ref (f 0)), (9, .int 0), (8, .int (nI 2)), (7, .ref a1_), (5, .null), (6, .null), (4, .int (nI 2)), (3, .ref a1_), (0, .ref a), (1, .int 0), (2, .ref c)] (hF.pu _ _ _ _) dJ10_addAll_2_98 (by decide) rfl rfl ?_
  refine r_aloadN 102 6 (hF.pu _ _ _ _) dJ10_addAll_2_100 rfl rfl ?_
  refine r_ifnonnullN 105 (hF.pu _ _ _ _) dJ10_addAll_2_102 rfl ?_
  refine r_aload_n 106 10 (hF.pu _ _ _ _) dJ10_addAll_2_105 rfl rfl ?_
  refine r_aload 108 0 (hF.pu _ _ _ _) dJ10_addAll_2_106 rfl rfl ?_
  refine f_put 111 hF 2 (T := TJ10) (C := RJ10) ([oC a2_ 14 [.ref (f 0), .null, .null], aC D 3 a1_ (qA 2 (va_up (va_up (fun _ => none) 0 (some (f 0))) 1 (some (f 1)))), oC a 13 [.int mc, .int 0, .ref a2_, .null]]) okJ10 rfl rfl 2 (by decide) (Or.inl q294) (Or.inl rfl) rfl rfl rfl (Nat.le_of_ble_eq_true rfl) rfl dJ10_addAll_2_108 rfl ?_
  refine r_goto 121 (hF.pu _ _ _ _) dJ10_addAll_2_111 (by decide) ?_
  refine r_aload 123 0 (hF.pu _ _ _ _) dJ10_addAll_2_121 rfl rfl ?_
  refine r_astore 125 [(5, .ref a2_), (12, .ref a2_), (11, .ref (f 0)), (10, .ref (f 0)), (9, .int 0), (8, .int (nI 2)), (7, .ref a1_), (6, .null), (4, .int (nI 2)), (3, .ref a1_), (0, .ref a), (1, .int 0), (2, .ref c)] (hF.pu _ _ _ _) dJ10_addAll_2_123 (by decide) rfl rfl ?_
  refine r_iinc 128 (nI (0 + 1)) 4 [(9, .int (nI (0 + 1))), (5, .ref a2_), (12, .ref a2_), (11, .ref (f 0)), (10, .ref (f 0)), (8, .int (nI 2)), (7, .ref a1_), (6, .null), (4, .int (nI 2)), (3, .ref a1_), (0, .ref a), (1, .int 0), (2, .ref c)] (hF.pu _ _ _ _) dJ10_addAll_2_125 rfl (nI_1 0) (by decide) rfl rfl ?_
  refine r_goto 68 (hF.pu _ _ _ _) dJ10_addAll_2_128 (by decide) ?_
  refine r_iload 70 0 (hF.pu _ _ _ _) dJ10_addAll_2_68 rfl rfl ?_
  refine r_iload 72 5 (hF.pu _ _ _ _) dJ10_addAll_2_70 rfl rfl ?_
  refine r_icmp_geN 1 2 75 131 (hF.pu _ _ _ _) dJ10_addAll_2_72 (by omega) (by omega) (by decide) (fun c72 => absurd c72 (by decide)) rfl (fun c72 => ?_)
  refine r_aload 77 6 (hF.pu _ _ _ _) dJ10_addAll_2_75 rfl rfl ?_
  refine r_iload 79 0 (hF.pu _ _ _ _) dJ10_addAll_2_77 rfl rfl ?_
  refine f_aald 80 hF 1 (x := some (f 1)) (fun _ z => ⟨_, (z.a 1 rfl), rfl⟩) rfl rfl (by decide) (by decide) dJ10_addAll_2_79 rfl ?_
  refine r_astore 82 [(10, .ref (f 1)), (9, .int (nI (0 + 1))), (5, .ref a2_), (12, .ref a2_), (11, .ref (f 0)), (8, .int (nI 2)), (7, .ref a1_), (6, .null), (4, .int (nI 2)), (3, .ref a1_), (0, .ref a), (1, .int 0), (2, .ref c)] (hF.pu _ _ _ _) dJ10_addAll_2_80 (by decide) rfl rfl ?_
  refine r_aload 84 0 (hF.pu _ _ _ _) dJ10_addAll_2_82 rfl rfl ?_
  refine r_astore 86 [(11, .ref (f 1)), (10, .ref (f 1)), (9, .int (nI (0 + 1))), (5, .ref a2_), (12, .ref a2_), (8, .int (nI 2)), (7, .ref a1_), (6, .null), (4, .int (nI 2)), (3, .ref a1_), (0, .ref a), (1, .int 0), (2, .ref c)] (hF.pu _ _ _ _) dJ10_addAll_2_84 (by decide) rfl rfl ?_
  refine f_new 89 hF (ci := 14) [.null, .null, .null] okJ39 rfl q1723 q1724 q151 dvJ39 ⟨Nat.le_of_ble_eq_true rfl, Nat.le_of_ble_eq_true rfl⟩ dJ10_addAll_2_86 rfl (fun a3_ => ?_)
  refine r_dup 90 (hF.pu _ _ _ _) dJ10_addAll_2_89 rfl rfl ?_
  refine r_aload 92 3 (hF.pu _ _ _ _) dJ10_addAll_2_90 rfl rfl ?_
  refine r_aload 94 0 (hF.pu _ _ _ _) dJ10_addAll_2_92 rfl rfl ?_
  refine r_null 95 (hF.pu _ _ _ _) dJ10_addAll_2_94 rfl ?_
  refine f_callI 98 hF (fc_J39_init_rn (KS := KS) (Hb := Hb) D l a3_ a2_ (f 1) 0) (wr := ([oC a2_ 14 [.ref (f 0), .null, .null], aC D 3 a1_ (qA 2 (va_up (va_up (fun _ => none) 0 (some (f 0))) 1 (some (f 1)))), oC a 13 [.int mc, .int 0, .ref a2_, .null]])) rfl (imk [] rfl) q1727 q151 q1725 q1726 rfl 3 yk_J39_init rfl ⟨by decide, by decide⟩ rfl (Nat.le_of_ble_eq_true rfl) dJ10_addAll_2_95 ⟨Nat.le_of_ble_eq_true rfl, Nat.le_of_ble_eq_true rfl⟩ rfl (fun r ws_ im' hp => ?_)
  obtain ⟨rfl, rfl, rfl⟩ := hp
  show F 3 8 ([oC a3_ 14 [.ref (f 1), .null, .ref a2_], oC a2_ 14 [.ref (f 0), .null, .null], aC D 3 a1_ (qA 2 (va_up (va_up (fun _ => none) 0 (some (f 0))) 1 (some (f 1)))), oC a 13 [.int mc, .int 0, .ref a2_, .null]]) ((oC c 13 [.int m, .int 2, .ref b, .ref d]) :: (oC b 14 [.ref (f 0), .ref d, .null]) :: (oC d 14 [.ref (f 1), .null, .ref b]) :: iv) 98 [.ref a3_] [(11, .ref (f 1)), (10, .ref (f 1)), (9, .int (nI (0 + 1))), (5, .ref a2_), (12, .ref a2_), (8, .int (nI 2)), (7, .ref a1_), (6, .null), (4, .int (nI 2)), (3, .ref a1_), (0, .ref a), (1, .int 0), (2, .ref c)]
  refine r_astore 100 [(12, .ref a3_), (11, .ref (f 1)), (10, .ref (f 1)), (9, .int (nI (0 + 1))), (5, .ref a2_), (8, .int (nI 2)), (7, .ref a1_), (6, .null), (4, .int (nI 2)), (3, .ref a1_), (0, .ref a), (1, .int 0), (2, .ref c)] (hF.pu _ _ _ _) dJ10_addAll_2_98 (by decide) rfl rfl ?_
  refine r_aload 102 4 (hF.pu _ _ _ _) dJ10_addAll_2_100 rfl rfl ?_
  refine r_ifnonnull 114 (hF.pu _ _ _ _) dJ10_addAll_2_102 (by decide) ?_
  refine r_aload 116 4 (hF.pu _ _ _ _) dJ10_addAll_2_114 rfl rfl ?_
  refine r_aload 118 0 (hF.pu _ _ _ _) dJ10_addAll_2_116 rfl rfl ?_
  refine f_put 121 hF 1 (T := TJ39) (C := RJ39) ([oC a3_ 14 [.ref (f 1), .null, .ref a2_], oC a2_ 14 [.ref (f 0), .ref a3_, .null], aC D 3 a1_ (qA 2 (va_up (va_up (fun _ => none) 0 (some (f 0))) 1 (some (f 1)))), oC a 13 [.int mc, .int 0, .ref a2_, .null]]) okJ39 rfl rfl 1 (by decide) (Or.inl q1734) (Or.inl rfl) rfl rfl rfl (Nat.le_of_ble_eq_true rfl) rfl dJ10_addAll_2_118 rfl ?_
  refine r_aload 123 0 (hF.pu _ _ _ _) dJ10_addAll_2_121 rfl rfl ?_
  refine r_astore 125 [(5, .ref a3_), (12, .ref a3_), (11, .ref (f 1)), (10, .ref (f 1)), (9, .int (nI (0 + 1))), (8, .int (nI 2)), (7, .ref a1_), (6, .null), (4, .int (nI 2)), (3, .ref a1_), (0, .ref a), (1, .int 0), (2, .ref c)] (hF.pu _ _ _ _) dJ10_addAll_2_123 (by decide) rfl rfl ?_
  refine r_iinc 128 (nI (1 + 1)) 4 [(9, .int (nI (1 + 1))), (5, .ref a3_), (12, .ref a3_), (11, .ref (f 1)), (10, .ref (f 1)), (8, .int (nI 2)), (7, .ref a1_), (6, .null), (4, .int (nI 2)), (3, .ref a1_), (0, .ref a), (1, .int 0), (2, .ref c)] (hF.pu _ _ _ _) dJ10_addAll_2_125 rfl (nI_1 1) (by decide) rfl rfl ?_
  refine r_goto 68 (hF.pu _ _ _ _) dJ10_addAll_2_128 (by decide) ?_
  refine r_iload 70 0 (hF.pu _ _ _ _) dJ10_addAll_2_68 rfl rfl ?_
  refine r_iload 72 5 (hF.pu _ _ _ _) dJ10_addAll_2_70 rfl rfl ?_
  refine r_icmp_geN 2 2 75 131 (hF.pu _ _ _ _) dJ10_addAll_2_72 (by omega) (by omega) (by decide) (fun c72 => ?_) rfl (fun c72 => absurd c72 (by decide))
  refine r_aloadN 133 7 (hF.pu _ _ _ _) dJ10_addAll_2_131 rfl rfl ?_
  refine r_ifnonnullN 136 (hF.pu _ _ _ _) dJ10_addAll_2_133 rfl ?_
  refine r_aload_n 137 10 (hF.pu _ _ _ _) dJ10_addAll_2_136 rfl rfl ?_
  refine r_aload 139 1 (hF.pu _ _ _ _) dJ10_addAll_2_137 rfl rfl ?_
  refine f_put 142 hF 3 (T := TJ10) (C := RJ10) ([oC a3_ 14 [.ref (f 1), .null, .ref a2_], oC a2_ 14 [.ref (f 0), .ref a3_, .null], aC D 3 a1_ (qA 2 (va_up (va_up (fun _ => none) 0 (some (f 0))) 1 (some (f 1)))), oC a 13 [.int mc, .int 0, .ref a2_, .ref a3_]]) okJ10 rfl rfl 3 (by decide) (Or.inl q295) (Or.inl rfl) rfl rfl rfl (Nat.le_of_ble_eq_true rfl) rfl dJ10_addAll_2_139 rfl ?_
  refine r_goto 159 (hF.pu _ _ _ _) dJ10_addAll_2_142 (by decide) ?_
  refine r_aload_n 160 10 (hF.pu _ _ _ _) dJ10_addAll_2_159 rfl rfl ?_
  refine r_dup 161 (hF.pu _ _ _ _) dJ10_addAll_2_160 rfl rfl ?_
  refine f_getf 164 hF (T := TJ10) (C := RJ10) 1 (v := .int 0) okJ10 (fun _ z => ((z.o 3 rfl).fld 1 rfl)) rfl (by decide) (Or.inl q292) (Or.inl rfl) dJ10_addAll_2_161 rfl ?_
  refine r_iload 166 8 (hF.pu _ _ _ _) dJ10_addAll_2_164 rfl rfl ?_
  refine r_iaddN 0 2 2 167 (hF.pu _ _ _ _) dJ10_addAll_2_166 (by omega) rfl ?_
  refine f_put 170 hF 3 (T := TJ10) (C := RJ10) ([oC a3_ 14 [.ref (f 1), .null, .ref a2_], oC a2_ 14 [.ref (f 0), .ref a3_, .null], aC D 3 a1_ (qA 2 (va_up (va_up (fun _ => none) 0 (some (f 0))) 1 (some (f 1)))), oC a 13 [.int mc, .int (nI 2), .ref a2_, .ref a3_]]) okJ10 rfl rfl 1 (by decide) (Or.inl q292) (Or.inl rfl) rfl rfl rfl (Nat.le_of_ble_eq_true rfl) rfl dJ10_addAll_2_167 rfl ?_
  refine r_aload_n 171 10 (hF.pu _ _ _ _) dJ10_addAll_2_170 rfl rfl ?_
  refine r_dup 172 (hF.pu _ _ _ _) dJ10_addAll_2_171 rfl rfl ?_
  refine f_getf 175 hF (T := TJ10) (C := RJ10) 0 (v := .int mc) okJ10 (fun _ z => ((z.o 3 rfl).fld 0 rfl)) rfl (by decide) (Or.inl q271) (Or.inr q260) dJ10_addAll_2_172 rfl ?_
  refine r_iconst 176 1 (hF.pu _ _ _ _) dJ10_addAll_2_175 (by decide) rfl ?_
  refine r_iadd 177 (hF.pu _ _ _ _) dJ10_addAll_2_176 rfl ?_
  refine f_put 180 hF 3 (T := TJ10) (C := RJ10) ([oC a3_ 14 [.ref (f 1), .null, .ref a2_], oC a2_ 14 [.ref (f 0), .ref a3_, .null], aC D 3 a1_ (qA 2 (va_up (va_up (fun _ => none) 0 (some (f 0))) 1 (some (f 1)))), oC a 13 [.int (mc + 1), .int (nI 2), .ref a2_, .ref a3_]]) okJ10 rfl rfl 0 (by decide) (Or.inl q271) (Or.inr q260) rfl rfl rfl (Nat.le_of_ble_eq_true rfl) rfl dJ10_addAll_2_177 rfl ?_
  refine r_iconst 181 1 (hF.pu _ _ _ _) dJ10_addAll_2_180 (by decide) rfl ?_
  refine f_kp hF [true, true, false] ([oC a3_ 14 [.ref (f 1), .null, .ref a2_], oC a2_ 14 [.ref (f 0), .ref a3_, .null], oC a 13 [.int (mc + 1), .int (nI 2), .ref a2_, .ref a3_]]) rfl ?_
  refine f_ups hF [1] ([oC a2_ 14 [.ref (f 0), .ref a3_, .null], oC a3_ 14 [.ref (f 1), .null, .ref a2_], oC a 13 [.int (mc + 1), .int (nI 2), .ref a2_, .ref a3_]]) rfl ?_
  refine f_ups hF [2] ([oC a 13 [.int (mc + 1), .int (nI 2), .ref a2_, .ref a3_], oC a2_ 14 [.ref (f 0), .ref a3_, .null], oC a3_ 14 [.ref (f 1), .null, .ref a2_]]) rfl ?_
  refine f_imsub hF [] (imk [] rfl) ?_
  exact FR.i hR rfl dJ10_addAll_2_181 (Nat.le_of_ble_eq_true rfl) (Nat.le_of_ble_eq_true rfl) ⟨_, _, rfl, rfl, rfl⟩
set_option maxHeartbeats 4000000 in
theorem fc_J10_addAll_2 (D : DD) (l : Launch) {KS : Nat → Prop} {Hb : Heap} (a c b d : Nat) (mc m : Int32) (f : Nat → Nat) (iv : va_W) (hel : ∀ H, (∀ q ∈ iv, va_at D.1 aCl q H) → ∀ i, i < 2 → anyK D "java/lang/Object" (f i) H) : Fc D l yJ10_addAll cJ10_addAll 2 (some .boolean) 3 3 8 75 KS Hb [.ref a, .ref c] ([oC a 13 [.int mc, .int 0, .null, .null]]) ((oC c 13 [.int m, .int 2, .ref b, .ref d]) :: (oC b 14 [.ref (f 0), .ref d, .null]) :: (oC d 14 [.ref (f 1), .null, .ref b]) :: iv) (fun r w i => ∃ x y, r = some (.int 1) ∧ w = [oC a 13 [.int (mc + 1), .int 2, .ref x, .ref y], oC x 14 [.ref (f 0), .ref y, .null], oC y 14 [.ref (f 1), .null, .ref x]] ∧ i = []) := by
  refine Fc.of (by decide) (Nat.le_of_ble_eq_true rfl) (fun s F hF hR => ?_)
  show F 0 0 ([oC a 13 [.int mc, .int 0, .null, .null]]) ((oC c 13 [.int m, .int 2, .ref b, .ref d]) :: (oC b 14 [.ref (f 0), .ref d, .null]) :: (oC d 14 [.ref (f 1), .null, .ref b]) :: iv) 0 [] [(0, .ref a), (1, .ref c)]
  refine r_aload_n 1 0 (hF.pu _ _ _ _) dJ10_addAll_0 rfl rfl ?_
  refine r_aload_n 2 0 (hF.pu _ _ _ _) dJ10_addAll_1 rfl rfl ?_
  refine f_getf 5 hF (T := TJ10) (C := RJ10) 1 (v := .int 0) okJ10 (fun _ z => ((z.o 0 rfl).fld 1 rfl)) rfl (by decide) (Or.inl q292) (Or.inl rfl) dJ10_addAll_2 rfl ?_
  refine r_aload_n 6 1 (hF.pu _ _ _ _) dJ10_addAll_5 rfl rfl ?_
  refine f_callV 9 hF (fc_J10_addAll_2_2 (KS := KS) (Hb := Hb) D l a c b d mc m f iv hel) (wr := ([])) rfl (fun _ h => h) lk_J10_73 2 yk_J10_addAll_2 rfl ⟨by decide, by decide⟩ (fun _ z => ((z.o 0 rfl).fld 0 rfl)) rfl rfl (Nat.le_of_ble_eq_true rfl) dJ10_addAll_6 ⟨Nat.le_of_ble_eq_true rfl, Nat.le_of_ble_eq_true rfl⟩ rfl (fun r ws_ im' hp => ?_)
  obtain ⟨a1_, a2_, rfl, rfl, rfl⟩ := hp
  show F 3 8 ([oC a 13 [.int (mc + 1), .int 2, .ref a1_, .ref a2_], oC a1_ 14 [.ref (f 0), .ref a2_, .null], oC a2_ 14 [.ref (f 1), .null, .ref a1_]]) ((oC c 13 [.int m, .int 2, .ref b, .ref d]) :: (oC b 14 [.ref (f 0), .ref d, .null]) :: (oC d 14 [.ref (f 1), .null, .ref b]) :: iv) 9 [.int 1] [(0, .ref a), (1, .ref c)]
  refine f_imsub hF [] (imk [] rfl) ?_
  exact FR.i hR rfl dJ10_addAll_9 (Nat.le_of_ble_eq_true rfl) (Nat.le_of_ble_eq_true rfl) ⟨_, _, rfl, rfl, rfl⟩
theorem dvX4 : ∀ j, j < 2 → defaultValue (tyX4 j) = vp_V [.int 0, .int 0] j := by
  intro j hj
  rcases (show j = 0 ∨ j = 1 by omega) with rfl | rfl <;> rfl
theorem yk_X4_init : yOk yX4_init 2 := by decide +kernel
theorem lk_X3_14 : GoodIn lw_all (va_wsS RX3 14 yJ0_of (ws_ yJ0_of cJ0_of 1 (Option.some (ClassFile.FieldType.object "java/util/List")))) := lw_S q210 q211 q106 q212
theorem yk_J0_of : yOk yJ0_of 1 := by decide +kernel
theorem dvJ8 : ∀ j, j < 3 → defaultValue (tyJ8 j) = vp_V [.int 0, .null, .int 0] j := by
  intro j hj
  rcases (show j = 0 ∨ j = 1 ∨ j = 2 by omega) with rfl | rfl | rfl <;> rfl
theorem yk_J8_init : yOk yJ8_init 0 := by decide +kernel
theorem dvJ10 : ∀ j, j < 4 → defaultValue (tyJ10 j) = vp_V [.int 0, .int 0, .null, .null] j := by
  intro j hj
  rcases (show j = 0 ∨ j = 1 ∨ j = 2 ∨ j = 3 by omega) with rfl | rfl | rfl | rfl <;> rfl
theorem yk_J10_init : yOk yJ10_init 0 := by decide +kernel
set_option maxHeartbeats 4000000 in
theorem fc_X3_init (D : DD) (l : Launch) {KS : Nat → Prop} {Hb : Heap} (a : Nat) : Fc D l yX3_init cX3_init 1 none 6 6 16 121 KS Hb [.ref a] ([oC a 3 [.null, .null, .null, .null, .null]]) ([]) (fun r w i => ∃ b x a2 a3 a4 a6, r = none ∧ w = [oC a 3 [.ref b, .ref a2, .ref a3, .ref a4, .ref a6], aC D 0 a2 (iA 3 (fun _ => 0)), aC D 0 a3 (iA 2 (fun _ => 0)), oC a4 12 [.int 0, .ref (D.2.2.1 1), .int 0], oC a6 13 [.int 0, .int 0, .null, .null], oC b 18 [.ref x, .ref (D.2.2.1 0)], oC x 4 [.int 0, .int 0]] ∧ i = []) := by
  refine Fc.of (by decide) (Nat.le_of_ble_eq_true rfl) (fun s F hF hR => ?_)
  show F 0 0 ([oC a 3 [.null, .null, .null, .null, .null]]) ([]) 0 [] [(0, .ref a)]
  refine r_aload_n 1 0 (hF.pu _ _ _ _) dX3_init_0 rfl rfl ?_
  refine f_objInit 4 hF q192 q179 q180 ⟨by decide, by decide⟩ dX3_init_1 rfl ?_
  refine r_aload_n 5 0 (hF.pu _ _ _ _) dX3_init_4 rfl rfl ?_
  refine f_new 8 hF (ci := 4) [.int 0, .int 0] okX4 rfl q193 q194 q105 dvX4 ⟨Nat.le_of_ble_eq_true rfl, Nat.le_of_ble_eq_true rfl⟩ dX3_init_5 rfl (fun a1_ => ?_)
  refine r_dup 9 (hF.pu _ _ _ _) dX3_init_8 rfl rfl ?_
  refine r_iconst 10 0 (hF.pu _ _ _ _) dX3_init_9 (by decide) rfl ?_
  refine r_iconst 11 0 (hF.pu _ _ _ _) dX3_init_10 (by decide) rfl ?_
  refine f_callI 14 hF (fc_X4_init (KS := KS) (Hb := Hb) D l a1_ 0 0) (wr := ([oC a 3 [.null, .null, .null, .null, .null]])) rfl (imk [] rfl) q197 q105 q195 q196 rfl 2 yk_X4_init rfl ⟨by decide, by decide⟩ rfl (Nat.le_of_ble_eq_true rfl) dX3_init_11 ⟨Nat.le_of_ble_eq_true rfl, Nat.le_of_ble_eq_true rfl⟩ rfl (fun r ws_ im' hp => ?_)
  obtain ⟨rfl, rfl, rfl⟩ := hp
  show F 1 2 ([oC a1_ 4 [.int 0, .int 0], oC a 3 [.null, .null, .null, .null, .null]]) ([]) 14 [.ref a1_, .ref a] [(0, .ref a)]
  refine f_callS 17 hF (fc_J0_of (KS := KS) (Hb := Hb) D l a1_) (wr := ([oC a1_ 4 [.int 0, .int 0], oC a 3 [.null, .null, .null, .null, .null]])) rfl (imk [] rfl) lk_X3_14 1 yk_J0_of rfl ⟨by decide, by decide⟩ rfl (Nat.le_of_ble_eq_true rfl) dX3_init_14 ⟨Nat.le_of_ble_eq_true rfl, Nat.le_of_ble_eq_true rfl⟩ rfl (fun r ws_ im' hp => ?_)
  obtain ⟨a2_, rfl, rfl, rfl⟩ := hp
  show F 2 4 ([oC a2_ 18 [.ref a1_, .ref (D.2.2.1 0)], oC a1_ 4 [.int 0, .int 0], oC a 3 [.null, .null, .null, .null, .null]]) ([]) 17 [.ref a2_, .ref a] [(0, .ref a)]
  refine f_put 20 hF 2 (T := TX3) (C := RX3) ([oC a2_ 18 [.ref a1_, .ref (D.2.2.1 0)], oC a1_ 4 [.int 0, .int 0], oC a 3 [.ref a2_, .null, .null, .null, .null]]) okX3 rfl rfl 0 (by decide) (Or.inl q305) (Or.inl rfl) rfl rfl rfl (Nat.le_of_ble_eq_true rfl) rfl dX3_init_17 rfl ?_
  refine r_aload_n 21 0 (hF.pu _ _ _ _) dX3_init_20 rfl rfl ?_
  refine r_iconst 22 3 (hF.pu _ _ _ _) dX3_init_21 (by decide) rfl ?_
  refine f_newi 24 hF q282 rfl (by decide) ⟨Nat.le_of_ble_eq_true rfl, Nat.le_of_ble_eq_true rfl⟩ dX3_init_22 rfl (fun a3_ => ?_)
  refine f_putF 27 hF 3 (T := TX3) (C := RX3) ([aC D 0 a3_ (iA 3 (fun _ => 0)), oC a2_ 18 [.ref a1_, .ref (D.2.2.1 0)], oC a1_ 4 [.int 0, .int 0], oC a 3 [.ref a2_, .ref a3_, .null, .null, .null]]) okX3 rfl rfl 1 (by decide) q308 rfl rfl rfl rfl rfl (Nat.le_of_ble_eq_true rfl) rfl dX3_init_24 rfl ?_
  refine r_aload_n 28 0 (hF.pu _ _ _ _) dX3_init_27 rfl rfl ?_
  refine r_iconst 29 2 (hF.pu _ _ _ _) dX3_init_28 (by decide) rfl ?_
  refine f_newi 31 hF q282 rfl (by decide) ⟨Nat.le_of_ble_eq_true rfl, Nat.le_of_ble_eq_true rfl⟩ dX3_init_29 rfl (fun a4_ => ?_)
  refine f_putF 34 hF 4 (T := TX3) (C := RX3) ([aC D 0 a4_ (iA 2 (fun _ => 0)), aC D 0 a3_ (iA 3 (fun _ => 0)), oC a2_ 18 [.ref a1_, .ref (D.2.2.1 0)], oC a1_ 4 [.int 0, .int 0], oC a 3 [.ref a2_, .ref a3_, .ref a4_, .null, .null]]) okX3 rfl rfl 2 (by decide) q311 rfl rfl rfl rfl rfl (Nat.le_of_ble_eq_true rfl) rfl dX3_init_31 rfl ?_
  refine r_aload_n 35 0 (hF.pu _ _ _ _) dX3_init_34 rfl rfl ?_
  refine f_new 38 hF (ci := 12) [.int 0, .null, .int 0] okJ8 rfl q240 q241 q114 dvJ8 ⟨Nat.le_of_ble_eq_true rfl, Nat.le_of_ble_eq_true rfl⟩ dX3_init_35 rfl (fun a5_ => ?_)
  refine r_dup 39 (hF.pu _ _ _ _) dX3_init_38 rfl rfl ?_
  refine f_callI 42 hF (fc_J8_init_J8 (KS := KS) (Hb := Hb) D l a5_) (wr := ([aC D 0 a4_ (iA 2 (fun _ => 0)), aC D 0 a3_ (iA 3 (fun _ => 0)), oC a2_ 18 [.ref a1_, .ref (D.2.2.1 0)], oC a1_ 4 [.int 0, .int 0], oC a 3 [.ref a2_, .ref a3_, .ref a4_, .null, .null]])) rfl (imk [] rfl) q244 q114 q242 q243 rfl 0 yk_J8_init rfl ⟨by decide, by decide⟩ rfl (Nat.le_of_ble_eq_true rfl) dX3_init_39 ⟨Nat.le_of_ble_eq_true rfl, Nat.le_of_ble_eq_true rfl⟩ rfl (fun r ws_ im' hp => ?_)
  obtain ⟨rfl, rfl, rfl⟩ := hp
  show F 5 12 ([oC a5_ 12 [.int 0, .ref (D.2.2.1 1), .int 0], aC D 0 a4_ (iA 2 (fun _ => 0)), aC D 0 a3_ (iA 3 (fun _ => 0)), oC a2_ 18 [.ref a1_, .ref (D.2.2.1 0)], oC a1_ 4 [.int 0, .int 0], oC a 3 [.ref a2_, .ref a3_, .ref a4_, .null, .null]]) ([]) 42 [.ref a5_, .ref a] [(0, .ref a)]
  refine f_putF 45 hF 5 (T := TX3) (C := RX3) ([oC a5_ 12 [.int 0, .ref (D.2.2.1 1), .int 0], aC D 0 a4_ (iA 2 (fun _ => 0)), aC D 0 a3_ (iA 3 (fun _ => 0)), oC a2_ 18 [.ref a1_, .ref (D.2.2.1 0)], oC a1_ 4 [.int 0, .int 0], oC a 3 [.ref a2_, .ref a3_, .ref a4_, .ref a5_, .null]]) okX3 rfl rfl 3 (by decide) q314 rfl rfl rfl rfl rfl (Nat.le_of_ble_eq_true rfl) rfl dX3_init_42 rfl ?_
  refine r_aload_n 46 0 (hF.pu _ _ _ _) dX3_init_45 rfl rfl ?_
  refine f_new 49 hF (ci := 13) [.int 0, .int 0, .null, .null] okJ10 rfl q283 q284 q116 dvJ10 ⟨Nat.le_of_ble_eq_true rfl, Nat.le_of_ble_eq_true rfl⟩ dX3_init_46 rfl (fun a6_ => ?_)
  refine r_dup 50 (hF.pu _ _ _ _) dX3_init_49 rfl rfl ?_
  refine f_callI 53 hF (fc_J10_init_J10 (KS := KS) (Hb := Hb) D l a6_) (wr := ([oC a5_ 12 [.int 0, .ref (D.2.2.1 1), .int 0], aC D 0 a4_ (iA 2 (fun _ => 0)), aC D 0 a3_ (iA 3 (fun _ => 0)), oC a2_ 18 [.ref a1_, .ref (D.2.2.1 0)], oC a1_ 4 [.int 0, .int 0], oC a 3 [.ref a2_, .ref a3_, .ref a4_, .ref a5_, .null]])) rfl (imk [] rfl) q287 q116 q285 q286 rfl 0 yk_J10_init rfl ⟨by decide, by decide⟩ rfl (Nat.le_of_ble_eq_true rfl) dX3_init_50 ⟨Nat.le_of_ble_eq_true rfl, Nat.le_of_ble_eq_true rfl⟩ rfl (fun r ws_ im' hp => ?_)
  obtain ⟨rfl, rfl, rfl⟩ := hp
  show F 6 16 ([oC a6_ 13 [.int 0, .int 0, .null, .null], oC a5_ 12 [.int 0, .ref (D.2.2.1 1), .int 0], aC D 0 a4_ (iA 2 (fun _ => 0)), aC D 0 a3_ (iA 3 (fun _ => 0)), oC a2_ 18 [.ref a1_, .ref (D.2.2.1 0)], oC a1_ 4 [.int 0, .int 0], oC a 3 [.ref a2_, .ref a3_, .ref a4_, .ref a5_, .null]]) ([]) 53 [.ref a6_, .ref a] [(0, .ref a)]
  refine f_putF 56 hF 6 (T := TX3) (C := RX3) ([oC a6_ 13 [.int 0, .int 0, .null, .null], oC a5_ 12 [.int 0, .ref (D.2.2.1 1), .int 0], aC D 0 a4_ (iA 2 (fun _ => 0)), aC D 0 a3_ (iA 3 (fun _ => 0)), oC a2_ 18 [.ref a1_, .ref (D.2.2.1 0)], oC a1_ 4 [.int 0, .int 0], oC a 3 [.ref a2_, .ref a3_, .ref a4_, .ref a5_, .ref a6_]]) okX3 rfl rfl 4 (by decide) q317 rfl rfl rfl rfl rfl (Nat.le_of_ble_eq_true rfl) rfl dX3_init_53 rfl ?_
  refine f_ups hF [5] ([oC a1_ 4 [.int 0, .int 0], oC a6_ 13 [.int 0, .int 0, .null, .null], oC a5_ 12 [.int 0, .ref (D.2.2.1 1), .int 0], aC D 0 a4_ (iA 2 (fun _ => 0)), aC D 0 a3_ (iA 3 (fun _ => 0)), oC a2_ 18 [.ref a1_, .ref (D.2.2.1 0)], oC a 3 [.ref a2_, .ref a3_, .ref a4_, .ref a5_, .ref a6_]]) rfl ?_
  refine f_ups hF [5] ([oC a2_ 18 [.ref a1_, .ref (D.2.2.1 0)], oC a1_ 4 [.int 0, .int 0], oC a6_ 13 [.int 0, .int 0, .null, .null], oC a5_ 12 [.int 0, .ref (D.2.2.1 1), .int 0], aC D 0 a4_ (iA 2 (fun _ => 0)), aC D 0 a3_ (iA 3 (fun _ => 0)), oC a 3 [.ref a2_, .ref a3_, .ref a4_, .ref a5_, .ref a6_]]) rfl ?_
  refine f_ups hF [2] ([oC a6_ 13 [.int 0, .int 0, .null, .null], oC a2_ 18 [.ref a1_, .ref (D.2.2.1 0)], oC a1_ 4 [.int 0, .int 0], oC a5_ 12 [.int 0, .ref (D.2.2.1 1), .int 0], aC D 0 a4_ (iA 2 (fun _ => 0)), aC D 0 a3_ (iA 3 (fun _ => 0)), oC a 3 [.ref a2_, .ref a3_, .ref a4_, .ref a5_, .ref a6_]]) rfl ?_
  refine f_ups hF [3] ([oC a5_ 12 [.int 0, .ref (D.2.2.1 1), .int 0], oC a6_ 13 [.int 0, .int 0, .null, .null], oC a2_ 18 [.ref a1_, .ref (D.2.2.1 0)], oC a1_ 4 [.int 0, .int 0], aC D 0 a4_ (iA 2 (fun _ => 0)), aC D 0 a3_ (iA 3 (fun _ => 0)), oC a 3 [.ref a2_, .ref a3_, .ref a4_, .ref a5_, .ref a6_]]) rfl ?_
  refine f_ups hF [4] ([aC D 0 a4_ (iA 2 (fun _ => 0)), oC a5_ 12 [.int 0, .ref (D.2.2.1 1), .int 0], oC a6_ 13 [.int 0, .int 0, .null, .null], oC a2_ 18 [.ref a1_, .ref (D.2.2.1 0)], oC a1_ 4 [.int 0, .int 0], aC D 0 a3_ (iA 3 (fun _ => 0)), oC a 3 [.ref a2_, .ref a3_, .ref a4_, .ref a5_, .ref a6_]]) rfl ?_
  refine f_ups hF [5] ([aC D 0 a3_ (iA 3 (fun _ => 0)), aC D 0 a4_ (iA 2 (fun _ => 0)), oC a5_ 12 [.int 0, .ref (D.2.2.1 1), .int 0], oC a6_ 13 [.int 0, .int 0, .null, .null], oC a2_ 18 [.ref a1_, .ref (D.2.2.1 0)], oC a1_ 4 [.int 0, .int 0], oC a 3 [.ref a2_, .ref a3_, .ref a4_, .ref a5_, .ref a6_]]) rfl ?_
  refine f_ups hF [6] ([oC a 3 [.ref a2_, .ref a3_, .ref a4_, .ref a5_, .ref a6_], aC D 0 a3_ (iA 3 (fun _ => 0)), aC D 0 a4_ (iA 2 (fun _ => 0)), oC a5_ 12 [.int 0, .ref (D.2.2.1 1), .int 0], oC a6_ 13 [.int 0, .int 0, .null, .null], oC a2_ 18 [.ref a1_, .ref (D.2.2.1 0)], oC a1_ 4 [.int 0, .int 0]]) rfl ?_
  exact FR.v hR dX3_init_56 (Nat.le_of_ble_eq_true rfl) (Nat.le_of_ble_eq_true rfl) ⟨_, _, _, _, _, _, rfl, rfl, rfl⟩
/-- the cells of rules: the object at a, its brackets' list at rb, charges f4, credits f6 -/
def ruS (D : DD) (a : Nat) (g : Nat → Int32) (rb nch : Nat) (f4 : Nat → Nat) (ncr : Nat) (f6 : Nat → Nat) (W : va_W) : Prop := ∃ r2 r3 r4 r6 al mi s4 s6, W = oC a 3 [.ref rb, .ref r2, .ref r3, .ref r4, .ref r6] :: aC D 0 r2 (iA 3 al) :: aC D 0 r3 (iA 2 mi) :: (s4 ++ s6) ∧ chS D r4 nch f4 s4 ∧ lkS r6 ncr f6 s6 ∧ (∀ j, j < 3 → al j = g (13 + j)) ∧ ∀ j, j < 2 → mi j = g (16 + j)
theorem dvX3 : ∀ j, j < 5 → defaultValue (tyX3 j) = vp_V [.null, .null, .null, .null, .null] j := by
  intro j hj
  rcases (show j = 0 ∨ j = 1 ∨ j = 2 ∨ j = 3 ∨ j = 4 by omega) with rfl | rfl | rfl | rfl | rfl <;> rfl
theorem yk_X3_init : yOk yX3_init 0 := by decide +kernel
theorem lk_X3_54 : GoodIn lw_all (wsV RX3 54 yJ8_addAll.cls yJ8_addAll (ws_ yJ8_addAll cJ8_addAll 6 (some .boolean))) := lw_V q608 q609 q610 q114 q611
theorem yk_J8_addAll : yOk yJ8_addAll 1 := by decide +kernel
theorem lk_X3_58 : GoodIn lw_all (wsV RX3 58 yJ10_addAll.cls yJ10_addAll (ws_ yJ10_addAll cJ10_addAll 2 (some .boolean))) := lw_V q1713 q1714 q1715 q116 q1716
theorem yk_J10_addAll : yOk yJ10_addAll 1 := by decide +kernel
set_option maxHeartbeats 8000000 in
theorem fc_X3_copy (D : DD) (l : Launch) {KS : Nat → Prop} {Hb : Heap} (r rb r2 r3 r4 r6 nch ncr : Nat) (al mi : Nat → Int32) (g : Nat → Int32) (f4 f6 : Nat → Nat) (s4 s6 iv : va_W) (h4 : chS D r4 nch f4 s4) (h6 : lkS r6 ncr f6 s6) (hal : ∀ j, j < 3 → al j = g (13 + j)) (hmi : ∀ j, j < 2 → mi j = g (16 + j)) (he4 : ∀ H, (∀ q ∈ iv, va_at D.1 aCl q H) → ∀ i, i < nch → anyK D "java/lang/Object" (f4 i) H) (he6 : ∀ H, (∀ q ∈ iv, va_at D.1 aCl q H) → ∀ i, i < ncr → anyK D "java/lang/Object" (f6 i) H) : Fc D l yX3_copy cX3_copy 2 (Option.some (ClassFile.FieldType.object "TaxWorkbench$Rules")) 7 12 49 141 KS Hb [.ref r] [] (oC r 3 [.ref rb, .ref r2, .ref r3, .ref r4, .ref r6] :: aC D 0 r2 (iA 3 al) :: aC D 0 r3 (iA 2 mi) :: (s4 ++ (s6 ++ iv))) (fun r' w i => ∃ a, r' = some (.ref a) ∧ i = [] ∧ ruS D a g rb nch f4 ncr f6 w) := by
  refine Fc.of (by decide) (Nat.le_of_ble_eq_true rfl) (fun s F hF hR => ?_)
  obtain ⟨m4, ⟨rfl, rfl⟩ | ⟨h41, h42, e4, g4, rfl, h43⟩⟩ := h4 <;> obtain ⟨m6, ⟨rfl, rfl⟩ | ⟨rfl, b6, rfl⟩ | ⟨rfl, b6, c6, rfl⟩⟩ := h6
  · show F 0 0 ([]) ((oC r 3 [.ref rb, .ref r2, .ref r3, .ref r4, .ref r6]) :: (aC D 0 r2 (iA 3 al)) :: (aC D 0 r3 (iA 2 mi)) :: (oC r4 12 [.int m4, .ref (D.2.2.1 1), .int 0]) :: (oC r6 13 [.int m6, .int 0, .null, .null]) :: iv) 0 [] [(0, .ref r)]
    refine f_new 3 hF (ci := 3) [.null, .null, .null, .null, .null] okX3 rfl q605 q188 q104 dvX3 ⟨Nat.le_of_ble_eq_true rfl, Nat.le_of_ble_eq_true rfl⟩ dX3_copy_0 rfl (fun a1_ => ?_)
    refine r_dup 4 (hF.pu _ _ _ _) dX3_copy_3 rfl rfl ?_
    refine f_callI 7 hF (fc_X3_init (KS := KS) (Hb := Hb) D l a1_) (wr := ([])) rfl (imk [] rfl) q191 q104 q606 q190 rfl 0 yk_X3_init rfl ⟨by decide, by decide⟩ rfl (Nat.le_of_ble_eq_true rfl) dX3_copy_4 ⟨Nat.le_of_ble_eq_true rfl, Nat.le_of_ble_eq_true rfl⟩ rfl (fun r ws_ im' hp => ?_)
    obtain ⟨a2_, a3_, a4_, a5_, a6_, a7_, rfl, rfl, rfl⟩ := hp
    show F 7 21 ([oC a1_ 3 [.ref a2_, .ref a4_, .ref a5_, .ref a6_, .ref a7_], aC D 0 a4_ (iA 3 (fun _ => 0)), aC D 0 a5_ (iA 2 (fun _ => 0)), oC a6_ 12 [.int 0, .ref (D.2.2.1 1), .int 0], oC a7_ 13 [.int 0, .int 0, .null, .null], oC a2_ 18 [.ref a3_, .ref (D.2.2.1 0)], oC a3_ 4 [.int 0, .int 0]]) ((oC r 3 [.ref rb, .ref r2, .ref r3, .ref r4, .ref r6]) :: (aC D 0 r2 (iA 3 al)) :: (aC D 0 r3 (iA 2 mi)) :: (oC r4 12 [.int m4, .ref (D.2.2.1 1), .int 0]) :: (oC r6 13 [.int m6, .int 0, .null, .null]) :: iv) 7 [.ref a1_] [(0, .ref r)]
    refine r_astore_n 8 [(1, .ref a1_), (0, .ref r)] (hF.pu _ _ _ _) dX3_copy_7 rfl (by decide) rfl rfl ?_
    refine r_aload_n 9 0 (hF.pu _ _ _ _) dX3_copy_8 rfl rfl ?_
    refine r_aload_n 10 1 (hF.pu _ _ _ _) dX3_copy_9 rfl rfl ?_
    refine f_getf 13 hF (T := TX3) (C := RX3) 0 (v := .ref rb) okX3 (fun _ z => ((z.mo 0 rfl).fld 0 rfl)) rfl (by decide) (Or.inl q305) (Or.inl rfl) dX3_copy_10 rfl ?_
    refine f_put 16 hF 0 (T := TX3) (C := RX3) ([oC a1_ 3 [.ref rb, .ref a4_, .ref a5_, .ref a6_, .ref a7_], aC D 0 a4_ (iA 3 (fun _ => 0)), aC D 0 a5_ (iA 2 (fun _ => 0)), oC a6_ 12 [.int 0, .ref (D.2.2.1 1), .int 0], oC a7_ 13 [.int 0, .int 0, .null, .null], oC a2_ 18 [.ref a3_, .ref (D.2.2.1 0)], oC a3_ 4 [.int 0, .int 0]]) okX3 rfl rfl 0 (by decide) (Or.inl q305) (Or.inl rfl) rfl rfl rfl (Nat.le_of_ble_eq_true rfl) rfl dX3_copy_13 rfl ?_
    refine r_aload_n 17 1 (hF.pu _ _ _ _) dX3_copy_16 rfl rfl ?_
    refine f_getf 20 hF (T := TX3) (C := RX3) 1 (v := .ref r2) okX3 (fun _ z => ((z.mo 0 rfl).fld 1 rfl)) rfl (by decide) (Or.inl q308) (Or.inl rfl) dX3_copy_17 rfl ?_
    refine r_iconst 21 0 (hF.pu _ _ _ _) dX3_copy_20 (by decide) rfl ?_
    refine r_aload_n 22 0 (hF.pu _ _ _ _) dX3_copy_21 rfl rfl ?_
    refine f_getf 25 hF (T := TX3) (C := RX3) 1 (v := .ref a4_) okX3 (fun _ z => ((z.o 0 rfl).fld 1 rfl)) rfl (by decide) (Or.inl q308) (Or.inl rfl) dX3_copy_22 rfl ?_
    refine r_iconst 26 0 (hF.pu _ _ _ _) dX3_copy_25 (by decide) rfl ?_
    refine r_iconst 27 3 (hF.pu _ _ _ _) dX3_copy_26 (by decide) rfl ?_
    refine f_copyi 30 hF 1 0 0 3 ([oC a1_ 3 [.ref rb, .ref a4_, .ref a5_, .ref a6_, .ref a7_], aC D 0 a4_ (iA 3 (va_cpy al (fun _ => 0) 0 0 3)), aC D 0 a5_ (iA 2 (fun _ => 0)), oC a6_ 12 [.int 0, .ref (D.2.2.1 1), .int 0], oC a7_ 13 [.int 0, .int 0, .null, .null], oC a2_ 18 [.ref a3_, .ref (D.2.2.1 0)], oC a3_ 4 [.int 0, .int 0]]) (fun _ z => (z.ma 1 rfl)) rfl q607 rfl rfl rfl (by omega) (by omega) ⟨by omega, by omega⟩ rfl ⟨by decide, by decide⟩ (Nat.le_of_ble_eq_true rfl) dX3_copy_27 rfl ?_
    refine r_aload_n 31 1 (hF.pu _ _ _ _) dX3_copy_30 rfl rfl ?_
    refine f_getf 34 hF (T := TX3) (C := RX3) 2 (v := .ref r3) okX3 (fun _ z => ((z.mo 0 rfl).fld 2 rfl)) rfl (by decide) (Or.inl q311) (Or.inl rfl) dX3_copy_31 rfl ?_
    refine r_iconst 35 0 (hF.pu _ _ _ _) dX3_copy_34 (by decide) rfl ?_
    refine r_aload_n 36 0 (hF.pu _ _ _ _) dX3_copy_35 rfl rfl ?_
    refine f_getf 39 hF (T := TX3) (C := RX3) 2 (v := .ref a5_) okX3 (fun _ z => ((z.o 0 rfl).fld 2 rfl)) rfl (by decide) (Or.inl q311) (Or.inl rfl) dX3_copy_36 rfl ?_
    refine r_iconst 40 0 (hF.pu _ _ _ _) dX3_copy_39 (by decide) rfl ?_
    refine r_iconst 41 2 (hF.pu _ _ _ _) dX3_copy_40 (by decide) rfl ?_
    refine f_copyi 44 hF 2 0 0 2 ([oC a1_ 3 [.ref rb, .ref a4_, .ref a5_, .ref a6_, .ref a7_], aC D 0 a4_ (iA 3 (va_cpy al (fun _ => 0) 0 0 3)), aC D 0 a5_ (iA 2 (va_cpy mi (fun _ => 0) 0 0 2)), oC a6_ 12 [.int 0, .ref (D.2.2.1 1), .int 0], oC a7_ 13 [.int 0, .int 0, .null, .null], oC a2_ 18 [.ref a3_, .ref (D.2.2.1 0)], oC a3_ 4 [.int 0, .int 0]]) (fun _ z => (z.ma 2 rfl)) rfl q607 rfl rfl rfl (by omega) (by omega) ⟨by omega, by omega⟩ rfl ⟨by decide, by decide⟩ (Nat.le_of_ble_eq_true rfl) dX3_copy_41 rfl ?_
    refine r_aload_n 45 0 (hF.pu _ _ _ _) dX3_copy_44 rfl rfl ?_
    refine f_getf 48 hF (T := TX3) (C := RX3) 3 (v := .ref a6_) okX3 (fun _ z => ((z.o 0 rfl).fld 3 rfl)) rfl (by decide) (Or.inl q314) (Or.inl rfl) dX3_copy_45 rfl ?_
    refine r_aload_n 49 1 (hF.pu _ _ _ _) dX3_copy_48 rfl rfl ?_
    refine f_getf 52 hF (T := TX3) (C := RX3) 3 (v := .ref r4) okX3 (fun _ z => ((z.mo 0 rfl).fld 3 rfl)) rfl (by decide) (Or.inl q314) (Or.inl rfl) dX3_copy_49 rfl ?_
    refine f_c1 hF ?_
    refine f_ups hF [3] ([oC a6_ 12 [.int 0, .ref (D.2.2.1 1), .int 0], oC a1_ 3 [.ref rb, .ref a4_, .ref a5_, .ref a6_, .ref a7_], aC D 0 a4_ (iA 3 (va_cpy al (fun _ => 0) 0 0 3)), aC D 0 a5_ (iA 2 (va_cpy mi (fun _ => 0) 0 0 2)), oC a7_ 13 [.int 0, .int 0, .null, .null], oC a2_ 18 [.ref a3_, .ref (D.2.2.1 0)], oC a3_ 4 [.int 0, .int 0]]) rfl ?_
    refine f_callV 55 hF (fc_J8_addAll_0 (KS := KS) (Hb := Hb) D l a6_ r4 0 m4 (D.2.2.1 1) 0 0 (fun _ => none) (by decide) (by decide) (by decide) iv (fun _ _ i hi => absurd hi (Nat.not_lt_zero _)) rfl) (wr := ([oC a1_ 3 [.ref rb, .ref a4_, .ref a5_, .ref a6_, .ref a7_], aC D 0 a4_ (iA 3 (va_cpy al (fun _ => 0) 0 0 3)), aC D 0 a5_ (iA 2 (va_cpy mi (fun _ => 0) 0 0 2)), oC a7_ 13 [.int 0, .int 0, .null, .null], oC a2_ 18 [.ref a3_, .ref (D.2.2.1 0)], oC a3_ 4 [.int 0, .int 0]])) rfl (fun c hc => by simp only [List.mem_cons] at hc ⊢; rcases hc with h | h | h <;> first | exact Or.inl h | exact Or.inr (Or.inl h) | exact Or.inr (Or.inr (Or.inl h)) | exact Or.inr (Or.inr (Or.inr (Or.inl h))) | exact Or.inr (Or.inr (Or.inr (Or.inr (Or.inl h)))) | exact Or.inr (Or.inr (Or.inr (Or.inr (Or.inr (Or.inl h))))) | exact Or.inr (Or.inr (Or.inr (Or.inr (Or.inr (Or.inr (h))))))) lk_X3_54 1 yk_J8_addAll rfl ⟨by decide, by decide⟩ (fun _ z => ((z.o 0 rfl).fld 0 rfl)) rfl rfl (Nat.le_of_ble_eq_true rfl) dX3_copy_52 ⟨Nat.le_of_ble_eq_true rfl, Nat.le_of_ble_eq_true rfl⟩ rfl (fun r ws_ im' hp => ?_)
    obtain ⟨rfl, rfl, rfl⟩ := hp
    show F 8 31 ([oC a6_ 12 [.int (0 + 1), .ref (D.2.2.1 1), .int 0], oC a1_ 3 [.ref rb, .ref a4_, .ref a5_, .ref a6_, .ref a7_], aC D 0 a4_ (iA 3 (va_cpy al (fun _ => 0) 0 0 3)), aC D 0 a5_ (iA 2 (va_cpy mi (fun _ => 0) 0 0 2)), oC a7_ 13 [.int 0, .int 0, .null, .null], oC a2_ 18 [.ref a3_, .ref (D.2.2.1 0)], oC a3_ 4 [.int 0, .int 0]]) ((aC D 3 (D.2.2.1 1) (qA 0 (fun _ => none))) :: (oC r 3 [.ref rb, .ref r2, .ref r3, .ref r4, .ref r6]) :: (aC D 0 r2 (iA 3 al)) :: (aC D 0 r3 (iA 2 mi)) :: (oC r4 12 [.int m4, .ref (D.2.2.1 1), .int 0]) :: (oC r6 13 [.int m6, .int 0, .null, .null]) :: iv) 55 [.int 0] [(1, .ref a1_), (0, .ref r)]
    refine r_pop 56 (hF.pu _ _ _ _) dX3_copy_55 rfl rfl ?_
    refine r_aload_n 57 0 (hF.pu _ _ _ _) dX3_copy_56 rfl rfl ?_
    refine f_getf 60 hF (T := TX3) (C := RX3) 4 (v := .ref a7_) okX3 (fun _ z => ((z.o 1 rfl).fld 4 rfl)) rfl (by decide) (Or.inl q317) (Or.inl rfl) dX3_copy_57 rfl ?_
    refine r_aload_n 61 1 (hF.pu _ _ _ _) dX3_copy_60 rfl rfl ?_
    refine f_getf 64 hF (T := TX3) (C := RX3) 4 (v := .ref r6) okX3 (fun _ z => ((z.mo 1 rfl).fld 4 rfl)) rfl (by decide) (Or.inl q317) (Or.inl rfl) dX3_copy_61 rfl ?_
    refine f_ups hF [4] ([oC a7_ 13 [.int 0, .int 0, .null, .null], oC a6_ 12 [.int (0 + 1), .ref (D.2.2.1 1), .int 0], oC a1_ 3 [.ref rb, .ref a4_, .ref a5_, .ref a6_, .ref a7_], aC D 0 a4_ (iA 3 (va_cpy al (fun _ => 0) 0 0 3)), aC D 0 a5_ (iA 2 (va_cpy mi (fun _ => 0) 0 0 2)), oC a2_ 18 [.ref a3_, .ref (D.2.2.1 0)], oC a3_ 4 [.int 0, .int 0]]) rfl ?_
    refine f_callV 67 hF (fc_J10_addAll_0 (KS := KS) (Hb := Hb) D l a7_ r6 0 0 0 m6 f6 iv he6) (wr := ([oC a6_ 12 [.int (0 + 1), .ref (D.2.2.1 1), .int 0], oC a1_ 3 [.ref rb, .ref a4_, .ref a5_, .ref a6_, .ref a7_], aC D 0 a4_ (iA 3 (va_cpy al (fun _ => 0) 0 0 3)), aC D 0 a5_ (iA 2 (va_cpy mi (fun _ => 0) 0 0 2)), oC a2_ 18 [.ref a3_, .ref (D.2.2.1 0)], oC a3_ 4 [.int 0, .int 0]])) rfl (fun c hc => by simp only [List.mem_cons] at hc ⊢; rcases hc with h | h <;> first | exact Or.inl h | exact Or.inr (Or.inl h) | exact Or.inr (Or.inr (Or.inl h)) | exact Or.inr (Or.inr (Or.inr (Or.inl h))) | exact Or.inr (Or.inr (Or.inr (Or.inr (Or.inl h)))) | exact Or.inr (Or.inr (Or.inr (Or.inr (Or.inr (Or.inl h))))) | exact Or.inr (Or.inr (Or.inr (Or.inr (Or.inr (Or.inr (h))))))) lk_X3_58 1 yk_J10_addAll rfl ⟨by decide, by decide⟩ (fun _ z => ((z.o 0 rfl).fld 0 rfl)) rfl rfl (Nat.le_of_ble_eq_true rfl) dX3_copy_64 ⟨Nat.le_of_ble_eq_true rfl, Nat.le_of_ble_eq_true rfl⟩ rfl (fun r ws_ im' hp => ?_)
    obtain ⟨rfl, rfl, rfl⟩ := hp
    show F 9 31 ([oC a7_ 13 [.int 0, .int 0, .null, .null], oC a6_ 12 [.int (0 + 1), .ref (D.2.2.1 1), .int 0], oC a1_ 3 [.ref rb, .ref a4_, .ref a5_, .ref a6_, .ref a7_], aC D 0 a4_ (iA 3 (va_cpy al (fun _ => 0) 0 0 3)), aC D 0 a5_ (iA 2 (va_cpy mi (fun _ => 0) 0 0 2)), oC a2_ 18 [.ref a3_, .ref (D.2.2.1 0)], oC a3_ 4 [.int 0, .int 0]]) ((aC D 3 (D.2.2.1 1) (qA 0 (fun _ => none))) :: (oC r 3 [.ref rb, .ref r2, .ref r3, .ref r4, .ref r6]) :: (aC D 0 r2 (iA 3 al)) :: (aC D 0 r3 (iA 2 mi)) :: (oC r4 12 [.int m4, .ref (D.2.2.1 1), .int 0]) :: (oC r6 13 [.int m6, .int 0, .null, .null]) :: iv) 67 [.int 0] [(1, .ref a1_), (0, .ref r)]
    refine r_pop 68 (hF.pu _ _ _ _) dX3_copy_67 rfl rfl ?_
    refine r_aload_n 69 0 (hF.pu _ _ _ _) dX3_copy_68 rfl rfl ?_
    refine f_kp hF [true, true, true, true, true, false, false] ([oC a7_ 13 [.int 0, .int 0, .null, .null], oC a6_ 12 [.int (0 + 1), .ref (D.2.2.1 1), .int 0], oC a1_ 3 [.ref rb, .ref a4_, .ref a5_, .ref a6_, .ref a7_], aC D 0 a4_ (iA 3 (va_cpy al (fun _ => 0) 0 0 3)), aC D 0 a5_ (iA 2 (va_cpy mi (fun _ => 0) 0 0 2))]) rfl ?_
    refine f_ups hF [1] ([oC a6_ 12 [.int (0 + 1), .ref (D.2.2.1 1), .int 0], oC a7_ 13 [.int 0, .int 0, .null, .null], oC a1_ 3 [.ref rb, .ref a4_, .ref a5_, .ref a6_, .ref a7_], aC D 0 a4_ (iA 3 (va_cpy al (fun _ => 0) 0 0 3)), aC D 0 a5_ (iA 2 (va_cpy mi (fun _ => 0) 0 0 2))]) rfl ?_
    refine f_ups hF [4] ([aC D 0 a5_ (iA 2 (va_cpy mi (fun _ => 0) 0 0 2)), oC a6_ 12 [.int (0 + 1), .ref (D.2.2.1 1), .int 0], oC a7_ 13 [.int 0, .int 0, .null, .null], oC a1_ 3 [.ref rb, .ref a4_, .ref a5_, .ref a6_, .ref a7_], aC D 0 a4_ (iA 3 (va_cpy al (fun _ => 0) 0 0 3))]) rfl ?_
    refine f_ups hF [4] ([aC D 0 a4_ (iA 3 (va_cpy al (fun _ => 0) 0 0 3)), aC D 0 a5_ (iA 2 (va_cpy mi (fun _ => 0) 0 0 2)), oC a6_ 12 [.int (0 + 1), .ref (D.2.2.1 1), .int 0], oC a7_ 13 [.int 0, .int 0, .null, .null], oC a1_ 3 [.ref rb, .ref a4_, .ref a5_, .ref a6_, .ref a7_]]) rfl ?_
    refine f_ups hF [4] ([oC a1_ 3 [.ref rb, .ref a4_, .ref a5_, .ref a6_, .ref a7_], aC D 0 a4_ (iA 3 (va_cpy al (fun _ => 0) 0 0 3)), aC D 0 a5_ (iA 2 (va_cpy mi (fun _ => 0) 0 0 2)), oC a6_ 12 [.int (0 + 1), .ref (D.2.2.1 1), .int 0], oC a7_ 13 [.int 0, .int 0, .null, .null]]) rfl ?_
    refine f_imsub hF [] (imk [] rfl) ?_
    exact FR.a hR (Or.inl ⟨_, rfl⟩) dX3_copy_69 (Nat.le_of_ble_eq_true rfl) (Nat.le_of_ble_eq_true rfl) ⟨_, rfl, rfl, _, _, _, _, _, _, [oC a6_ 12 [.int (0 + 1), .ref (D.2.2.1 1), .int 0]], [oC a7_ 13 [.int 0, .int 0, .null, .null]], rfl, ⟨_, Or.inl ⟨rfl, rfl⟩⟩, ⟨_, Or.inl ⟨rfl, rfl⟩⟩, fun j hj => by simp [va_cpy, hj]; exact hal j hj, fun j hj => by simp [va_cpy, hj]; exact hmi j hj⟩
  · show F 0 0 ([]) ((oC r 3 [.ref rb, .ref r2, .ref r3, .ref r4, .ref r6]) :: (aC D 0 r2 (iA 3 al)) :: (aC D 0 r3 (iA 2 mi)) :: (oC r4 12 [.int m4, .ref (D.2.2.1 1), .int 0]) :: (oC r6 13 [.int m6, .int 1, .ref b6, .ref b6]) :: (oC b6 14 [.ref (f6 0), .null, .null]) :: iv) 0 [] [(0, .ref r)]
    refine f_new 3 hF (ci := 3) [.null, .null, .null, .null, .null] okX3 rfl q605 q188 q104 dvX3 ⟨Nat.le_of_ble_eq_true rfl, Nat.le_of_ble_eq_true rfl⟩ dX3_copy_0 rfl (fun a1_ => ?_)
    refine r_dup 4 (hF.pu _ _ _ _) dX3_copy_3 rfl rfl ?_
    refine f_callI 7 hF (fc_X3_init (KS := KS) (Hb := Hb) D l a1_) (wr := ([])) rfl (imk [] rfl) q191 q104 q606 q190 rfl 0 yk_X3_init rfl ⟨by decide, by decide⟩ rfl (Nat.le_of_ble_eq_true rfl) dX3_copy_4 ⟨Nat.le_of_ble_eq_true rfl, Nat.le_of_ble_eq_true rfl⟩ rfl (fun r ws_ im' hp => ?_)
    obtain ⟨a2_, a3_, a4_, a5_, a6_, a7_, rfl, rfl, rfl⟩ := hp
    show F 7 21 ([oC a1_ 3 [.ref a2_, .ref a4_, .ref a5_, .ref a6_, .ref a7_], aC D 0 a4_ (iA 3 (fun _ => 0)), aC D 0 a5_ (iA 2 (fun _ => 0)), oC a6_ 12 [.int 0, .ref (D.2.2.1 1), .int 0], oC a7_ 13 [.int 0, .int 0, .null, .null], oC a2_ 18 [.ref a3_, .ref (D.2.2.1 0)], oC a3_ 4 [.int 0, .int 0]]) ((oC r 3 [.ref rb, .ref r2, .ref r3, .ref r4, .ref r6]) :: (aC D 0 r2 (iA 3 al)) :: (aC D 0 r3 (iA 2 mi)) :: (oC r4 12 [.int m4, .ref (D.2.2.1 1), .int 0]) :: (oC r6 13 [.int m6, .int 1, .ref b6, .ref b6]) :: (oC b6 14 [.ref (f6 0), .null, .null]) :: iv) 7 [.ref a1_] [(0, .ref r)]
    refine r_astore_n 8 [(1, .ref a1_), (0, .ref r)] (hF.pu _ _ _ _) dX3_copy_7 rfl (by decide) rfl rfl ?_
    refine r_aload_n 9 0 (hF.pu _ _ _ _) dX3_copy_8 rfl rfl ?_
    refine r_aload_n 10 1 (hF.pu _ _ _ _) dX3_copy_9 rfl rfl ?_
    refine f_getf 13 hF (T := TX3) (C := RX3) 0 (v := .ref rb) okX3 (fun _ z => ((z.mo 0 rfl).fld 0 rfl)) rfl (by decide) (Or.inl q305) (Or.inl rfl) dX3_copy_10 rfl ?_
    refine f_put 16 hF 0 (T := TX3) (C := RX3) ([oC a1_ 3 [.ref rb, .ref a4_, .ref a5_, .ref a6_, .ref a7_], aC D 0 a4_ (iA 3 (fun _ => 0)), aC D 0 a5_ (iA 2 (fun _ => 0)), oC a6_ 12 [.int 0, .ref (D.2.2.1 1), .int 0], oC a7_ 13 [.int 0, .int 0, .null, .null], oC a2_ 18 [.ref a3_, .ref (D.2.2.1 0)], oC a3_ 4 [.int 0, .int 0]]) okX3 rfl rfl 0 (by decide) (Or.inl q305) (Or.inl rfl) rfl rfl rfl (Nat.le_of_ble_eq_true rfl) rfl dX3_copy_13 rfl ?_
    refine r_aload_n 17 1 (hF.pu _ _ _ _) dX3_copy_16 rfl rfl ?_
    refine f_getf 20 hF (T := TX3) (C := RX3) 1 (v := .ref r2) okX3 (fun _ z => ((z.mo 0 rfl).fld 1 rfl)) rfl (by decide) (Or.inl q308) (Or.inl rfl) dX3_copy_17 rfl ?_
    refine r_iconst 21 0 (hF.pu _ _ _ _) dX3_copy_20 (by decide) rfl ?_
    refine r_aload_n 22 0 (hF.pu _ _ _ _) dX3_copy_21 rfl rfl ?_
    refine f_getf 25 hF (T := TX3) (C := RX3) 1 (v := .ref a4_) okX3 (fun _ z => ((z.o 0 rfl).fld 1 rfl)) rfl (by decide) (Or.inl q308) (Or.inl rfl) dX3_copy_22 rfl ?_
    refine r_iconst 26 0 (hF.pu _ _ _ _) dX3_copy_25 (by decide) rfl ?_
    refine r_iconst 27 3 (hF.pu _ _ _ _) dX3_copy_26 (by decide) rfl ?_
    refine f_copyi 30 hF 1 0 0 3 ([oC a1_ 3 [.ref rb, .ref a4_, .ref a5_, .ref a6_, .ref a7_], aC D 0 a4_ (iA 3 (va_cpy al (fun _ => 0) 0 0 3)), aC D 0 a5_ (iA 2 (fun _ => 0)), oC a6_ 12 [.int 0, .ref (D.2.2.1 1), .int 0], oC a7_ 13 [.int 0, .int 0, .null, .null], oC a2_ 18 [.ref a3_, .ref (D.2.2.1 0)], oC a3_ 4 [.int 0, .int 0]]) (fun _ z => (z.ma 1 rfl)) rfl q607 rfl rfl rfl (by omega) (by omega) ⟨by omega, by omega⟩ rfl ⟨by decide, by decide⟩ (Nat.le_of_ble_eq_true rfl) dX3_copy_27 rfl ?_
    refine r_aload_n 31 1 (hF.pu _ _ _ _) dX3_copy_30 rfl rfl ?_
    refine f_getf 34 hF (T := TX3) (C := RX3) 2 (v := .ref r3) okX3 (fun _ z => ((z.mo 0 rfl).fld 2 rfl)) rfl (by decide) (Or.inl q311) (Or.inl rfl) dX3_copy_31 rfl ?_
    refine r_iconst 35 0 (hF.pu _ _ _ _) dX3_copy_34 (by decide) rfl ?_
    refine r_aload_n 36 0 (hF.pu _ _ _ _) dX3_copy_35 rfl rfl ?_
    refine f_getf 39 hF (T := TX3) (C := RX3) 2 (v := .ref a5_) okX3 (fun _ z => ((z.o 0 rfl).fld 2 rfl)) rfl (by decide) (Or.inl q311) (Or.inl rfl) dX3_copy_36 rfl ?_
    refine r_iconst 40 0 (hF.pu _ _ _ _) dX3_copy_39 (by decide) rfl ?_
    refine r_iconst 41 2 (hF.pu _ _ _ _) dX3_copy_40 (by decide) rfl ?_
    refine f_copyi 44 hF 2 0 0 2 ([oC a1_ 3 [.ref rb, .ref a4_, .ref a5_, .ref a6_, .ref a7_], aC D 0 a4_ (iA 3 (va_cpy al (fun _ => 0) 0 0 3)), aC D 0 a5_ (iA 2 (va_cpy mi (fun _ => 0) 0 0 2)), oC a6_ 12 [.int 0, .ref (D.2.2.1 1), .int 0], oC a7_ 13 [.int 0, .int 0, .null, .null], oC a2_ 18 [.ref a3_, .ref (D.2.2.1 0)], oC a3_ 4 [.int 0, .int 0]]) (fun _ z => (z.ma 2 rfl)) rfl q607 rfl rfl rfl (by omega) (by omega) ⟨by omega, by omega⟩ rfl ⟨by decide, by decide⟩ (Nat.le_of_ble_eq_true rfl) dX3_copy_41 rfl ?_
    refine r_aload_n 45 0 (hF.pu _ _ _ _) dX3_copy_44 rfl rfl ?_
    refine f_getf 48 hF (T := TX3) (C := RX3) 3 (v := .ref a6_) okX3 (fun _ z => ((z.o 0 rfl).fld 3 rfl)) rfl (by decide) (Or.inl q314) (Or.inl rfl) dX3_copy_45 rfl ?_
    refine r_aload_n 49 1 (hF.pu _ _ _ _) dX3_copy_48 rfl rfl ?_
    refine f_getf 52 hF (T := TX3) (C := RX3) 3 (v := .ref r4) okX3 (fun _ z => ((z.mo 0 rfl).fld 3 rfl)) rfl (by decide) (Or.inl q314) (Or.inl rfl) dX3_copy_49 rfl ?_
    refine f_c1 hF ?_
    refine f_ups hF [3] ([oC a6_ 12 [.int 0, .ref (D.2.2.1 1), .int 0], oC a1_ 3 [.ref rb, .ref a4_, .ref a5_, .ref a6_, .ref a7_], aC D 0 a4_ (iA 3 (va_cpy al (fun _ => 0) 0 0 3)), aC D 0 a5_ (iA 2 (va_cpy mi (fun _ => 0) 0 0 2)), oC a7_ 13 [.int 0, .int 0, .null, .null], oC a2_ 18 [.ref a3_, .ref (D.2.2.1 0)], oC a3_ 4 [.int 0, .int 0]]) rfl ?_
    refine f_callV 55 hF (fc_J8_addAll_0 (KS := KS) (Hb := Hb) D l a6_ r4 0 m4 (D.2.2.1 1) 0 0 (fun _ => none) (by decide) (by decide) (by decide) iv (fun _ _ i hi => absurd hi (Nat.not_lt_zero _)) rfl) (wr := ([oC a1_ 3 [.ref rb, .ref a4_, .ref a5_, .ref a6_, .ref a7_], aC D 0 a4_ (iA 3 (va_cpy al (fun _ => 0) 0 0 3)), aC D 0 a5_ (iA 2 (va_cpy mi (fun _ => 0) 0 0 2)), oC a7_ 13 [.int 0, .int 0, .null, .null], oC a2_ 18 [.ref a3_, .ref (D.2.2.1 0)], oC a3_ 4 [.int 0, .int 0]])) rfl (fun c hc => by simp only [List.mem_cons] at hc ⊢; rcases hc with h | h | h <;> first | exact Or.inl h | exact Or.inr (Or.inl h) | exact Or.inr (Or.inr (Or.inl h)) | exact Or.inr (Or.inr (Or.inr (Or.inl h))) | exact Or.inr (Or.inr (Or.inr (Or.inr (Or.inl h)))) | exact Or.inr (Or.inr (Or.inr (Or.inr (Or.inr (Or.inl h))))) | exact Or.inr (Or.inr (Or.inr (Or.inr (Or.inr (Or.inr (Or.inl h)))))) | exact Or.inr (Or.inr (Or.inr (Or.inr (Or.inr (Or.inr (Or.inr (h)))))))) lk_X3_54 1 yk_J8_addAll rfl ⟨by decide, by decide⟩ (fun _ z => ((z.o 0 rfl).fld 0 rfl)) rfl rfl (Nat.le_of_ble_eq_true rfl) dX3_copy_52 ⟨Nat.le_of_ble_eq_true rfl, Nat.le_of_ble_eq_true rfl⟩ rfl (fun r ws_ im' hp => ?_)
    obtain ⟨rfl, rfl, rfl⟩ := hp
    show F 8 31 ([oC a6_ 12 [.int (0 + 1), .ref (D.2.2.1 1), .int 0], oC a1_ 3 [.ref rb, .ref a4_, .ref a5_, .ref a6_, .ref a7_], aC D 0 a4_ (iA 3 (va_cpy al (fun _ => 0) 0 0 3)), aC D 0 a5_ (iA 2 (va_cpy mi (fun _ => 0) 0 0 2)), oC a7_ 13 [.int 0, .int 0, .null, .null], oC a2_ 18 [.ref a3_, .ref (D.2.2.1 0)], oC a3_ 4 [.int 0, .int 0]]) ((aC D 3 (D.2.2.1 1) (qA 0 (fun _ => none))) :: (oC r 3 [.ref rb, .ref r2, .ref r3, .ref r4, .ref r6]) :: (aC D 0 r2 (iA 3 al)) :: (aC D 0 r3 (iA 2 mi)) :: (oC r4 12 [.int m4, .ref (D.2.2.1 1), .int 0]) :: (oC r6 13 [.int m6, .int 1, .ref b6, .ref b6]) :: (oC b6 14 [.ref (f6 0), .null, .null]) :: iv) 55 [.int 0] [(1, .ref a1_), (0, .ref r)]
    refine r_pop 56 (hF.pu _ _ _ _) dX3_copy_55 rfl rfl ?_
    refine r_aload_n 57 0 (hF.pu _ _ _ _) dX3_copy_56 rfl rfl ?_
    refine f_getf 60 hF (T := TX3) (C := RX3) 4 (v := .ref a7_) okX3 (fun _ z => ((z.o 1 rfl).fld 4 rfl)) rfl (by decide) (Or.inl q317) (Or.inl rfl) dX3_copy_57 rfl ?_
    refine r_aload_n 61 1 (hF.pu _ _ _ _) dX3_copy_60 rfl rfl ?_
    refine f_getf 64 hF (T := TX3) (C := RX3) 4 (v := .ref r6) okX3 (fun _ z => ((z.mo 1 rfl).fld 4 rfl)) rfl (by decide) (Or.inl q317) (Or.inl rfl) dX3_copy_61 rfl ?_
    refine f_ups hF [4] ([oC a7_ 13 [.int 0, .int 0, .null, .null], oC a6_ 12 [.int (0 + 1), .ref (D.2.2.1 1), .int 0], oC a1_ 3 [.ref rb, .ref a4_, .ref a5_, .ref a6_, .ref a7_], aC D 0 a4_ (iA 3 (va_cpy al (fun _ => 0) 0 0 3)), aC D 0 a5_ (iA 2 (va_cpy mi (fun _ => 0) 0 0 2)), oC a2_ 18 [.ref a3_, .ref (D.2.2.1 0)], oC a3_ 4 [.int 0, .int 0]]) rfl ?_
    refine f_callV 67 hF (fc_J10_addAll_1 (KS := KS) (Hb := Hb) D l a7_ r6 b6 0 0 m6 f6 iv he6) (wr := ([oC a6_ 12 [.int (0 + 1), .ref (D.2.2.1 1), .int 0], oC a1_ 3 [.ref rb, .ref a4_, .ref a5_, .ref a6_, .ref a7_], aC D 0 a4_ (iA 3 (va_cpy al (fun _ => 0) 0 0 3)), aC D 0 a5_ (iA 2 (va_cpy mi (fun _ => 0) 0 0 2)), oC a2_ 18 [.ref a3_, .ref (D.2.2.1 0)], oC a3_ 4 [.int 0, .int 0]])) rfl (fun c hc => by simp only [List.mem_cons] at hc ⊢; rcases hc with h | h | h <;> first | exact Or.inl h | exact Or.inr (Or.inl h) | exact Or.inr (Or.inr (Or.inl h)) | exact Or.inr (Or.inr (Or.inr (Or.inl h))) | exact Or.inr (Or.inr (Or.inr (Or.inr (Or.inl h)))) | exact Or.inr (Or.inr (Or.inr (Or.inr (Or.inr (Or.inl h))))) | exact Or.inr (Or.inr (Or.inr (Or.inr (Or.inr (Or.inr (Or.inl h)))))) | exact Or.inr (Or.inr (Or.inr (Or.inr (Or.inr (Or.inr (Or.inr (h)))))))) lk_X3_58 1 yk_J10_addAll rfl ⟨by decide, by decide⟩ (fun _ z => ((z.o 0 rfl).fld 0 rfl)) rfl rfl (Nat.le_of_ble_eq_true rfl) dX3_copy_64 ⟨Nat.le_of_ble_eq_true rfl, Nat.le_of_ble_eq_true rfl⟩ rfl (fun r ws_ im' hp => ?_)
    obtain ⟨a8_, rfl, rfl, rfl⟩ := hp
    show F 10 35 ([oC a7_ 13 [.int (0 + 1), .int 1, .ref a8_, .ref a8_], oC a8_ 14 [.ref (f6 0), .null, .null], oC a6_ 12 [.int (0 + 1), .ref (D.2.2.1 1), .int 0], oC a1_ 3 [.ref rb, .ref a4_, .ref a5_, .ref a6_, .ref a7_], aC D 0 a4_ (iA 3 (va_cpy al (fun _ => 0) 0 0 3)), aC D 0 a5_ (iA 2 (va_cpy mi (fun _ => 0) 0 0 2)), oC a2_ 18 [.ref a3_, .ref (D.2.2.1 0)], oC a3_ 4 [.int 0, .int 0]]) ((aC D 3 (D.2.2.1 1) (qA 0 (fun _ => none))) :: (oC r 3 [.ref rb, .ref r2, .ref r3, .ref r4, .ref r6]) :: (aC D 0 r2 (iA 3 al)) :: (aC D 0 r3 (iA 2 mi)) :: (oC r4 12 [.int m4, .ref (D.2.2.1 1), .int 0]) :: (oC r6 13 [.int m6, .int 1, .ref b6, .ref b6]) :: (oC b6 14 [.ref (f6 0), .null, .null]) :: iv) 67 [.int 1] [(1, .ref a1_), (0, .ref r)]
    refine r_pop 68 (hF.pu _ _ _ _) dX3_copy_67 rfl rfl ?_
    refine r_aload_n 69 0 (hF.pu _ _ _ _) dX3_copy_68 rfl rfl ?_
    refine f_kp hF [true, true, true, true, true, true, false, false] ([oC a7_ 13 [.int (0 + 1), .int 1, .ref a8_, .ref a8_], oC a8_ 14 [.ref (f6 0), .null, .null], oC a6_ 12 [.int (0 + 1), .ref (D.2.2.1 1), .int 0], oC a1_ 3 [.ref rb, .ref a4_, .ref a5_, .ref a6_, .ref a7_], aC D 0 a4_ (iA 3 (va_cpy al (fun _ => 0) 0 0 3)), aC D 0 a5_ (iA 2 (va_cpy mi (fun _ => 0) 0 0 2))]) rfl ?_
    refine f_ups hF [1] ([oC a8_ 14 [.ref (f6 0), .null, .null], oC a7_ 13 [.int (0 + 1), .int 1, .ref a8_, .ref a8_], oC a6_ 12 [.int (0 + 1), .ref (D.2.2.1 1), .int 0], oC a1_ 3 [.ref rb, .ref a4_, .ref a5_, .ref a6_, .ref a7_], aC D 0 a4_ (iA 3 (va_cpy al (fun _ => 0) 0 0 3)), aC D 0 a5_ (iA 2 (va_cpy mi (fun _ => 0) 0 0 2))]) rfl ?_
    refine f_ups hF [1] ([oC a7_ 13 [.int (0 + 1), .int 1, .ref a8_, .ref a8_], oC a8_ 14 [.ref (f6 0), .null, .null], oC a6_ 12 [.int (0 + 1), .ref (D.2.2.1 1), .int 0], oC a1_ 3 [.ref rb, .ref a4_, .ref a5_, .ref a6_, .ref a7_], aC D 0 a4_ (iA 3 (va_cpy al (fun _ => 0) 0 0 3)), aC D 0 a5_ (iA 2 (va_cpy mi (fun _ => 0) 0 0 2))]) rfl ?_
    refine f_ups hF [2] ([oC a6_ 12 [.int (0 + 1), .ref (D.2.2.1 1), .int 0], oC a7_ 13 [.int (0 + 1), .int 1, .ref a8_, .ref a8_], oC a8_ 14 [.ref (f6 0), .null, .null], oC a1_ 3 [.ref rb, .ref a4_, .ref a5_, .ref a6_, .ref a7_], aC D 0 a4_ (iA 3 (va_cpy al (fun _ => 0) 0 0 3)), aC D 0 a5_ (iA 2 (va_cpy mi (fun _ => 0) 0 0 2))]) rfl ?_
    refine f_ups hF [5] ([aC D 0 a5_ (iA 2 (va_cpy mi (fun _ => 0) 0 0 2)), oC a6_ 12 [.int (0 + 1), .ref (D.2.2.1 1), .int 0], oC a7_ 13 [.int (0 + 1), .int 1, .ref a8_, .ref a8_], oC a8_ 14 [.ref (f6 0), .null, .null], oC a1_ 3 [.ref rb, .ref a4_, .ref a5_, .ref a6_, .ref a7_], aC D 0 a4_ (iA 3 (va_cpy al (fun _ => 0) 0 0 3))]) rfl ?_
    refine f_ups hF [5] ([aC D 0 a4_ (iA 3 (va_cpy al (fun _ => 0) 0 0 3)), aC D 0 a5_ (iA 2 (va_cpy mi (fun _ => 0) 0 0 2)), oC a6_ 12 [.int (0 + 1), .ref (D.2.2.1 1), .int 0], oC a7_ 13 [.int (0 + 1), .int 1, .ref a8_, .ref a8_], oC a8_ 14 [.ref (f6 0), .null, .null], oC a1_ 3 [.ref rb, .ref a4_, .ref a5_, .ref a6_, .ref a7_]]) rfl ?_
    refine f_ups hF [5] ([oC a1_ 3 [.ref rb, .ref a4_, .ref a5_, .ref a6_, .ref a7_], aC D 0 a4_ (iA 3 (va_cpy al (fun _ => 0) 0 0 3)), aC D 0 a5_ (iA 2 (va_cpy mi (fun _ => 0) 0 0 2)), oC a6_ 12 [.int (0 + 1), .ref (D.2.2.1 1), .int 0], oC a7_ 13 [.int (0 + 1), .int 1, .ref a8_, .ref a8_], oC a8_ 14 [.ref (f6 0), .null, .null]]) rfl ?_
    refine f_imsub hF [] (imk [] rfl) ?_
    exact FR.a hR (Or.inl ⟨_, rfl⟩) dX3_copy_69 (Nat.le_of_ble_eq_true rfl) (Nat.le_of_ble_eq_true rfl) ⟨_, rfl, rfl, _, _, _, _, _, _, [oC a6_ 12 [.int (0 + 1), .ref (D.2.2.1 1), .int 0]], [oC a7_ 13 [.int (0 + 1), .int 1, .ref a8_, .ref a8_], oC a8_ 14 [.ref (f6 0), .null, .null]], rfl, ⟨_, Or.inl ⟨rfl, rfl⟩⟩, ⟨_, Or.inr (Or.inl ⟨rfl, _, rfl⟩)⟩, fun j hj => by simp [va_cpy, hj]; exact hal j hj, fun j hj => by simp [va_cpy, hj]; exact hmi j hj⟩
  · show F 0 0 ([]) ((oC r 3 [.ref rb, .ref r2, .ref r3, .ref r4, .ref r6]) :: (aC D 0 r2 (iA 3 al)) :: (aC D 0 r3 (iA 2 mi)) :: (oC r4 12 [.int m4, .ref (D.2.2.1 1), .int 0]) :: (oC r6 13 [.int m6, .int 2, .ref b6, .ref c6]) :: (oC b6 14 [.ref (f6 0), .ref c6, .null]) :: (oC c6 14 [.ref (f6 1), .null, .ref b6]) :: iv) 0 [] [(0, .ref r)]
    refine f_new 3 hF (ci := 3) [.null, .null, .null, .null, .null] okX3 rfl q605 q188 q104 dvX3 ⟨Nat.le_of_ble_eq_true rfl, Nat.le_of_ble_eq_true rfl⟩ dX3_copy_0 rfl (fun a1_ => ?_)
    refine r_dup 4 (hF.pu _ _ _ _) dX3_copy_3 rfl rfl ?_
    refine f_callI 7 hF (fc_X3_init (KS := KS) (Hb := Hb) D l a1_) (wr := ([])) rfl (imk [] rfl) q191 q104 q606 q190 rfl 0 yk_X3_init rfl ⟨by decide, by decide⟩ rfl (Nat.le_of_ble_eq_true rfl) dX3_copy_4 ⟨Nat.le_of_ble_eq_true rfl, Nat.le_of_ble_eq_true rfl⟩ rfl (fun r ws_ im' hp => ?_)
    obtain ⟨a2_, a3_, a4_, a5_, a6_, a7_, rfl, rfl, rfl⟩ := hp
    show F 7 21 ([oC a1_ 3 [.ref a2_, .ref a4_, .ref a5_, .ref a6_, .ref a7_], aC D 0 a4_ (iA 3 (fun _ => 0)), aC D 0 a5_ (iA 2 (fun _ => 0)), oC a6_ 12 [.int 0, .ref (D.2.2.1 1), .int 0], oC a7_ 13 [.int 0, .int 0, .null, .null], oC a2_ 18 [.ref a3_, .ref (D.2.2.1 0)], oC a3_ 4 [.int 0, .int 0]]) ((oC r 3 [.ref rb, .ref r2, .ref r3, .ref r4, .ref r6]) :: (aC D 0 r2 (iA 3 al)) :: (aC D 0 r3 (iA 2 mi)) :: (oC r4 12 [.int m4, .ref (D.2.2.1 1), .int 0]) :: (oC r6 13 [.int m6, .int 2, .ref b6, .ref c6]) :: (oC b6 14 [.ref (f6 0), .ref c6, .null]) :: (oC c6 14 [.ref (f6 1), .null, .ref b6]) :: iv) 7 [.ref a1_] [(0, .ref r)]
    refine r_astore_n 8 [(1, .ref a1_), (0, .ref r)] (hF.pu _ _ _ _) dX3_copy_7 rfl (by decide) rfl rfl ?_
    refine r_aload_n 9 0 (hF.pu _ _ _ _) dX3_copy_8 rfl rfl ?_
    refine r_aload_n 10 1 (hF.pu _ _ _ _) dX3_copy_9 rfl rfl ?_
    refine f_getf 13 hF (T := TX3) (C := RX3) 0 (v := .ref rb) okX3 (fun _ z => ((z.mo 0 rfl).fld 0 rfl)) rfl (by decide) (Or.inl q305) (Or.inl rfl) dX3_copy_10 rfl ?_
    refine f_put 16 hF 0 (T := TX3) (C := RX3) ([oC a1_ 3 [.ref rb, .ref a4_, .ref a5_, .ref a6_, .ref a7_], aC D 0 a4_ (iA 3 (fun _ => 0)), aC D 0 a5_ (iA 2 (fun _ => 0)), oC a6_ 12 [.int 0, .ref (D.2.2.1 1), .int 0], oC a7_ 13 [.int 0, .int 0, .null, .null], oC a2_ 18 [.ref a3_, .ref (D.2.2.1 0)], oC a3_ 4 [.int 0, .int 0]]) okX3 rfl rfl 0 (by decide) (Or.inl q305) (Or.inl rfl) rfl rfl rfl (Nat.le_of_ble_eq_true rfl) rfl dX3_copy_13 rfl ?_
    refine r_aload_n 17 1 (hF.pu _ _ _ _) dX3_copy_16 rfl rfl ?_
    refine f_getf 20 hF (T := TX3) (C := RX3) 1 (v := .ref r2) okX3 (fun _ z => ((z.mo 0 rfl).fld 1 rfl)) rfl (by decide) (Or.inl q308) (Or.inl rfl) dX3_copy_17 rfl ?_
    refine r_iconst 21 0 (hF.pu _ _ _ _) dX3_copy_20 (by decide) rfl ?_
    refine r_aload_n 22 0 (hF.pu _ _ _ _) dX3_copy_21 rfl rfl ?_
    refine f_getf 25 hF (T := TX3) (C := RX3) 1 (v := .ref a4_) okX3 (fun _ z => ((z.o 0 rfl).fld 1 rfl)) rfl (by decide) (Or.inl q308) (Or.inl rfl) dX3_copy_22 rfl ?_
    refine r_iconst 26 0 (hF.pu _ _ _ _) dX3_copy_25 (by decide) rfl ?_
    refine r_iconst 27 3 (hF.pu _ _ _ _) dX3_copy_26 (by decide) rfl ?_
    refine f_copyi 30 hF 1 0 0 3 ([oC a1_ 3 [.ref rb, .ref a4_, .ref a5_, .ref a6_, .ref a7_], aC D 0 a4_ (iA 3 (va_cpy al (fun _ => 0) 0 0 3)), aC D 0 a5_ (iA 2 (fun _ => 0)), oC a6_ 12 [.int 0, .ref (D.2.2.1 1), .int 0], oC a7_ 13 [.int 0, .int 0, .null, .null], oC a2_ 18 [.ref a3_, .ref (D.2.2.1 0)], oC a3_ 4 [.int 0, .int 0]]) (fun _ z => (z.ma 1 rfl)) rfl q607 rfl rfl rfl (by omega) (by omega) ⟨by omega, by omega⟩ rfl ⟨by decide, by decide⟩ (Nat.le_of_ble_eq_true rfl) dX3_copy_27 rfl ?_
    refine r_aload_n 31 1 (hF.pu _ _ _ _) dX3_copy_30 rfl rfl ?_
    refine f_getf 34 hF (T := TX3) (C := RX3) 2 (v := .ref r3) okX3 (fun _ z => ((z.mo 0 rfl).fld 2 rfl)) rfl (by decide) (Or.inl q311) (Or.inl rfl) dX3_copy_31 rfl ?_
    refine r_iconst 35 0 (hF.pu _ _ _ _) dX3_copy_34 (by decide) rfl ?_
    refine r_aload_n 36 0 (hF.pu _ _ _ _) dX3_copy_35 rfl rfl ?_
    refine f_getf 39 hF (T := TX3) (C := RX3) 2 (v := .ref a5_) okX3 (fun _ z => ((z.o 0 rfl).fld 2 rfl)) rfl (by decide) (Or.inl q311) (Or.inl rfl) dX3_copy_36 rfl ?_
    refine r_iconst 40 0 (hF.pu _ _ _ _) dX3_copy_39 (by decide) rfl ?_
    refine r_iconst 41 2 (hF.pu _ _ _ _) dX3_copy_40 (by decide) rfl ?_
    refine f_copyi 44 hF 2 0 0 2 ([oC a1_ 3 [.ref rb, .ref a4_, .ref a5_, .ref a6_, .ref a7_], aC D 0 a4_ (iA 3 (va_cpy al (fun _ => 0) 0 0 3)), aC D 0 a5_ (iA 2 (va_cpy mi (fun _ => 0) 0 0 2)), oC a6_ 12 [.int 0, .ref (D.2.2.1 1), .int 0], oC a7_ 13 [.int 0, .int 0, .null, .null], oC a2_ 18 [.ref a3_, .ref (D.2.2.1 0)], oC a3_ 4 [.int 0, .int 0]]) (fun _ z => (z.ma 2 rfl)) rfl q607 rfl rfl rfl (by omega) (by omega) ⟨by omega, by omega⟩ rfl ⟨by decide, by decide⟩ (Nat.le_of_ble_eq_true rfl) dX3_copy_41 rfl ?_
    refine r_aload_n 45 0 (hF.pu _ _ _ _) dX3_copy_44 rfl rfl ?_
    refine f_getf 48 hF (T := TX3) (C := RX3) 3 (v := .ref a6_) okX3 (fun _ z => ((z.o 0 rfl).fld 3 rfl)) rfl (by decide) (Or.inl q314) (Or.inl rfl) dX3_copy_45 rfl ?_
    refine r_aload_n 49 1 (hF.pu _ _ _ _) dX3_copy_48 rfl rfl ?_
    refine f_getf 52 hF (T := TX3) (C := RX3) 3 (v := .ref r4) okX3 (fun _ z => ((z.mo 0 rfl).fld 3 rfl)) rfl (by decide) (Or.inl q314) (Or.inl rfl) dX3_copy_49 rfl ?_
    refine f_c1 hF ?_
    refine f_ups hF [3] ([oC a6_ 12 [.int 0, .ref (D.2.2.1 1), .int 0], oC a1_ 3 [.ref rb, .ref a4_, .ref a5_, .ref a6_, .ref a7_], aC D 0 a4_ (iA 3 (va_cpy al (fun _ => 0) 0 0 3)), aC D 0 a5_ (iA 2 (va_cpy mi (fun _ => 0) 0 0 2)), oC a7_ 13 [.int 0, .int 0, .null, .null], oC a2_ 18 [.ref a3_, .ref (D.2.2.1 0)], oC a3_ 4 [.int 0, .int 0]]) rfl ?_
    refine f_callV 55 hF (fc_J8_addAll_0 (KS := KS) (Hb := Hb) D l a6_ r4 0 m4 (D.2.2.1 1) 0 0 (fun _ => none) (by decide) (by decide) (by decide) iv (fun _ _ i hi => absurd hi (Nat.not_lt_zero _)) rfl) (wr := ([oC a1_ 3 [.ref rb, .ref a4_, .ref a5_, .ref a6_, .ref a7_], aC D 0 a4_ (iA 3 (va_cpy al (fun _ => 0) 0 0 3)), aC D 0 a5_ (iA 2 (va_cpy mi (fun _ => 0) 0 0 2)), oC a7_ 13 [.int 0, .int 0, .null, .null], oC a2_ 18 [.ref a3_, .ref (D.2.2.1 0)], oC a3_ 4 [.int 0, .int 0]])) rfl (fun c hc => by simp only [List.mem_cons] at hc ⊢; rcases hc with h | h | h <;> first | exact Or.inl h | exact Or.inr (Or.inl h) | exact Or.inr (Or.inr (Or.inl h)) | exact Or.inr (Or.inr (Or.inr (Or.inl h))) | exact Or.inr (Or.inr (Or.inr (Or.inr (Or.inl h)))) | exact Or.inr (Or.inr (Or.inr (Or.inr (Or.inr (Or.inl h))))) | exact Or.inr (Or.inr (Or.inr (Or.inr (Or.inr (Or.inr (Or.inl h)))))) | exact Or.inr (Or.inr (Or.inr (Or.inr (Or.inr (Or.inr (Or.inr (Or.inl h))))))) | exact Or.inr (Or.inr (Or.inr (Or.inr (Or.inr (Or.inr (Or.inr (Or.inr (h))))))))) lk_X3_54 1 yk_J8_addAll rfl ⟨by decide, by decide⟩ (fun _ z => ((z.o 0 rfl).fld 0 rfl)) rfl rfl (Nat.le_of_ble_eq_true rfl) dX3_copy_52 ⟨Nat.le_of_ble_eq_true rfl, Nat.le_of_ble_eq_true rfl⟩ rfl (fun r ws_ im' hp => ?_)
    obtain ⟨rfl, rfl, rfl⟩ := hp
    show F 8 31 ([oC a6_ 12 [.int (0 + 1), .ref (D.2.2.1 1), .int 0], oC a1_ 3 [.ref rb, .ref a4_, .ref a5_, .ref a6_, .ref a7_], aC D 0 a4_ (iA 3 (va_cpy al (fun _ => 0) 0 0 3)), aC D 0 a5_ (iA 2 (va_cpy mi (fun _ => 0) 0 0 2)), oC a7_ 13 [.int 0, .int 0, .null, .null], oC a2_ 18 [.ref a3_, .ref (D.2.2.1 0)], oC a3_ 4 [.int 0, .int 0]]) ((aC D 3 (D.2.2.1 1) (qA 0 (fun _ => none))) :: (oC r 3 [.ref rb, .ref r2, .ref r3, .ref r4, .ref r6]) :: (aC D 0 r2 (iA 3 al)) :: (aC D 0 r3 (iA 2 mi)) :: (oC r4 12 [.int m4, .ref (D.2.2.1 1), .int 0]) :: (oC r6 13 [.int m6, .int 2, .ref b6, .ref c6]) :: (oC b6 14 [.ref (f6 0), .ref c6, .null]) :: (oC c6 14 [.ref (f6 1), .null, .ref b6]) :: iv) 55 [.int 0] [(1, .ref a1_), (0, .ref r)]
    refine r_pop 56 (hF.pu _ _ _ _) dX3_copy_55 rfl rfl ?_
    refine r_aload_n 57 0 (hF.pu _ _ _ _) dX3_copy_56 rfl rfl ?_
    refine f_getf 60 hF (T := TX3) (C := RX3) 4 (v := .ref a7_) okX3 (fun _ z => ((z.o 1 rfl).fld 4 rfl)) rfl (by decide) (Or.inl q317) (Or.inl rfl) dX3_copy_57 rfl ?_
    refine r_aload_n 61 1 (hF.pu _ _ _ _) dX3_copy_60 rfl rfl ?_
    refine f_getf 64 hF (T := TX3) (C := RX3) 4 (v := .ref r6) okX3 (fun _ z => ((z.mo 1 rfl).fld 4 rfl)) rfl (by decide) (Or.inl q317) (Or.inl rfl) dX3_copy_61 rfl ?_
    refine f_ups hF [4] ([oC a7_ 13 [.int 0, .int 0, .null, .null], oC a6_ 12 [.int (0 + 1), .ref (D.2.2.1 1), .int 0], oC a1_ 3 [.ref rb, .ref a4_, .ref a5_, .ref a6_, .ref a7_], aC D 0 a4_ (iA 3 (va_cpy al (fun _ => 0) 0 0 3)), aC D 0 a5_ (iA 2 (va_cpy mi (fun _ => 0) 0 0 2)), oC a2_ 18 [.ref a3_, .ref (D.2.2.1 0)], oC a3_ 4 [.int 0, .int 0]]) rfl ?_
    refine f_callV 67 hF (fc_J10_addAll_2 (KS := KS) (Hb := Hb) D l a7_ r6 b6 c6 0 m6 f6 iv he6) (wr := ([oC a6_ 12 [.int (0 + 1), .ref (D.2.2.1 1), .int 0], oC a1_ 3 [.ref rb, .ref a4_, .ref a5_, .ref a6_, .ref a7_], aC D 0 a4_ (iA 3 (va_cpy al (fun _ => 0) 0 0 3)), aC D 0 a5_ (iA 2 (va_cpy mi (fun _ => 0) 0 0 2)), oC a2_ 18 [.ref a3_, .ref (D.2.2.1 0)], oC a3_ 4 [.int 0, .int 0]])) rfl (fun c hc => by simp only [List.mem_cons] at hc ⊢; rcases hc with h | h | h | h <;> first | exact Or.inl h | exact Or.inr (Or.inl h) | exact Or.inr (Or.inr (Or.inl h)) | exact Or.inr (Or.inr (Or.inr (Or.inl h))) | exact Or.inr (Or.inr (Or.inr (Or.inr (Or.inl h)))) | exact Or.inr (Or.inr (Or.inr (Or.inr (Or.inr (Or.inl h))))) | exact Or.inr (Or.inr (Or.inr (Or.inr (Or.inr (Or.inr (Or.inl h)))))) | exact Or.inr (Or.inr (Or.inr (Or.inr (Or.inr (Or.inr (Or.inr (Or.inl h))))))) | exact Or.inr (Or.inr (Or.inr (Or.inr (Or.inr (Or.inr (Or.inr (Or.inr (h))))))))) lk_X3_58 1 yk_J10_addAll rfl ⟨by decide, by decide⟩ (fun _ z => ((z.o 0 rfl).fld 0 rfl)) rfl rfl (Nat.le_of_ble_eq_true rfl) dX3_copy_64 ⟨Nat.le_of_ble_eq_true rfl, Nat.le_of_ble_eq_true rfl⟩ rfl (fun r ws_ im' hp => ?_)
    obtain ⟨a8_, a9_, rfl, rfl, rfl⟩ := hp
    show F 11 39 ([oC a7_ 13 [.int (0 + 1), .int 2, .ref a8_, .ref a9_], oC a8_ 14 [.ref (f6 0), .ref a9_, .null], oC a9_ 14 [.ref (f6 1), .null, .ref a8_], oC a6_ 12 [.int (0 + 1), .ref (D.2.2.1 1), .int 0], oC a1_ 3 [.ref rb, .ref a4_, .ref a5_, .ref a6_, .ref a7_], aC D 0 a4_ (iA 3 (va_cpy al (fun _ => 0) 0 0 3)), aC D 0 a5_ (iA 2 (va_cpy mi (fun _ => 0) 0 0 2)), oC a2_ 18 [.ref a3_, .ref (D.2.2.1 0)], oC a3_ 4 [.int 0, .int 0]]) ((aC D 3 (D.2.2.1 1) (qA 0 (fun _ => none))) :: (oC r 3 [.ref rb, .ref r2, .ref r3, .ref r4, .ref r6]) :: (aC D 0 r2 (iA 3 al)) :: (aC D 0 r3 (iA 2 mi)) :: (oC r4 12 [.int m4, .ref (D.2.2.1 1), .int 0]) :: (oC r6 13 [.int m6, .int 2, .ref b6, .ref c6]) :: (oC b6 14 [.ref (f6 0), .ref c6, .null]) :: (oC c6 14 [.ref (f6 1), .null, .ref b6]) :: iv) 67 [.int 1] [(1, .ref a1_), (0, .ref r)]
    refine r_pop 68 (hF.pu _ _ _ _) dX3_copy_67 rfl rfl ?_
    refine r_aload_n 69 0 (hF.pu _ _ _ _) dX3_copy_68 rfl rfl ?_
    refine f_kp hF [true, true, true, true, true, true, true, false, false] ([oC a7_ 13 [.int (0 + 1), .int 2, .ref a8_, .ref a9_], oC a8_ 14 [.ref (f6 0), .ref a9_, .null], oC a9_ 14 [.ref (f6 1), .null, .ref a8_], oC a6_ 12 [.int (0 + 1), .ref (D.2.2.1 1), .int 0], oC a1_ 3 [.ref rb, .ref a4_, .ref a5_, .ref a6_, .ref a7_], aC D 0 a4_ (iA 3 (va_cpy al (fun _ => 0) 0 0 3)), aC D 0 a5_ (iA 2 (va_cpy mi (fun _ => 0) 0 0 2))]) rfl ?_
    refine f_ups hF [2] ([oC a9_ 14 [.ref (f6 1), .null, .ref a8_], oC a7_ 13 [.int (0 + 1), .int 2, .ref a8_, .ref a9_], oC a8_ 14 [.ref (f6 0), .ref a9_, .null], oC a6_ 12 [.int (0 + 1), .ref (D.2.2.1 1), .int 0], oC a1_ 3 [.ref rb, .ref a4_, .ref a5_, .ref a6_, .ref a7_], aC D 0 a4_ (iA 3 (va_cpy al (fun _ => 0) 0 0 3)), aC D 0 a5_ (iA 2 (va_cpy mi (fun _ => 0) 0 0 2))]) rfl ?_
    refine f_ups hF [2] ([oC a8_ 14 [.ref (f6 0), .ref a9_, .null], oC a9_ 14 [.ref (f6 1), .null, .ref a8_], oC a7_ 13 [.int (0 + 1), .int 2, .ref a8_, .ref a9_], oC a6_ 12 [.int (0 + 1), .ref (D.2.2.1 1), .int 0], oC a1_ 3 [.ref rb, .ref a4_, .ref a5_, .ref a6_, .ref a7_], aC D 0 a4_ (iA 3 (va_cpy al (fun _ => 0) 0 0 3)), aC D 0 a5_ (iA 2 (va_cpy mi (fun _ => 0) 0 0 2))]) rfl ?_
    refine f_ups hF [2] ([oC a7_ 13 [.int (0 + 1), .int 2, .ref a8_, .ref a9_], oC a8_ 14 [.ref (f6 0), .ref a9_, .null], oC a9_ 14 [.ref (f6 1), .null, .ref a8_], oC a6_ 12 [.int (0 + 1), .ref (D.2.2.1 1), .int 0], oC a1_ 3 [.ref rb, .ref a4_, .ref a5_, .ref a6_, .ref a7_], aC D 0 a4_ (iA 3 (va_cpy al (fun _ => 0) 0 0 3)), aC D 0 a5_ (iA 2 (va_cpy mi (fun _ => 0) 0 0 2))]) rfl ?_
    refine f_ups hF [3] ([oC a6_ 12 [.int (0 + 1), .ref (D.2.2.1 1), .int 0], oC a7_ 13 [.int (0 + 1), .int 2, .ref a8_, .ref a9_], oC a8_ 14 [.ref (f6 0), .ref a9_, .null], oC a9_ 14 [.ref (f6 1), .null, .ref a8_], oC a1_ 3 [.ref rb, .ref a4_, .ref a5_, .ref a6_, .ref a7_], aC D 0 a4_ (iA 3 (va_cpy al (fun _ => 0) 0 0 3)), aC D 0 a5_ (iA 2 (va_cpy mi (fun _ => 0) 0 0 2))]) rfl ?_
    refine f_ups hF [6] ([aC D 0 a5_ (iA 2 (va_cpy mi (fun _ => 0) 0 0 2)), oC a6_ 12 [.int (0 + 1), .ref (D.2.2.1 1), .int 0], oC a7_ 13 [.int (0 + 1), .int 2, .ref a8_, .ref a9_], oC a8_ 14 [.ref (f6 0), .ref a9_, .null], oC a9_ 14 [.ref (f6 1), .null, .ref a8_], oC a1_ 3 [.ref rb, .ref a4_, .ref a5_, .ref a6_, .ref a7_], aC D 0 a4_ (iA 3 (va_cpy al (fun _ => 0) 0 0 3))]) rfl ?_
    refine f_ups hF [6] ([aC D 0 a4_ (iA 3 (va_cpy al (fun _ => 0) 0 0 3)), aC D 0 a5_ (iA 2 (va_cpy mi (fun _ => 0) 0 0 2)), oC a6_ 12 [.int (0 + 1), .ref (D.2.2.1 1), .int 0], oC a7_ 13 [.int (0 + 1), .int 2, .ref a8_, .ref a9_], oC a8_ 14 [.ref (f6 0), .ref a9_, .null], oC a9_ 14 [.ref (f6 1), .null, .ref a8_], oC a1_ 3 [.ref rb, .ref a4_, .ref a5_, .ref a6_, .ref a7_]]) rfl ?_
    refine f_ups hF [6] ([oC a1_ 3 [.ref rb, .ref a4_, .ref a5_, .ref a6_, .ref a7_], aC D 0 a4_ (iA 3 (va_cpy al (fun _ => 0) 0 0 3)), aC D 0 a5_ (iA 2 (va_cpy mi (fun _ => 0) 0 0 2)), oC a6_ 12 [.int (0 + 1), .ref (D.2.2.1 1), .int 0], oC a7_ 13 [.int (0 + 1), .int 2, .ref a8_, .ref a9_], oC a8_ 14 [.ref (f6 0), .ref a9_, .null], oC a9_ 14 [.ref (f6 1), .null, .ref a8_]]) rfl ?_
    refine f_imsub hF [] (imk [] rfl) ?_
    exact FR.a hR (Or.inl ⟨_, rfl⟩) dX3_copy_69 (Nat.le_of_ble_eq_true rfl) (Nat.le_of_ble_eq_true rfl) ⟨_, rfl, rfl, _, _, _, _, _, _, [oC a6_ 12 [.int (0 + 1), .ref (D.2.2.1 1), .int 0]], [oC a7_ 13 [.int (0 + 1), .int 2, .ref a8_, .ref a9_], oC a8_ 14 [.ref (f6 0), .ref a9_, .null], oC a9_ 14 [.ref (f6 1), .null, .ref a8_]], rfl, ⟨_, Or.inl ⟨rfl, rfl⟩⟩, ⟨_, Or.inr (Or.inr ⟨rfl, _, _, rfl⟩)⟩, fun j hj => by simp [va_cpy, hj]; exact hal j hj, fun j hj => by simp [va_cpy, hj]; exact hmi j hj⟩
  · show F 0 0 ([]) ((oC r 3 [.ref rb, .ref r2, .ref r3, .ref r4, .ref r6]) :: (aC D 0 r2 (iA 3 al)) :: (aC D 0 r3 (iA 2 mi)) :: (oC r4 12 [.int m4, .ref e4, .int (nI nch)]) :: (aC D 3 e4 (qA 10 g4)) :: (oC r6 13 [.int m6, .int 0, .null, .null]) :: iv) 0 [] [(0, .ref r)]
    refine f_new 3 hF (ci := 3) [.null, .null, .null, .null, .null] okX3 rfl q605 q188 q104 dvX3 ⟨Nat.le_of_ble_eq_true rfl, Nat.le_of_ble_eq_true rfl⟩ dX3_copy_0 rfl (fun a1_ => ?_)
    refine r_dup 4 (hF.pu _ _ _ _) dX3_copy_3 rfl rfl ?_
    refine f_callI 7 hF (fc_X3_init (KS := KS) (Hb := Hb) D l a1_) (wr := ([])) rfl (imk [] rfl) q191 q104 q606 q190 rfl 0 yk_X3_init rfl ⟨by decide, by decide⟩ rfl (Nat.le_of_ble_eq_true rfl) dX3_copy_4 ⟨Nat.le_of_ble_eq_true rfl, Nat.le_of_ble_eq_true rfl⟩ rfl (fun r ws_ im' hp => ?_)
    obtain ⟨a2_, a3_, a4_, a5_, a6_, a7_, rfl, rfl, rfl⟩ := hp
    show F 7 21 ([oC a1_ 3 [.ref a2_, .ref a4_, .ref a5_, .ref a6_, .ref a7_], aC D 0 a4_ (iA 3 (fun _ => 0)), aC D 0 a5_ (iA 2 (fun _ => 0)), oC a6_ 12 [.int 0, .ref (D.2.2.1 1), .int 0], oC a7_ 13 [.int 0, .int 0, .null, .null], oC a2_ 18 [.ref a3_, .ref (D.2.2.1 0)], oC a3_ 4 [.int 0, .int 0]]) ((oC r 3 [.ref rb, .ref r2, .ref r3, .ref r4, .ref r6]) :: (aC D 0 r2 (iA 3 al)) :: (aC D 0 r3 (iA 2 mi)) :: (oC r4 12 [.int m4, .ref e4, .int (nI nch)]) :: (aC D 3 e4 (qA 10 g4)) :: (oC r6 13 [.int m6, .int 0, .null, .null]) :: iv) 7 [.ref a1_] [(0, .ref r)]
    refine r_astore_n 8 [(1, .ref a1_), (0, .ref r)] (hF.pu _ _ _ _) dX3_copy_7 rfl (by decide) rfl rfl ?_
    refine r_aload_n 9 0 (hF.pu _ _ _ _) dX3_copy_8 rfl rfl ?_
    refine r_aload_n 10 1 (hF.pu _ _ _ _) dX3_copy_9 rfl rfl ?_
    refine f_getf 13 hF (T := TX3) (C := RX3) 0 (v := .ref rb) okX3 (fun _ z => ((z.mo 0 rfl).fld 0 rfl)) rfl (by decide) (Or.inl q305) (Or.inl rfl) dX3_copy_10 rfl ?_
    refine f_put 16 hF 0 (T := TX3) (C := RX3) ([oC a1_ 3 [.ref rb, .ref a4_, .ref a5_, .ref a6_, .ref a7_], aC D 0 a4_ (iA 3 (fun _ => 0)), aC D 0 a5_ (iA 2 (fun _ => 0)), oC a6_ 12 [.int 0, .ref (D.2.2.1 1), .int 0], oC a7_ 13 [.int 0, .int 0, .null, .null], oC a2_ 18 [.ref a3_, .ref (D.2.2.1 0)], oC a3_ 4 [.int 0, .int 0]]) okX3 rfl rfl 0 (by decide) (Or.inl q305) (Or.inl rfl) rfl rfl rfl (Nat.le_of_ble_eq_true rfl) rfl dX3_copy_13 rfl ?_
    refine r_aload_n 17 1 (hF.pu _ _ _ _) dX3_copy_16 rfl rfl ?_
    refine f_getf 20 hF (T := TX3) (C := RX3) 1 (v := .ref r2) okX3 (fun _ z => ((z.mo 0 rfl).fld 1 rfl)) rfl (by decide) (Or.inl q308) (Or.inl rfl) dX3_copy_17 rfl ?_
    refine r_iconst 21 0 (hF.pu _ _ _ _) dX3_copy_20 (by decide) rfl ?_
    refine r_aload_n 22 0 (hF.pu _ _ _ _) dX3_copy_21 rfl rfl ?_
    refine f_getf 25 hF (T := TX3) (C := RX3) 1 (v := .ref a4_) okX3 (fun _ z => ((z.o 0 rfl).fld 1 rfl)) rfl (by decide) (Or.inl q308) (Or.inl rfl) dX3_copy_22 rfl ?_
    refine r_iconst 26 0 (hF.pu _ _ _ _) dX3_copy_25 (by decide) rfl ?_
    refine r_iconst 27 3 (hF.pu _ _ _ _) dX3_copy_26 (by decide) rfl ?_
    refine f_copyi 30 hF 1 0 0 3 ([oC a1_ 3 [.ref rb, .ref a4_, .ref a5_, .ref a6_, .ref a7_], aC D 0 a4_ (iA 3 (va_cpy al (fun _ => 0) 0 0 3)), aC D 0 a5_ (iA 2 (fun _ => 0)), oC a6_ 12 [.int 0, .ref (D.2.2.1 1), .int 0], oC a7_ 13 [.int 0, .int 0, .null, .null], oC a2_ 18 [.ref a3_, .ref (D.2.2.1 0)], oC a3_ 4 [.int 0, .int 0]]) (fun _ z => (z.ma 1 rfl)) rfl q607 rfl rfl rfl (by omega) (by omega) ⟨by omega, by omega⟩ rfl ⟨by decide, by decide⟩ (Nat.le_of_ble_eq_true rfl) dX3_copy_27 rfl ?_
    refine r_aload_n 31 1 (hF.pu _ _ _ _) dX3_copy_30 rfl rfl ?_
    refine f_getf 34 hF (T := TX3) (C := RX3) 2 (v := .ref r3) okX3 (fun _ z => ((z.mo 0 rfl).fld 2 rfl)) rfl (by decide) (Or.inl q311) (Or.inl rfl) dX3_copy_31 rfl ?_
    refine r_iconst 35 0 (hF.pu _ _ _ _) dX3_copy_34 (by decide) rfl ?_
    refine r_aload_n 36 0 (hF.pu _ _ _ _) dX3_copy_35 rfl rfl ?_
    refine f_getf 39 hF (T := TX3) (C := RX3) 2 (v := .ref a5_) okX3 (fun _ z => ((z.o 0 rfl).fld 2 rfl)) rfl (by decide) (Or.inl q311) (Or.inl rfl) dX3_copy_36 rfl ?_
    refine r_iconst 40 0 (hF.pu _ _ _ _) dX3_copy_39 (by decide) rfl ?_
    refine r_iconst 41 2 (hF.pu _ _ _ _) dX3_copy_40 (by decide) rfl ?_
    refine f_copyi 44 hF 2 0 0 2 ([oC a1_ 3 [.ref rb, .ref a4_, .ref a5_, .ref a6_, .ref a7_], aC D 0 a4_ (iA 3 (va_cpy al (fun _ => 0) 0 0 3)), aC D 0 a5_ (iA 2 (va_cpy mi (fun _ => 0) 0 0 2)), oC a6_ 12 [.int 0, .ref (D.2.2.1 1), .int 0], oC a7_ 13 [.int 0, .int 0, .null, .null], oC a2_ 18 [.ref a3_, .ref (D.2.2.1 0)], oC a3_ 4 [.int 0, .int 0]]) (fun _ z => (z.ma 2 rfl)) rfl q607 rfl rfl rfl (by omega) (by omega) ⟨by omega, by omega⟩ rfl ⟨by decide, by decide⟩ (Nat.le_of_ble_eq_true rfl) dX3_copy_41 rfl ?_
    refine r_aload_n 45 0 (hF.pu _ _ _ _) dX3_copy_44 rfl rfl ?_
    refine f_getf 48 hF (T := TX3) (C := RX3) 3 (v := .ref a6_) okX3 (fun _ z => ((z.o 0 rfl).fld 3 rfl)) rfl (by decide) (Or.inl q314) (Or.inl rfl) dX3_copy_45 rfl ?_
    refine r_aload_n 49 1 (hF.pu _ _ _ _) dX3_copy_48 rfl rfl ?_
    refine f_getf 52 hF (T := TX3) (C := RX3) 3 (v := .ref r4) okX3 (fun _ z => ((z.mo 0 rfl).fld 3 rfl)) rfl (by decide) (Or.inl q314) (Or.inl rfl) dX3_copy_49 rfl ?_
    refine f_ups hF [3] ([oC a6_ 12 [.int 0, .ref (D.2.2.1 1), .int 0], oC a1_ 3 [.ref rb, .ref a4_, .ref a5_, .ref a6_, .ref a7_], aC D 0 a4_ (iA 3 (va_cpy al (fun _ => 0) 0 0 3)), aC D 0 a5_ (iA 2 (va_cpy mi (fun _ => 0) 0 0 2)), oC a7_ 13 [.int 0, .int 0, .null, .null], oC a2_ 18 [.ref a3_, .ref (D.2.2.1 0)], oC a3_ 4 [.int 0, .int 0]]) rfl ?_
    refine f_callV 55 hF (fc_J8_addAll_n (KS := KS) (Hb := Hb) D l a6_ r4 0 m4 e4 nch 10 g4 (by decide) (by omega) (by omega) iv (fun H h i hi y hy => by rw [h43 i hi] at hy; cases hy; exact he4 H h i hi) h41) (wr := ([oC a1_ 3 [.ref rb, .ref a4_, .ref a5_, .ref a6_, .ref a7_], aC D 0 a4_ (iA 3 (va_cpy al (fun _ => 0) 0 0 3)), aC D 0 a5_ (iA 2 (va_cpy mi (fun _ => 0) 0 0 2)), oC a7_ 13 [.int 0, .int 0, .null, .null], oC a2_ 18 [.ref a3_, .ref (D.2.2.1 0)], oC a3_ 4 [.int 0, .int 0]])) rfl (fun c hc => by simp only [List.mem_cons] at hc ⊢; rcases hc with h | h | h <;> first | exact Or.inl h | exact Or.inr (Or.inl h) | exact Or.inr (Or.inr (Or.inl h)) | exact Or.inr (Or.inr (Or.inr (Or.inl h))) | exact Or.inr (Or.inr (Or.inr (Or.inr (Or.inl h)))) | exact Or.inr (Or.inr (Or.inr (Or.inr (Or.inr (Or.inl h))))) | exact Or.inr (Or.inr (Or.inr (Or.inr (Or.inr (Or.inr (h))))))) lk_X3_54 1 yk_J8_addAll rfl ⟨by decide, by decide⟩ (fun _ z => ((z.o 0 rfl).fld 0 rfl)) rfl rfl (Nat.le_of_ble_eq_true rfl) dX3_copy_52 ⟨Nat.le_of_ble_eq_true rfl, Nat.le_of_ble_eq_true rfl⟩ rfl (fun r ws_ im' hp => ?_)
    obtain ⟨a8_, rfl, rfl, rfl⟩ := hp
    show F 9 41 ([oC a6_ 12 [.int (0 + 1), .ref a8_, .int (nI nch)], aC D 3 a8_ (qA 10 (va_cpy (va_cpy g4 (fun _ => none) 0 0 nch) (fun _ => none) 0 0 nch)), oC a1_ 3 [.ref rb, .ref a4_, .ref a5_, .ref a6_, .ref a7_], aC D 0 a4_ (iA 3 (va_cpy al (fun _ => 0) 0 0 3)), aC D 0 a5_ (iA 2 (va_cpy mi (fun _ => 0) 0 0 2)), oC a7_ 13 [.int 0, .int 0, .null, .null], oC a2_ 18 [.ref a3_, .ref (D.2.2.1 0)], oC a3_ 4 [.int 0, .int 0]]) ((oC r 3 [.ref rb, .ref r2, .ref r3, .ref r4, .ref r6]) :: (aC D 0 r2 (iA 3 al)) :: (aC D 0 r3 (iA 2 mi)) :: (oC r4 12 [.int m4, .ref e4, .int (nI nch)]) :: (aC D 3 e4 (qA 10 g4)) :: (oC r6 13 [.int m6, .int 0, .null, .null]) :: iv) 55 [.int 1] [(1, .ref a1_), (0, .ref r)]
    refine r_pop 56 (hF.pu _ _ _ _) dX3_copy_55 rfl rfl ?_
    refine r_aload_n 57 0 (hF.pu _ _ _ _) dX3_copy_56 rfl rfl ?_
    refine f_getf 60 hF (T := TX3) (C := RX3) 4 (v := .ref a7_) okX3 (fun _ z => ((z.o 2 rfl).fld 4 rfl)) rfl (by decide) (Or.inl q317) (Or.inl rfl) dX3_copy_57 rfl ?_
    refine r_aload_n 61 1 (hF.pu _ _ _ _) dX3_copy_60 rfl rfl ?_
    refine f_getf 64 hF (T := TX3) (C := RX3) 4 (v := .ref r6) okX3 (fun _ z => ((z.mo 0 rfl).fld 4 rfl)) rfl (by decide) (Or.inl q317) (Or.inl rfl) dX3_copy_61 rfl ?_
    refine f_ups hF [5] ([oC a7_ 13 [.int 0, .int 0, .null, .null], oC a6_ 12 [.int (0 + 1), .ref a8_, .int (nI nch)], aC D 3 a8_ (qA 10 (va_cpy (va_cpy g4 (fun _ => none) 0 0 nch) (fun _ => none) 0 0 nch)), oC a1_ 3 [.ref rb, .ref a4_, .ref a5_, .ref a6_, .ref a7_], aC D 0 a4_ (iA 3 (va_cpy al (fun _ => 0) 0 0 3)), aC D 0 a5_ (iA 2 (va_cpy mi (fun _ => 0) 0 0 2)), oC a2_ 18 [.ref a3_, .ref (D.2.2.1 0)], oC a3_ 4 [.int 0, .int 0]]) rfl ?_
    refine f_callV 67 hF (fc_J10_addAll_0 (KS := KS) (Hb := Hb) D l a7_ r6 0 0 0 m6 f6 iv he6) (wr := ([oC a6_ 12 [.int (0 + 1), .ref a8_, .int (nI nch)], aC D 3 a8_ (qA 10 (va_cpy (va_cpy g4 (fun _ => none) 0 0 nch) (fun _ => none) 0 0 nch)), oC a1_ 3 [.ref rb, .ref a4_, .ref a5_, .ref a6_, .ref a7_], aC D 0 a4_ (iA 3 (va_cpy al (fun _ => 0) 0 0 3)), aC D 0 a5_ (iA 2 (va_cpy mi (fun _ => 0) 0 0 2)), oC a2_ 18 [.ref a3_, .ref (D.2.2.1 0)], oC a3_ 4 [.int 0, .int 0]])) rfl (fun c hc => by simp only [List.mem_cons] at hc ⊢; rcases hc with h | h <;> first | exact Or.inl h | exact Or.inr (Or.inl h) | exact Or.inr (Or.inr (Or.inl h)) | exact Or.inr (Or.inr (Or.inr (Or.inl h))) | exact Or.inr (Or.inr (Or.inr (Or.inr (Or.inl h)))) | exact Or.inr (Or.inr (Or.inr (Or.inr (Or.inr (Or.inl h))))) | exact Or.inr (Or.inr (Or.inr (Or.inr (Or.inr (Or.inr (h))))))) lk_X3_58 1 yk_J10_addAll rfl ⟨by decide, by decide⟩ (fun _ z => ((z.o 0 rfl).fld 0 rfl)) rfl rfl (Nat.le_of_ble_eq_true rfl) dX3_copy_64 ⟨Nat.le_of_ble_eq_true rfl, Nat.le_of_ble_eq_true rfl⟩ rfl (fun r ws_ im' hp => ?_)
    obtain ⟨rfl, rfl, rfl⟩ := hp
    show F 10 41 ([oC a7_ 13 [.int 0, .int 0, .null, .null], oC a6_ 12 [.int (0 + 1), .ref a8_, .int (nI nch)], aC D 3 a8_ (qA 10 (va_cpy (va_cpy g4 (fun _ => none) 0 0 nch) (fun _ => none) 0 0 nch)), oC a1_ 3 [.ref rb, .ref a4_, .ref a5_, .ref a6_, .ref a7_], aC D 0 a4_ (iA 3 (va_cpy al (fun _ => 0) 0 0 3)), aC D 0 a5_ (iA 2 (va_cpy mi (fun _ => 0) 0 0 2)), oC a2_ 18 [.ref a3_, .ref (D.2.2.1 0)], oC a3_ 4 [.int 0, .int 0]]) ((oC r 3 [.ref rb, .ref r2, .ref r3, .ref r4, .ref r6]) :: (aC D 0 r2 (iA 3 al)) :: (aC D 0 r3 (iA 2 mi)) :: (oC r4 12 [.int m4, .ref e4, .int (nI nch)]) :: (aC D 3 e4 (qA 10 g4)) :: (oC r6 13 [.int m6, .int 0, .null, .null]) :: iv) 67 [.int 0] [(1, .ref a1_), (0, .ref r)]
    refine r_pop 68 (hF.pu _ _ _ _) dX3_copy_67 rfl rfl ?_
    refine r_aload_n 69 0 (hF.pu _ _ _ _) dX3_copy_68 rfl rfl ?_
    refine f_kp hF [true, true, true, true, true, true, false, false] ([oC a7_ 13 [.int 0, .int 0, .null, .null], oC a6_ 12 [.int (0 + 1), .ref a8_, .int (nI nch)], aC D 3 a8_ (qA 10 (va_cpy (va_cpy g4 (fun _ => none) 0 0 nch) (fun _ => none) 0 0 nch)), oC a1_ 3 [.ref rb, .ref a4_, .ref a5_, .ref a6_, .ref a7_], aC D 0 a4_ (iA 3 (va_cpy al (fun _ => 0) 0 0 3)), aC D 0 a5_ (iA 2 (va_cpy mi (fun _ => 0) 0 0 2))]) rfl ?_
    refine f_ups hF [2] ([aC D 3 a8_ (qA 10 (va_cpy (va_cpy g4 (fun _ => none) 0 0 nch) (fun _ => none) 0 0 nch)), oC a7_ 13 [.int 0, .int 0, .null, .null], oC a6_ 12 [.int (0 + 1), .ref a8_, .int (nI nch)], oC a1_ 3 [.ref rb, .ref a4_, .ref a5_, .ref a6_, .ref a7_], aC D 0 a4_ (iA 3 (va_cpy al (fun _ => 0) 0 0 3)), aC D 0 a5_ (iA 2 (va_cpy mi (fun _ => 0) 0 0 2))]) rfl ?_
    refine f_ups hF [2] ([oC a6_ 12 [.int (0 + 1), .ref a8_, .int (nI nch)], aC D 3 a8_ (qA 10 (va_cpy (va_cpy g4 (fun _ => none) 0 0 nch) (fun _ => none) 0 0 nch)), oC a7_ 13 [.int 0, .int 0, .null, .null], oC a1_ 3 [.ref rb, .ref a4_, .ref a5_, .ref a6_, .ref a7_], aC D 0 a4_ (iA 3 (va_cpy al (fun _ => 0) 0 0 3)), aC D 0 a5_ (iA 2 (va_cpy mi (fun _ => 0) 0 0 2))]) rfl ?_
    refine f_ups hF [5] ([aC D 0 a5_ (iA 2 (va_cpy mi (fun _ => 0) 0 0 2)), oC a6_ 12 [.int (0 + 1), .ref a8_, .int (nI nch)], aC D 3 a8_ (qA 10 (va_cpy (va_cpy g4 (fun _ => none) 0 0 nch) (fun _ => none) 0 0 nch)), oC a7_ 13 [.int 0, .int 0, .null, .null], oC a1_ 3 [.ref rb, .ref a4_, .ref a5_, .ref a6_, .ref a7_], aC D 0 a4_ (iA 3 (va_cpy al (fun _ => 0) 0 0 3))]) rfl ?_
    refine f_ups hF [5] ([aC D 0 a4_ (iA 3 (va_cpy al (fun _ => 0) 0 0 3)), aC D 0 a5_ (iA 2 (va_cpy mi (fun _ => 0) 0 0 2)), oC a6_ 12 [.int (0 + 1), .ref a8_, .int (nI nch)], aC D 3 a8_ (qA 10 (va_cpy (va_cpy g4 (fun _ => none) 0 0 nch) (fun _ => none) 0 0 nch)), oC a7_ 13 [.int 0, .int 0, .null, .null], oC a1_ 3 [.ref rb, .ref a4_, .ref a5_, .ref a6_, .ref a7_]]) rfl ?_
    refine f_ups hF [5] ([oC a1_ 3 [.ref rb, .ref a4_, .ref a5_, .ref a6_, .ref a7_], aC D 0 a4_ (iA 3 (va_cpy al (fun _ => 0) 0 0 3)), aC D 0 a5_ (iA 2 (va_cpy mi (fun _ => 0) 0 0 2)), oC a6_ 12 [.int (0 + 1), .ref a8_, .int (nI nch)], aC D 3 a8_ (qA 10 (va_cpy (va_cpy g4 (fun _ => none) 0 0 nch) (fun _ => none) 0 0 nch)), oC a7_ 13 [.int 0, .int 0, .null, .null]]) rfl ?_
    refine f_imsub hF [] (imk [] rfl) ?_
    exact FR.a hR (Or.inl ⟨_, rfl⟩) dX3_copy_69 (Nat.le_of_ble_eq_true rfl) (Nat.le_of_ble_eq_true rfl) ⟨_, rfl, rfl, _, _, _, _, _, _, [oC a6_ 12 [.int (0 + 1), .ref a8_, .int (nI nch)], aC D 3 a8_ (qA 10 (va_cpy (va_cpy g4 (fun _ => none) 0 0 nch) (fun _ => none) 0 0 nch))], [oC a7_ 13 [.int 0, .int 0, .null, .null]], rfl, ⟨_, Or.inr ⟨h41, h42, _, _, rfl, fun i hi => by simp [va_cpy, hi]; exact h43 i hi⟩⟩, ⟨_, Or.inl ⟨rfl, rfl⟩⟩, fun j hj => by simp [va_cpy, hj]; exact hal j hj, fun j hj => by simp [va_cpy, hj]; exact hmi j hj⟩
  · show F 0 0 ([]) ((oC r 3 [.ref rb, .ref r2, .ref r3, .ref r4, .ref r6]) :: (aC D 0 r2 (iA 3 al)) :: (aC D 0 r3 (iA 2 mi)) :: (oC r4 12 [.int m4, .ref e4, .int (nI nch)]) :: (aC D 3 e4 (qA 10 g4)) :: (oC r6 13 [.int m6, .int 1, .ref b6, .ref b6]) :: (oC b6 14 [.ref (f6 0), .null, .null]) :: iv) 0 [] [(0, .ref r)]
    refine f_new 3 hF (ci := 3) [.null, .null, .null, .null, .null] okX3 rfl q605 q188 q104 dvX3 ⟨Nat.le_of_ble_eq_true rfl, Nat.le_of_ble_eq_true rfl⟩ dX3_copy_0 rfl (fun a1_ => ?_)
    refine r_dup 4 (hF.pu _ _ _ _) dX3_copy_3 rfl rfl ?_
    refine f_callI 7 hF (fc_X3_init (KS := KS) (Hb := Hb) D l a1_) (wr := ([])) rfl (imk [] rfl) q191 q104 q606 q190 rfl 0 yk_X3_init rfl ⟨by decide, by decide⟩ rfl (Nat.le_of_ble_eq_true rfl) dX3_copy_4 ⟨Nat.le_of_ble_eq_true rfl, Nat.le_of_ble_eq_true rfl⟩ rfl (fun r ws_ im' hp => ?_)
    obtain ⟨a2_, a3_, a4_, a5_, a6_, a7_, rfl, rfl, rfl⟩ := hp
    show F 7 21 ([oC a1_ 3 [.ref a2_, .ref a4_, .ref a5_, .ref a6_, .ref a7_], aC D 0 a4_ (iA 3 (fun _ => 0)), aC D 0 a5_ (iA 2 (fun _ => 0)), oC a6_ 12 [.int 0, .ref (D.2.2.1 1), .int 0], oC a7_ 13 [.int 0, .int 0, .null, .null], oC a2_ 18 [.ref a3_, .ref (D.2.2.1 0)], oC a3_ 4 [.int 0, .int 0]]) ((oC r 3 [.ref rb, .ref r2, .ref r3, .ref r4, .ref r6]) :: (aC D 0 r2 (iA 3 al)) :: (aC D 0 r3 (iA 2 mi)) :: (oC r4 12 [.int m4, .ref e4, .int (nI nch)]) :: (aC D 3 e4 (qA 10 g4)) :: (oC r6 13 [.int m6, .int 1, .ref b6, .ref b6]) :: (oC b6 14 [.ref (f6 0), .null, .null]) :: iv) 7 [.ref a1_] [(0, .ref r)]
    refine r_astore_n 8 [(1, .ref a1_), (0, .ref r)] (hF.pu _ _ _ _) dX3_copy_7 rfl (by decide) rfl rfl ?_
    refine r_aload_n 9 0 (hF.pu _ _ _ _) dX3_copy_8 rfl rfl ?_
    refine r_aload_n 10 1 (hF.pu _ _ _ _) dX3_copy_9 rfl rfl ?_
    refine f_getf 13 hF (T := TX3) (C := RX3) 0 (v := .ref rb) okX3 (fun _ z => ((z.mo 0 rfl).fld 0 rfl)) rfl (by decide) (Or.inl q305) (Or.inl rfl) dX3_copy_10 rfl ?_
    refine f_put 16 hF 0 (T := TX3) (C := RX3) ([oC a1_ 3 [.ref rb, .ref a4_, .ref a5_, .ref a6_, .ref a7_], aC D 0 a4_ (iA 3 (fun _ => 0)), aC D 0 a5_ (iA 2 (fun _ => 0)), oC a6_ 12 [.int 0, .ref (D.2.2.1 1), .int 0], oC a7_ 13 [.int 0, .int 0, .null, .null], oC a2_ 18 [.ref a3_, .ref (D.2.2.1 0)], oC a3_ 4 [.int 0, .int 0]]) okX3 rfl rfl 0 (by decide) (Or.inl q305) (Or.inl rfl) rfl rfl rfl (Nat.le_of_ble_eq_true rfl) rfl dX3_copy_13 rfl ?_
    refine r_aload_n 17 1 (hF.pu _ _ _ _) dX3_copy_16 rfl rfl ?_
    refine f_getf 20 hF (T := TX3) (C := RX3) 1 (v := .ref r2) okX3 (fun _ z => ((z.mo 0 rfl).fld 1 rfl)) rfl (by decide) (Or.inl q308) (Or.inl rfl) dX3_copy_17 rfl ?_
    refine r_iconst 21 0 (hF.pu _ _ _ _) dX3_copy_20 (by decide) rfl ?_
    refine r_aload_n 22 0 (hF.pu _ _ _ _) dX3_copy_21 rfl rfl ?_
    refine f_getf 25 hF (T := TX3) (C := RX3) 1 (v := .ref a4_) okX3 (fun _ z => ((z.o 0 rfl).fld 1 rfl)) rfl (by decide) (Or.inl q308) (Or.inl rfl) dX3_copy_22 rfl ?_
    refine r_iconst 26 0 (hF.pu _ _ _ _) dX3_copy_25 (by decide) rfl ?_
    refine r_iconst 27 3 (hF.pu _ _ _ _) dX3_copy_26 (by decide) rfl ?_
    refine f_copyi 30 hF 1 0 0 3 ([oC a1_ 3 [.ref rb, .ref a4_, .ref a5_, .ref a6_, .ref a7_], aC D 0 a4_ (iA 3 (va_cpy al (fun _ => 0) 0 0 3)), aC D 0 a5_ (iA 2 (fun _ => 0)), oC a6_ 12 [.int 0, .ref (D.2.2.1 1), .int 0], oC a7_ 13 [.int 0, .int 0, .null, .null], oC a2_ 18 [.ref a3_, .ref (D.2.2.1 0)], oC a3_ 4 [.int 0, .int 0]]) (fun _ z => (z.ma 1 rfl)) rfl q607 rfl rfl rfl (by omega) (by omega) ⟨by omega, by omega⟩ rfl ⟨by decide, by decide⟩ (Nat.le_of_ble_eq_true rfl) dX3_copy_27 rfl ?_
    refine r_aload_n 31 1 (hF.pu _ _ _ _) dX3_copy_30 rfl rfl ?_
    refine f_getf 34 hF (T := TX3) (C := RX3) 2 (v := .ref r3) okX3 (fun _ z => ((z.mo 0 rfl).fld 2 rfl)) rfl (by decide) (Or.inl q311) (Or.inl rfl) dX3_copy_31 rfl ?_
    refine r_iconst 35 0 (hF.pu _ _ _ _) dX3_copy_34 (by decide) rfl ?_
    refine r_aload_n 36 0 (hF.pu _ _ _ _) dX3_copy_35 rfl rfl ?_
    refine f_getf 39 hF (T := TX3) (C := RX3) 2 (v := .ref a5_) okX3 (fun _ z => ((z.o 0 rfl).fld 2 rfl)) rfl (by decide) (Or.inl q311) (Or.inl rfl) dX3_copy_36 rfl ?_
    refine r_iconst 40 0 (hF.pu _ _ _ _) dX3_copy_39 (by decide) rfl ?_
    refine r_iconst 41 2 (hF.pu _ _ _ _) dX3_copy_40 (by decide) rfl ?_
    refine f_copyi 44 hF 2 0 0 2 ([oC a1_ 3 [.ref rb, .ref a4_, .ref a5_, .ref a6_, .ref a7_], aC D 0 a4_ (iA 3 (va_cpy al (fun _ => 0) 0 0 3)), aC D 0 a5_ (iA 2 (va_cpy mi (fun _ => 0) 0 0 2)), oC a6_ 12 [.int 0, .ref (D.2.2.1 1), .int 0], oC a7_ 13 [.int 0, .int 0, .null, .null], oC a2_ 18 [.ref a3_, .ref (D.2.2.1 0)], oC a3_ 4 [.int 0, .int 0]]) (fun _ z => (z.ma 2 rfl)) rfl q607 rfl rfl rfl (by omega) (by omega) ⟨by omega, by omega⟩ rfl ⟨by decide, by decide⟩ (Nat.le_of_ble_eq_true rfl) dX3_copy_41 rfl ?_
    refine r_aload_n 45 0 (hF.pu _ _ _ _) dX3_copy_44 rfl rfl ?_
    refine f_getf 48 hF (T := TX3) (C := RX3) 3 (v := .ref a6_) okX3 (fun _ z => ((z.o 0 rfl).fld 3 rfl)) rfl (by decide) (Or.inl q314) (Or.inl rfl) dX3_copy_45 rfl ?_
    refine r_aload_n 49 1 (hF.pu _ _ _ _) dX3_copy_48 rfl rfl ?_
    refine f_getf 52 hF (T := TX3) (C := RX3) 3 (v := .ref r4) okX3 (fun _ z => ((z.mo 0 rfl).fld 3 rfl)) rfl (by decide) (Or.inl q314) (Or.inl rfl) dX3_copy_49 rfl ?_
    refine f_ups hF [3] ([oC a6_ 12 [.int 0, .ref (D.2.2.1 1), .int 0], oC a1_ 3 [.ref rb, .ref a4_, .ref a5_, .ref a6_, .ref a7_], aC D 0 a4_ (iA 3 (va_cpy al (fun _ => 0) 0 0 3)), aC D 0 a5_ (iA 2 (va_cpy mi (fun _ => 0) 0 0 2)), oC a7_ 13 [.int 0, .int 0, .null, .null], oC a2_ 18 [.ref a3_, .ref (D.2.2.1 0)], oC a3_ 4 [.int 0, .int 0]]) rfl ?_
    refine f_callV 55 hF (fc_J8_addAll_n (KS := KS) (Hb := Hb) D l a6_ r4 0 m4 e4 nch 10 g4 (by decide) (by omega) (by omega) iv (fun H h i hi y hy => by rw [h43 i hi] at hy; cases hy; exact he4 H h i hi) h41) (wr := ([oC a1_ 3 [.ref rb, .ref a4_, .ref a5_, .ref a6_, .ref a7_], aC D 0 a4_ (iA 3 (va_cpy al (fun _ => 0) 0 0 3)), aC D 0 a5_ (iA 2 (va_cpy mi (fun _ => 0) 0 0 2)), oC a7_ 13 [.int 0, .int 0, .null, .null], oC a2_ 18 [.ref a3_, .ref (D.2.2.1 0)], oC a3_ 4 [.int 0, .int 0]])) rfl (fun c hc => by simp only [List.mem_cons] at hc ⊢; rcases hc with h | h | h <;> first | exact Or.inl h | exact Or.inr (Or.inl h) | exact Or.inr (Or.inr (Or.inl h)) | exact Or.inr (Or.inr (Or.inr (Or.inl h))) | exact Or.inr (Or.inr (Or.inr (Or.inr (Or.inl h)))) | exact Or.inr (Or.inr (Or.inr (Or.inr (Or.inr (Or.inl h))))) | exact Or.inr (Or.inr (Or.inr (Or.inr (Or.inr (Or.inr (Or.inl h)))))) | exact Or.inr (Or.inr (Or.inr (Or.inr (Or.inr (Or.inr (Or.inr (h)))))))) lk_X3_54 1 yk_J8_addAll rfl ⟨by decide, by decide⟩ (fun _ z => ((z.o 0 rfl).fld 0 rfl)) rfl rfl (Nat.le_of_ble_eq_true rfl) dX3_copy_52 ⟨Nat.le_of_ble_eq_true rfl, Nat.le_of_ble_eq_true rfl⟩ rfl (fun r ws_ im' hp => ?_)
    obtain ⟨a8_, rfl, rfl, rfl⟩ := hp
    show F 9 41 ([oC a6_ 12 [.int (0 + 1), .ref a8_, .int (nI nch)], aC D 3 a8_ (qA 10 (va_cpy (va_cpy g4 (fun _ => none) 0 0 nch) (fun _ => none) 0 0 nch)), oC a1_ 3 [.ref rb, .ref a4_, .ref a5_, .ref a6_, .ref a7_], aC D 0 a4_ (iA 3 (va_cpy al (fun _ => 0) 0 0 3)), aC D 0 a5_ (iA 2 (va_cpy mi (fun _ => 0) 0 0 2)), oC a7_ 13 [.int 0, .int 0, .null, .null], oC a2_ 18 [.ref a3_, .ref (D.2.2.1 0)], oC a3_ 4 [.int 0, .int 0]]) ((oC r 3 [.ref rb, .ref r2, .ref r3, .ref r4, .ref r6]) :: (aC D 0 r2 (iA 3 al)) :: (aC D 0 r3 (iA 2 mi)) :: (oC r4 12 [.int m4, .ref e4, .int (nI nch)]) :: (aC D 3 e4 (qA 10 g4)) :: (oC r6 13 [.int m6, .int 1, .ref b6, .ref b6]) :: (oC b6 14 [.ref (f6 0), .null, .null]) :: iv) 55 [.int 1] [(1, .ref a1_), (0, .ref r)]
    refine r_pop 56 (hF.pu _ _ _ _) dX3_copy_55 rfl rfl ?_
    refine r_aload_n 57 0 (hF.pu _ _ _ _) dX3_copy_56 rfl rfl ?_
    refine f_getf 60 hF (T := TX3) (C := RX3) 4 (v := .ref a7_) okX3 (fun _ z => ((z.o 2 rfl).fld 4 rfl)) rfl (by decide) (Or.inl q317) (Or.inl rfl) dX3_copy_57 rfl ?_
    refine r_aload_n 61 1 (hF.pu _ _ _ _) dX3_copy_60 rfl rfl ?_
    refine f_getf 64 hF (T := TX3) (C := RX3) 4 (v := .ref r6) okX3 (fun _ z => ((z.mo 0 rfl).fld 4 rfl)) rfl (by decide) (Or.inl q317) (Or.inl rfl) dX3_copy_61 rfl ?_
    refine f_ups hF [5] ([oC a7_ 13 [.int 0, .int 0, .null, .null], oC a6_ 12 [.int (0 + 1), .ref a8_, .int (nI nch)], aC D 3 a8_ (qA 10 (va_cpy (va_cpy g4 (fun _ => none) 0 0 nch) (fun _ => none) 0 0 nch)), oC a1_ 3 [.ref rb, .ref a4_, .ref a5_, .ref a6_, .ref a7_], aC D 0 a4_ (iA 3 (va_cpy al (fun _ => 0) 0 0 3)), aC D 0 a5_ (iA 2 (va_cpy mi (fun _ => 0) 0 0 2)), oC a2_ 18 [.ref a3_, .ref (D.2.2.1 0)], oC a3_ 4 [.int 0, .int 0]]) rfl ?_
    refine f_callV 67 hF (fc_J10_addAll_1 (KS := KS) (Hb := Hb) D l a7_ r6 b6 0 0 m6 f6 iv he6) (wr := ([oC a6_ 12 [.int (0 + 1), .ref a8_, .int (nI nch)], aC D 3 a8_ (qA 10 (va_cpy (va_cpy g4 (fun _ => none) 0 0 nch) (fun _ => none) 0 0 nch)), oC a1_ 3 [.ref rb, .ref a4_, .ref a5_, .ref a6_, .ref a7_], aC D 0 a4_ (iA 3 (va_cpy al (fun _ => 0) 0 0 3)), aC D 0 a5_ (iA 2 (va_cpy mi (fun _ => 0) 0 0 2)), oC a2_ 18 [.ref a3_, .ref (D.2.2.1 0)], oC a3_ 4 [.int 0, .int 0]])) rfl (fun c hc => by simp only [List.mem_cons] at hc ⊢; rcases hc with h | h | h <;> first | exact Or.inl h | exact Or.inr (Or.inl h) | exact Or.inr (Or.inr (Or.inl h)) | exact Or.inr (Or.inr (Or.inr (Or.inl h))) | exact Or.inr (Or.inr (Or.inr (Or.inr (Or.inl h)))) | exact Or.inr (Or.inr (Or.inr (Or.inr (Or.inr (Or.inl h))))) | exact Or.inr (Or.inr (Or.inr (Or.inr (Or.inr (Or.inr (Or.inl h)))))) | exact Or.inr (Or.inr (Or.inr (Or.inr (Or.inr (Or.inr (Or.inr (h)))))))) lk_X3_58 1 yk_J10_addAll rfl ⟨by decide, by decide⟩ (fun _ z => ((z.o 0 rfl).fld 0 rfl)) rfl rfl (Nat.le_of_ble_eq_true rfl) dX3_copy_64 ⟨Nat.le_of_ble_eq_true rfl, Nat.le_of_ble_eq_true rfl⟩ rfl (fun r ws_ im' hp => ?_)
    obtain ⟨a9_, rfl, rfl, rfl⟩ := hp
    show F 11 45 ([oC a7_ 13 [.int (0 + 1), .int 1, .ref a9_, .ref a9_], oC a9_ 14 [.ref (f6 0), .null, .null], oC a6_ 12 [.int (0 + 1), .ref a8_, .int (nI nch)], aC D 3 a8_ (qA 10 (va_cpy (va_cpy g4 (fun _ => none) 0 0 nch) (fun _ => none) 0 0 nch)), oC a1_ 3 [.ref rb, .ref a4_, .ref a5_, .ref a6_, .ref a7_], aC D 0 a4_ (iA 3 (va_cpy al (fun _ => 0) 0 0 3)), aC D 0 a5_ (iA 2 (va_cpy mi (fun _ => 0) 0 0 2)), oC a2_ 18 [.ref a3_, .ref (D.2.2.1 0)], oC a3_ 4 [.int 0, .int 0]]) ((oC r 3 [.ref rb, .ref r2, .ref r3, .ref r4, .ref r6]) :: (aC D 0 r2 (iA 3 al)) :: (aC D 0 r3 (iA 2 mi)) :: (oC r4 12 [.int m4, .ref e4, .int (nI nch)]) :: (aC D 3 e4 (qA 10 g4)) :: (oC r6 13 [.int m6, .int 1, .ref b6, .ref b6]) :: (oC b6 14 [.ref (f6 0), .null, .null]) :: iv) 67 [.int 1] [(1, .ref a1_), (0, .ref r)]
    refine r_pop 68 (hF.pu _ _ _ _) dX3_copy_67 rfl rfl ?_
    refine r_aload_n 69 0 (hF.pu _ _ _ _) dX3_copy_68 rfl rfl ?_
    refine f_kp hF [true, true, true, true, true, true, true, false, false] ([oC a7_ 13 [.int (0 + 1), .int 1, .ref a9_, .ref a9_], oC a9_ 14 [.ref (f6 0), .null, .null], oC a6_ 12 [.int (0 + 1), .ref a8_, .int (nI nch)], aC D 3 a8_ (qA 10 (va_cpy (va_cpy g4 (fun _ => none) 0 0 nch) (fun _ => none) 0 0 nch)), oC a1_ 3 [.ref rb, .ref a4_, .ref a5_, .ref a6_, .ref a7_], aC D 0 a4_ (iA 3 (va_cpy al (fun _ => 0) 0 0 3)), aC D 0 a5_ (iA 2 (va_cpy mi (fun _ => 0) 0 0 2))]) rfl ?_
    refine f_ups hF [1] ([oC a9_ 14 [.ref (f6 0), .null, .null], oC a7_ 13 [.int (0 + 1), .int 1, .ref a9_, .ref a9_], oC a6_ 12 [.int (0 + 1), .ref a8_, .int (nI nch)], aC D 3 a8_ (qA 10 (va_cpy (va_cpy g4 (fun _ => none) 0 0 nch) (fun _ => none) 0 0 nch)), oC a1_ 3 [.ref rb, .ref a4_, .ref a5_, .ref a6_, .ref a7_], aC D 0 a4_ (iA 3 (va_cpy al (fun _ => 0) 0 0 3)), aC D 0 a5_ (iA 2 (va_cpy mi (fun _ => 0) 0 0 2))]) rfl ?_
    refine f_ups hF [1] ([oC a7_ 13 [.int (0 + 1), .int 1, .ref a9_, .ref a9_], oC a9_ 14 [.ref (f6 0), .null, .null], oC a6_ 12 [.int (0 + 1), .ref a8_, .int (nI nch)], aC D 3 a8_ (qA 10 (va_cpy (va_cpy g4 (fun _ => none) 0 0 nch) (fun _ => none) 0 0 nch)), oC a1_ 3 [.ref rb, .ref a4_, .ref a5_, .ref a6_, .ref a7_], aC D 0 a4_ (iA 3 (va_cpy al (fun _ => 0) 0 0 3)), aC D 0 a5_ (iA 2 (va_cpy mi (fun _ => 0) 0 0 2))]) rfl ?_
    refine f_ups hF [3] ([aC D 3 a8_ (qA 10 (va_cpy (va_cpy g4 (fun _ => none) 0 0 nch) (fun _ => none) 0 0 nch)), oC a7_ 13 [.int (0 + 1), .int 1, .ref a9_, .ref a9_], oC a9_ 14 [.ref (f6 0), .null, .null], oC a6_ 12 [.int (0 + 1), .ref a8_, .int (nI nch)], oC a1_ 3 [.ref rb, .ref a4_, .ref a5_, .ref a6_, .ref a7_], aC D 0 a4_ (iA 3 (va_cpy al (fun _ => 0) 0 0 3)), aC D 0 a5_ (iA 2 (va_cpy mi (fun _ => 0) 0 0 2))]) rfl ?_
    refine f_ups hF [3] ([oC a6_ 12 [.int (0 + 1), .ref a8_, .int (nI nch)], aC D 3 a8_ (qA 10 (va_cpy (va_cpy g4 (fun _ => none) 0 0 nch) (fun _ => none) 0 0 nch)), oC a7_ 13 [.int (0 + 1), .int 1, .ref a9_, .ref a9_], oC a9_ 14 [.ref (f6 0), .null, .null], oC a1_ 3 [.ref rb, .ref a4_, .ref a5_, .ref a6_, .ref a7_], aC D 0 a4_ (iA 3 (va_cpy al (fun _ => 0) 0 0 3)), aC D 0 a5_ (iA 2 (va_cpy mi (fun _ => 0) 0 0 2))]) rfl ?_
    refine f_ups hF [6] ([aC D 0 a5_ (iA 2 (va_cpy mi (fun _ => 0) 0 0 2)), oC a6_ 12 [.int (0 + 1), .ref a8_, .int (nI nch)], aC D 3 a8_ (qA 10 (va_cpy (va_cpy g4 (fun _ => none) 0 0 nch) (fun _ => none) 0 0 nch)), oC a7_ 13 [.int (0 + 1), .int 1, .ref a9_, .ref a9_], oC a9_ 14 [.ref (f6 0), .null, .null], oC a1_ 3 [.ref rb, .ref a4_, .ref a5_, .ref a6_, .ref a7_], aC D 0 a4_ (iA 3 (va_cpy al (fun _ => 0) 0 0 3))]) rfl ?_
    refine f_ups hF [6] ([aC D 0 a4_ (iA 3 (va_cpy al (fun _ => 0) 0 0 3)), aC D 0 a5_ (iA 2 (va_cpy mi (fun _ => 0) 0 0 2)), oC a6_ 12 [.int (0 + 1), .ref a8_, .int (nI nch)], aC D 3 a8_ (qA 10 (va_cpy (va_cpy g4 (fun _ => none) 0 0 nch) (fun _ => none) 0 0 nch)), oC a7_ 13 [.int (0 + 1), .int 1, .ref a9_, .ref a9_], oC a9_ 14 [.ref (f6 0), .null, .null], oC a1_ 3 [.ref rb, .ref a4_, .ref a5_, .ref a6_, .ref a7_]]) rfl ?_
    refine f_ups hF [6] ([oC a1_ 3 [.ref rb, .ref a4_, .ref a5_, .ref a6_, .ref a7_], aC D 0 a4_ (iA 3 (va_cpy al (fun _ => 0) 0 0 3)), aC D 0 a5_ (iA 2 (va_cpy mi (fun _ => 0) 0 0 2)), oC a6_ 12 [.int (0 + 1), .ref a8_, .int (nI nch)], aC D 3 a8_ (qA 10 (va_cpy (va_cpy g4 (fun _ => none) 0 0 nch) (fun _ => none) 0 0 nch)), oC a7_ 13 [.int (0 + 1), .int 1, .ref a9_, .ref a9_], oC a9_ 14 [.ref (f6 0), .null, .null]]) rfl ?_
    refine f_imsub hF [] (imk [] rfl) ?_
    exact FR.a hR (Or.inl ⟨_, rfl⟩) dX3_copy_69 (Nat.le_of_ble_eq_true rfl) (Nat.le_of_ble_eq_true rfl) ⟨_, rfl, rfl, _, _, _, _, _, _, [oC a6_ 12 [.int (0 + 1), .ref a8_, .int (nI nch)], aC D 3 a8_ (qA 10 (va_cpy (va_cpy g4 (fun _ => none) 0 0 nch) (fun _ => none) 0 0 nch))], [oC a7_ 13 [.int (0 + 1), .int 1, .ref a9_, .ref a9_], oC a9_ 14 [.ref (f6 0), .null, .null]], rfl, ⟨_, Or.inr ⟨h41, h42, _, _, rfl, fun i hi => by simp [va_cpy, hi]; exact h43 i hi⟩⟩, ⟨_, Or.inr (Or.inl ⟨rfl, _, rfl⟩)⟩, fun j hj => by simp [va_cpy, hj]; exact hal j hj, fun j hj => by simp [va_cpy, hj]; exact hmi j hj⟩
  · show F 0 0 ([]) ((oC r 3 [.ref rb, .ref r2, .ref r3, .ref r4, .ref r6]) :: (aC D 0 r2 (iA 3 al)) :: (aC D 0 r3 (iA 2 mi)) :: (oC r4 12 [.int m4, .ref e4, .int (nI nch)]) :: (aC D 3 e4 (qA 10 g4)) :: (oC r6 13 [.int m6, .int 2, .ref b6, .ref c6]) :: (oC b6 14 [.ref (f6 0), .ref c6, .null]) :: (oC c6 14 [.ref (f6 1), .null, .ref b6]) :: iv) 0 [] [(0, .ref r)]
    refine f_new 3 hF (ci := 3) [.null, .null, .null, .null, .null] okX3 rfl q605 q188 q104 dvX3 ⟨Nat.le_of_ble_eq_true rfl, Nat.le_of_ble_eq_true rfl⟩ dX3_copy_0 rfl (fun a1_ => ?_)
    refine r_dup 4 (hF.pu _ _ _ _) dX3_copy_3 rfl rfl ?_
    refine f_callI 7 hF (fc_X3_init (KS := KS) (Hb := Hb) D l a1_) (wr := ([])) rfl (imk [] rfl) q191 q104 q606 q190 rfl 0 yk_X3_init rfl ⟨by decide, by decide⟩ rfl (Nat.le_of_ble_eq_true rfl) dX3_copy_4 ⟨Nat.le_of_ble_eq_true rfl, Nat.le_of_ble_eq_true rfl⟩ rfl (fun r ws_ im' hp => ?_)
    obtain ⟨a2_, a3_, a4_, a5_, a6_, a7_, rfl, rfl, rfl⟩ := hp
    show F 7 21 ([oC a1_ 3 [.ref a2_, .ref a4_, .ref a5_, .ref a6_, .ref a7_], aC D 0 a4_ (iA 3 (fun _ => 0)), aC D 0 a5_ (iA 2 (fun _ => 0)), oC a6_ 12 [.int 0, .ref (D.2.2.1 1), .int 0], oC a7_ 13 [.int 0, .int 0, .null, .null], oC a2_ 18 [.ref a3_, .ref (D.2.2.1 0)], oC a3_ 4 [.int 0, .int 0]]) ((oC r 3 [.ref rb, .ref r2, .ref r3, .ref r4, .ref r6]) :: (aC D 0 r2 (iA 3 al)) :: (aC D 0 r3 (iA 2 mi)) :: (oC r4 12 [.int m4, .ref e4, .int (nI nch)]) :: (aC D 3 e4 (qA 10 g4)) :: (oC r6 13 [.int m6, .int 2, .ref b6, .ref c6]) :: (oC b6 14 [.ref (f6 0), .ref c6, .null]) :: (oC c6 14 [.ref (f6 1), .null, .ref b6]) :: iv) 7 [.ref a1_] [(0, .ref r)]
    refine r_astore_n 8 [(1, .ref a1_), (0, .ref r)] (hF.pu _ _ _ _) dX3_copy_7 rfl (by decide) rfl rfl ?_
    refine r_aload_n 9 0 (hF.pu _ _ _ _) dX3_copy_8 rfl rfl ?_
    refine r_aload_n 10 1 (hF.pu _ _ _ _) dX3_copy_9 rfl rfl ?_
    refine f_getf 13 hF (T := TX3) (C := RX3) 0 (v := .ref rb) okX3 (fun _ z => ((z.mo 0 rfl).fld 0 rfl)) rfl (by decide) (Or.inl q305) (Or.inl rfl) dX3_copy_10 rfl ?_
    refine f_put 16 hF 0 (T := TX3) (C := RX3) ([oC a1_ 3 [.ref rb, .ref a4_, .ref a5_, .ref a6_, .ref a7_], aC D 0 a4_ (iA 3 (fun _ => 0)), aC D 0 a5_ (iA 2 (fun _ => 0)), oC a6_ 12 [.int 0, .ref (D.2.2.1 1), .int 0], oC a7_ 13 [.int 0, .int 0, .null, .null], oC a2_ 18 [.ref a3_, .ref (D.2.2.1 0)], oC a3_ 4 [.int 0, .int 0]]) okX3 rfl rfl 0 (by decide) (Or.inl q305) (Or.inl rfl) rfl rfl rfl (Nat.le_of_ble_eq_true rfl) rfl dX3_copy_13 rfl ?_
    refine r_aload_n 17 1 (hF.pu _ _ _ _) dX3_copy_16 rfl rfl ?_
    refine f_getf 20 hF (T := TX3) (C := RX3) 1 (v := .ref r2) okX3 (fun _ z => ((z.mo 0 rfl).fld 1 rfl)) rfl (by decide) (Or.inl q308) (Or.inl rfl) dX3_copy_17 rfl ?_
    refine r_iconst 21 0 (hF.pu _ _ _ _) dX3_copy_20 (by decide) rfl ?_
    refine r_aload_n 22 0 (hF.pu _ _ _ _) dX3_copy_21 rfl rfl ?_
    refine f_getf 25 hF (T := TX3) (C := RX3) 1 (v := .ref a4_) okX3 (fun _ z => ((z.o 0 rfl).fld 1 rfl)) rfl (by decide) (Or.inl q308) (Or.inl rfl) dX3_copy_22 rfl ?_
    refine r_iconst 26 0 (hF.pu _ _ _ _) dX3_copy_25 (by decide) rfl ?_
    refine r_iconst 27 3 (hF.pu _ _ _ _) dX3_copy_26 (by decide) rfl ?_
    refine f_copyi 30 hF 1 0 0 3 ([oC a1_ 3 [.ref rb, .ref a4_, .ref a5_, .ref a6_, .ref a7_], aC D 0 a4_ (iA 3 (va_cpy al (fun _ => 0) 0 0 3)), aC D 0 a5_ (iA 2 (fun _ => 0)), oC a6_ 12 [.int 0, .ref (D.2.2.1 1), .int 0], oC a7_ 13 [.int 0, .int 0, .null, .null], oC a2_ 18 [.ref a3_, .ref (D.2.2.1 0)], oC a3_ 4 [.int 0, .int 0]]) (fun _ z => (z.ma 1 rfl)) rfl q607 rfl rfl rfl (by omega) (by omega) ⟨by omega, by omega⟩ rfl ⟨by decide, by decide⟩ (Nat.le_of_ble_eq_true rfl) dX3_copy_27 rfl ?_
    refine r_aload_n 31 1 (hF.pu _ _ _ _) dX3_copy_30 rfl rfl ?_
    refine f_getf 34 hF (T := TX3) (C := RX3) 2 (v := .ref r3) okX3 (fun _ z => ((z.mo 0 rfl).fld 2 rfl)) rfl (by decide) (Or.inl q311) (Or.inl rfl) dX3_copy_31 rfl ?_
    refine r_iconst 35 0 (hF.pu _ _ _ _) dX3_copy_34 (by decide) rfl ?_
    refine r_aload_n 36 0 (hF.pu _ _ _ _) dX3_copy_35 rfl rfl ?_
    refine f_getf 39 hF (T := TX3) (C := RX3) 2 (v := .ref a5_) okX3 (fun _ z => ((z.o 0 rfl).fld 2 rfl)) rfl (by decide) (Or.inl q311) (Or.inl rfl) dX3_copy_36 rfl ?_
    refine r_iconst 40 0 (hF.pu _ _ _ _) dX3_copy_39 (by decide) rfl ?_
    refine r_iconst 41 2 (hF.pu _ _ _ _) dX3_copy_40 (by decide) rfl ?_
    refine f_copyi 44 hF 2 0 0 2 ([oC a1_ 3 [.ref rb, .ref a4_, .ref a5_, .ref a6_, .ref a7_], aC D 0 a4_ (iA 3 (va_cpy al (fun _ => 0) 0 0 3)), aC D 0 a5_ (iA 2 (va_cpy mi (fun _ => 0) 0 0 2)), oC a6_ 12 [.int 0, .ref (D.2.2.1 1), .int 0], oC a7_ 13 [.int 0, .int 0, .null, .null], oC a2_ 18 [.ref a3_, .ref (D.2.2.1 0)], oC a3_ 4 [.int 0, .int 0]]) (fun _ z => (z.ma 2 rfl)) rfl q607 rfl rfl rfl (by omega) (by omega) ⟨by omega, by omega⟩ rfl ⟨by decide, by decide⟩ (Nat.le_of_ble_eq_true rfl) dX3_copy_41 rfl ?_
    refine r_aload_n 45 0 (hF.pu _ _ _ _) dX3_copy_44 rfl rfl ?_
    refine f_getf 48 hF (T := TX3) (C := RX3) 3 (v := .ref a6_) okX3 (fun _ z => ((z.o 0 rfl).fld 3 rfl)) rfl (by decide) (Or.inl q314) (Or.inl rfl) dX3_copy_45 rfl ?_
    refine r_aload_n 49 1 (hF.pu _ _ _ _) dX3_copy_48 rfl rfl ?_
    refine f_getf 52 hF (T := TX3) (C := RX3) 3 (v := .ref r4) okX3 (fun _ z => ((z.mo 0 rfl).fld 3 rfl)) rfl (by decide) (Or.inl q314) (Or.inl rfl) dX3_copy_49 rfl ?_
    refine f_ups hF [3] ([oC a6_ 12 [.int 0, .ref (D.2.2.1 1), .int 0], oC a1_ 3 [.ref rb, .ref a4_, .ref a5_, .ref a6_, .ref a7_], aC D 0 a4_ (iA 3 (va_cpy al (fun _ => 0) 0 0 3)), aC D 0 a5_ (iA 2 (va_cpy mi (fun _ => 0) 0 0 2)), oC a7_ 13 [.int 0, .int 0, .null, .null], oC a2_ 18 [.ref a3_, .ref (D.2.2.1 0)], oC a3_ 4 [.int 0, .int 0]]) rfl ?_
    refine f_callV 55 hF (fc_J8_addAll_n (KS := KS) (Hb := Hb) D l a6_ r4 0 m4 e4 nch 10 g4 (by decide) (by omega) (by omega) iv (fun H h i hi y hy => by rw [h43 i hi] at hy; cases hy; exact he4 H h i hi) h41) (wr := ([oC a1_ 3 [.ref rb, .ref a4_, .ref a5_, .ref a6_, .ref a7_], aC D 0 a4_ (iA 3 (va_cpy al (fun _ => 0) 0 0 3)), aC D 0 a5_ (iA 2 (va_cpy mi (fun _ => 0) 0 0 2)), oC a7_ 13 [.int 0, .int 0, .null, .null], oC a2_ 18 [.ref a3_, .ref (D.2.2.1 0)], oC a3_ 4 [.int 0, .int 0]])) rfl (fun c hc => by simp only [List.mem_cons] at hc ⊢; rcases hc with h | h | h <;> first | exact Or.inl h | exact Or.inr (Or.inl h) | exact Or.inr (Or.inr (Or.inl h)) | exact Or.inr (Or.inr (Or.inr (Or.inl h))) | exact Or.inr (Or.inr (Or.inr (Or.inr (Or.inl h)))) | exact Or.inr (Or.inr (Or.inr (Or.inr (Or.inr (Or.inl h))))) | exact Or.inr (Or.inr (Or.inr (Or.inr (Or.inr (Or.inr (Or.inl h)))))) | exact Or.inr (Or.inr (Or.inr (Or.inr (Or.inr (Or.inr (Or.inr (Or.inl h))))))) | exact Or.inr (Or.inr (Or.inr (Or.inr (Or.inr (Or.inr (Or.inr (Or.inr (h))))))))) lk_X3_54 1 yk_J8_addAll rfl ⟨by decide, by decide⟩ (fun _ z => ((z.o 0 rfl).fld 0 rfl)) rfl rfl (Nat.le_of_ble_eq_true rfl) dX3_copy_52 ⟨Nat.le_of_ble_eq_true rfl, Nat.le_of_ble_eq_true rfl⟩ rfl (fun r ws_ im' hp => ?_)
    obtain ⟨a8_, rfl, rfl, rfl⟩ := hp
    show F 9 41 ([oC a6_ 12 [.int (0 + 1), .ref a8_, .int (nI nch)], aC D 3 a8_ (qA 10 (va_cpy (va_cpy g4 (fun _ => none) 0 0 nch) (fun _ => none) 0 0 nch)), oC a1_ 3 [.ref rb, .ref a4_, .ref a5_, .ref a6_, .ref a7_], aC D 0 a4_ (iA 3 (va_cpy al (fun _ => 0) 0 0 3)), aC D 0 a5_ (iA 2 (va_cpy mi (fun _ => 0) 0 0 2)), oC a7_ 13 [.int 0, .int 0, .null, .null], oC a2_ 18 [.ref a3_, .ref (D.2.2.1 0)], oC a3_ 4 [.int 0, .int 0]]) ((oC r 3 [.ref rb, .ref r2, .ref r3, .ref r4, .ref r6]) :: (aC D 0 r2 (iA 3 al)) :: (aC D 0 r3 (iA 2 mi)) :: (oC r4 12 [.int m4, .ref e4, .int (nI nch)]) :: (aC D 3 e4 (qA 10 g4)) :: (oC r6 13 [.int m6, .int 2, .ref b6, .ref c6]) :: (oC b6 14 [.ref (f6 0), .ref c6, .null]) :: (oC c6 14 [.ref (f6 1), .null, .ref b6]) :: iv) 55 [.int 1] [(1, .ref a1_), (0, .ref r)]
    refine r_pop 56 (hF.pu _ _ _ _) dX3_copy_55 rfl rfl ?_
    refine r_aload_n 57 0 (hF.pu _ _ _ _) dX3_copy_56 rfl rfl ?_
    refine f_getf 60 hF (T := TX3) (C := RX3) 4 (v := .ref a7_) okX3 (fun _ z => ((z.o 2 rfl).fld 4 rfl)) rfl (by decide) (Or.inl q317) (Or.inl rfl) dX3_copy_57 rfl ?_
    refine r_aload_n 61 1 (hF.pu _ _ _ _) dX3_copy_60 rfl rfl ?_
    refine f_getf 64 hF (T := TX3) (C := RX3) 4 (v := .ref r6) okX3 (fun _ z => ((z.mo 0 rfl).fld 4 rfl)) rfl (by decide) (Or.inl q317) (Or.inl rfl) dX3_copy_61 rfl ?_
    refine f_ups hF [5] ([oC a7_ 13 [.int 0, .int 0, .null, .null], oC a6_ 12 [.int (0 + 1), .ref a8_, .int (nI nch)], aC D 3 a8_ (qA 10 (va_cpy (va_cpy g4 (fun _ => none) 0 0 nch) (fun _ => none) 0 0 nch)), oC a1_ 3 [.ref rb, .ref a4_, .ref a5_, .ref a6_, .ref a7_], aC D 0 a4_ (iA 3 (va_cpy al (fun _ => 0) 0 0 3)), aC D 0 a5_ (iA 2 (va_cpy mi (fun _ => 0) 0 0 2)), oC a2_ 18 [.ref a3_, .ref (D.2.2.1 0)], oC a3_ 4 [.int 0, .int 0]]) rfl ?_
    refine f_callV 67 hF (fc_J10_addAll_2 (KS := KS) (Hb := Hb) D l a7_ r6 b6 c6 0 m6 f6 iv he6) (wr := ([oC a6_ 12 [.int (0 + 1), .ref a8_, .int (nI nch)], aC D 3 a8_ (qA 10 (va_cpy (va_cpy g4 (fun _ => none) 0 0 nch) (fun _ => none) 0 0 nch)), oC a1_ 3 [.ref rb, .ref a4_, .ref a5_, .ref a6_, .ref a7_], aC D 0 a4_ (iA 3 (va_cpy al (fun _ => 0) 0 0 3)), aC D 0 a5_ (iA 2 (va_cpy mi (fun _ => 0) 0 0 2)), oC a2_ 18 [.ref a3_, .ref (D.2.2.1 0)], oC a3_ 4 [.int 0, .int 0]])) rfl (fun c hc => by simp only [List.mem_cons] at hc ⊢; rcases hc with h | h | h | h <;> first | exact Or.inl h | exact Or.inr (Or.inl h) | exact Or.inr (Or.inr (Or.inl h)) | exact Or.inr (Or.inr (Or.inr (Or.inl h))) | exact Or.inr (Or.inr (Or.inr (Or.inr (Or.inl h)))) | exact Or.inr (Or.inr (Or.inr (Or.inr (Or.inr (Or.inl h))))) | exact Or.inr (Or.inr (Or.inr (Or.inr (Or.inr (Or.inr (Or.inl h)))))) | exact Or.inr (Or.inr (Or.inr (Or.inr (Or.inr (Or.inr (Or.inr (Or.inl h))))))) | exact Or.inr (Or.inr (Or.inr (Or.inr (Or.inr (Or.inr (Or.inr (Or.inr (h))))))))) lk_X3_58 1 yk_J10_addAll rfl ⟨by decide, by decide⟩ (fun _ z => ((z.o 0 rfl).fld 0 rfl)) rfl rfl (Nat.le_of_ble_eq_true rfl) dX3_copy_64 ⟨Nat.le_of_ble_eq_true rfl, Nat.le_of_ble_eq_true rfl⟩ rfl (fun r ws_ im' hp => ?_)
    obtain ⟨a9_, a10_, rfl, rfl, rfl⟩ := hp
    show F 12 49 ([oC a7_ 13 [.int (0 + 1), .int 2, .ref a9_, .ref a10_], oC a9_ 14 [.ref (f6 0), .ref a10_, .null], oC a10_ 14 [.ref (f6 1), .null, .ref a9_], oC a6_ 12 [.int (0 + 1), .ref a8_, .int (nI nch)], aC D 3 a8_ (qA 10 (va_cpy (va_cpy g4 (fun _ => none) 0 0 nch) (fun _ => none) 0 0 nch)), oC a1_ 3 [.ref rb, .ref a4_, .ref a5_, .ref a6_, .ref a7_], aC D 0 a4_ (iA 3 (va_cpy al (fun _ => 0) 0 0 3)), aC D 0 a5_ (iA 2 (va_cpy mi (fun _ => 0) 0 0 2)), oC a2_ 18 [.ref a3_, .ref (D.2.2.1 0)], oC a3_ 4 [.int 0, .int 0]]) ((oC r 3 [.ref rb, .ref r2, .ref r3, .ref r4, .ref r6]) :: (aC D 0 r2 (iA 3 al)) :: (aC D 0 r3 (iA 2 mi)) :: (oC r4 12 [.int m4, .ref e4, .int (nI nch)]) :: (aC D 3 e4 (qA 10 g4)) :: (oC r6 13 [.int m6, .int 2, .ref b6, .ref c6]) :: (oC b6 14 [.ref (f6 0), .ref c6, .null]) :: (oC c6 14 [.ref (f6 1), .null, .ref b6]) :: iv) 67 [.int 1] [(1, .ref a1_), (0, .ref r)]
    refine r_pop 68 (hF.pu _ _ _ _) dX3_copy_67 rfl rfl ?_
    refine r_aload_n 69 0 (hF.pu _ _ _ _) dX3_copy_68 rfl rfl ?_
    refine f_kp hF [true, true, true, true, true, true, true, true, false, false] ([oC a7_ 13 [.int (0 + 1), .int 2, .ref a9_, .ref a10_], oC a9_ 14 [.ref (f6 0), .ref a10_, .null], oC a10_ 14 [.ref (f6 1), .null, .ref a9_], oC a6_ 12 [.int (0 + 1), .ref a8_, .int (nI nch)], aC D 3 a8_ (qA 10 (va_cpy (va_cpy g4 (fun _ => none) 0 0 nch) (fun _ => none) 0 0 nch)), oC a1_ 3 [.ref rb, .ref a4_, .ref a5_, .ref a6_, .ref a7_], aC D 0 a4_ (iA 3 (va_cpy al (fun _ => 0) 0 0 3)), aC D 0 a5_ (iA 2 (va_cpy mi (fun _ => 0) 0 0 2))]) rfl ?_
    refine f_ups hF [2] ([oC a10_ 14 [.ref (f6 1), .null, .ref a9_], oC a7_ 13 [.int (0 + 1), .int 2, .ref a9_, .ref a10_], oC a9_ 14 [.ref (f6 0), .ref a10_, .null], oC a6_ 12 [.int (0 + 1), .ref a8_, .int (nI nch)], aC D 3 a8_ (qA 10 (va_cpy (va_cpy g4 (fun _ => none) 0 0 nch) (fun _ => none) 0 0 nch)), oC a1_ 3 [.ref rb, .ref a4_, .ref a5_, .ref a6_, .ref a7_], aC D 0 a4_ (iA 3 (va_cpy al (fun _ => 0) 0 0 3)), aC D 0 a5_ (iA 2 (va_cpy mi (fun _ => 0) 0 0 2))]) rfl ?_
    refine f_ups hF [2] ([oC a9_ 14 [.ref (f6 0), .ref a10_, .null], oC a10_ 14 [.ref (f6 1), .null, .ref a9_], oC a7_ 13 [.int (0 + 1), .int 2, .ref a9_, .ref a10_], oC a6_ 12 [.int (0 + 1), .ref a8_, .int (nI nch)], aC D 3 a8_ (qA 10 (va_cpy (va_cpy g4 (fun _ => none) 0 0 nch) (fun _ => none) 0 0 nch)), oC a1_ 3 [.ref rb, .ref a4_, .ref a5_, .ref a6_, .ref a7_], aC D 0 a4_ (iA 3 (va_cpy al (fun _ => 0) 0 0 3)), aC D 0 a5_ (iA 2 (va_cpy mi (fun _ => 0) 0 0 2))]) rfl ?_
    refine f_ups hF [2] ([oC a7_ 13 [.int (0 + 1), .int 2, .ref a9_, .ref a10_], oC a9_ 14 [.ref (f6 0), .ref a10_, .null], oC a10_ 14 [.ref (f6 1), .null, .ref a9_], oC a6_ 12 [.int (0 + 1), .ref a8_, .int (nI nch)], aC D 3 a8_ (qA 10 (va_cpy (va_cpy g4 (fun _ => none) 0 0 nch) (fun _ => none) 0 0 nch)), oC a1_ 3 [.ref rb, .ref a4_, .ref a5_, .ref a6_, .ref a7_], aC D 0 a4_ (iA 3 (va_cpy al (fun _ => 0) 0 0 3)), aC D 0 a5_ (iA 2 (va_cpy mi (fun _ => 0) 0 0 2))]) rfl ?_
    refine f_ups hF [4] ([aC D 3 a8_ (qA 10 (va_cpy (va_cpy g4 (fun _ => none) 0 0 nch) (fun _ => none) 0 0 nch)), oC a7_ 13 [.int (0 + 1), .int 2, .ref a9_, .ref a10_], oC a9_ 14 [.ref (f6 0), .ref a10_, .null], oC a10_ 14 [.ref (f6 1), .null, .ref a9_], oC a6_ 12 [.int (0 + 1), .ref a8_, .int (nI nch)], oC a1_ 3 [.ref rb, .ref a4_, .ref a5_, .ref a6_, .ref a7_], aC D 0 a4_ (iA 3 (va_cpy al (fun _ => 0) 0 0 3)), aC D 0 a5_ (iA 2 (va_cpy mi (fun _ => 0) 0 0 2))]) rfl ?_
    refine f_ups hF [4] ([oC a6_ 12 [.int (0 + 1), .ref a8_, .int (nI nch)], aC D 3 a8_ (qA 10 (va_cpy (va_cpy g4 (fun _ => none) 0 0 nch) (fun _ => none) 0 0 nch)), oC a7_ 13 [.int (0 + 1), .int 2, .ref a9_, .ref a10_], oC a9_ 14 [.ref (f6 0), .ref a10_, .null], oC a10_ 14 [.ref (f6 1), .null, .ref a9_], oC a1_ 3 [.ref rb, .ref a4_, .ref a5_, .ref a6_, .ref a7_], aC D 0 a4_ (iA 3 (va_cpy al (fun _ => 0) 0 0 3)), aC D 0 a5_ (iA 2 (va_cpy mi (fun _ => 0) 0 0 2))]) rfl ?_
    refine f_ups hF [7] ([aC D 0 a5_ (iA 2 (va_cpy mi (fun _ => 0) 0 0 2)), oC a6_ 12 [.int (0 + 1), .ref a8_, .int (nI nch)], aC D 3 a8_ (qA 10 (va_cpy (va_cpy g4 (fun _ => none) 0 0 nch) (fun _ => none) 0 0 nch)), oC a7_ 13 [.int (0 + 1), .int 2, .ref a9_, .ref a10_], oC a9_ 14 [.ref (f6 0), .ref a10_, .null], oC a10_ 14 [.ref (f6 1), .null, .ref a9_], oC a1_ 3 [.ref rb, .ref a4_, .ref a5_, .ref a6_, .ref a7_], aC D 0 a4_ (iA 3 (va_cpy al (fun _ => 0) 0 0 3))]) rfl ?_
    refine f_ups hF [7] ([aC D 0 a4_ (iA 3 (va_cpy al (fun _ => 0) 0 0 3)), aC D 0 a5_ (iA 2 (va_cpy mi (fun _ => 0) 0 0 2)), oC a6_ 12 [.int (0 + 1), .ref a8_, .int (nI nch)], aC D 3 a8_ (qA 10 (va_cpy (va_cpy g4 (fun _ => none) 0 0 nch) (fun _ => none) 0 0 nch)), oC a7_ 13 [.int (0 + 1), .int 2, .ref a9_, .ref a10_], oC a9_ 14 [.ref (f6 0), .ref a10_, .null], oC a10_ 14 [.ref (f6 1), .null, .ref a9_], oC a1_ 3 [.ref rb, .ref a4_, .ref a5_, .ref a6_, .ref a7_]]) rfl ?_
    refine f_ups hF [7] ([oC a1_ 3 [.ref rb, .ref a4_, .ref a5_, .ref a6_, .ref a7_], aC D 0 a4_ (iA 3 (va_cpy al (fun _ => 0) 0 0 3)), aC D 0 a5_ (iA 2 (va_cpy mi (fun _ => 0) 0 0 2)), oC a6_ 12 [.int (0 + 1), .ref a8_, .int (nI nch)], aC D 3 a8_ (qA 10 (va_cpy (va_cpy g4 (fun _ => none) 0 0 nch) (fun _ => none) 0 0 nch)), oC a7_ 13 [.int (0 + 1), .int 2, .ref a9_, .ref a10_], oC a9_ 14 [.ref (f6 0), .ref a10_, .null], oC a10_ 14 [.ref (f6 1), .null, .ref a9_]]) rfl ?_
    refine f_imsub hF [] (imk [] rfl) ?_
    exact FR.a hR (Or.inl ⟨_, rfl⟩) dX3_copy_69 (Nat.le_of_ble_eq_true rfl) (Nat.le_of_ble_eq_true rfl) ⟨_, rfl, rfl, _, _, _, _, _, _, [oC a6_ 12 [.int (0 + 1), .ref a8_, .int (nI nch)], aC D 3 a8_ (qA 10 (va_cpy (va_cpy g4 (fun _ => none) 0 0 nch) (fun _ => none) 0 0 nch))], [oC a7_ 13 [.int (0 + 1), .int 2, .ref a9_, .ref a10_], oC a9_ 14 [.ref (f6 0), .ref a10_, .null], oC a10_ 14 [.ref (f6 1), .null, .ref a9_]], rfl, ⟨_, Or.inr ⟨h41, h42, _, _, rfl, fun i hi => by simp [va_cpy, hi]; exact h43 i hi⟩⟩, ⟨_, Or.inr (Or.inr ⟨rfl, _, _, rfl⟩)⟩, fun j hj => by simp [va_cpy, hj]; exact hal j hj, fun j hj => by simp [va_cpy, hj]; exact hmi j hj⟩
