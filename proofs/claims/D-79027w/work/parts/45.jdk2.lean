set_option maxHeartbeats 4000000 in
theorem fc_J13_copyOf_2 (D : DD) (l : Launch) {KS : Nat → Prop} {Hb : Heap} (e n cap : Nat) (g : Nat → Option Nat) (hc : cap < 2 ^ 31) (hn : n ≤ cap) (hn6 : n ≤ 10) (iv : va_W) (hel : ∀ H, (∀ q ∈ iv, va_at D.1 aCl q H) → ∀ i, i < n → ∀ y, g i = some y → anyK D "java/lang/Object" y H) : Fc D l yJ13_copyOf_2 cJ13_copyOf_2 4 (Option.some (ClassFile.FieldType.array (ClassFile.FieldType.object "java/lang/Object"))) 1 1 10 30 KS Hb [.ref e, .int (nI n), .ref (D.2.2.1 100)] ([]) ((aC D 3 e (qA cap g)) :: iv) (fun r w i => ∃ b, r = some (.ref b) ∧ w = [aC D 3 b (qA n (va_cpy g (fun _ => none) 0 0 n))] ∧ i = []) := by
  refine Fc.of (by decide) (Nat.le_of_ble_eq_true rfl) (fun s F hF hR => ?_)
  show F 0 0 ([]) ((aC D 3 e (qA cap g)) :: iv) 0 [] [(0, .ref e), (1, .int (nI n)), (2, .ref (D.2.2.1 100))]
  refine r_aload_n 1 2 (hF.pu _ _ _ _) dJ13_copyOf_2_0 rfl rfl ?_
  refine f_ldcM 3 hF (i := 100) (List.mem_of_getElem? (i := 0) rfl) q435 dJ13_copyOf_2_1 rfl ?_
  refine r_acmp_ne 6 13 (rx := (some (D.2.2.1 100))) (ry := (some (D.2.2.1 100))) (hF.pu _ _ _ _) dJ13_copyOf_2_3 (by decide) (fun c3 => absurd c3 (fun z => z rfl)) rfl (fun c3 => ?_)
  refine r_iload_n 7 1 (hF.pu _ _ _ _) dJ13_copyOf_2_6 rfl rfl ?_
  refine f_newq 10 hF (t := 3) (List.mem_of_getElem? (i := 0) rfl) q437 rfl rfl (by omega) ⟨Nat.le_of_ble_eq_true rfl, by show 0 + n ≤ 10; omega⟩ dJ13_copyOf_2_7 rfl (fun a1_ => ?_)
  refine f_widen hF (k' := 1) (n' := 10) (Nat.le_of_ble_eq_true rfl) (by omega) ?_
  refine r_goto 24 (hF.pu _ _ _ _) dJ13_copyOf_2_10 (by decide) ?_
  refine r_astore_n 25 [(3, .ref a1_), (0, .ref e), (1, .int (nI n)), (2, .ref (D.2.2.1 100))] (hF.pu _ _ _ _) dJ13_copyOf_2_24 rfl (by decide) rfl rfl ?_
  refine r_aload_n 26 1 (hF.pu _ _ _ _) dJ13_copyOf_2_25 rfl rfl ?_
  refine r_iconst 27 0 (hF.pu _ _ _ _) dJ13_copyOf_2_26 (by decide) rfl ?_
  refine r_aload_n 28 0 (hF.pu _ _ _ _) dJ13_copyOf_2_27 rfl rfl ?_
  refine r_iconst 29 0 (hF.pu _ _ _ _) dJ13_copyOf_2_28 (by decide) rfl ?_
  refine r_aload_n 30 1 (hF.pu _ _ _ _) dJ13_copyOf_2_29 rfl rfl ?_
  refine f_alen 31 hF (fun _ z => (z.ma 0 rfl)) rfl dJ13_copyOf_2_30 rfl ?_
  refine r_iload_n 32 2 (hF.pu _ _ _ _) dJ13_copyOf_2_31 rfl rfl ?_
  refine f_minJ 35 hF q438 ⟨by decide, by decide⟩ (Nat.le_of_ble_eq_true rfl) dJ13_copyOf_2_32 ⟨Nat.le_of_ble_eq_true rfl, Nat.le_of_ble_eq_true rfl⟩ rfl ?_
  refine r_eqi (nI n) (minJ_r hn hc) ?_
  refine f_copyq 38 hF 0 0 0 n ([aC D 3 a1_ (qA n (va_cpy g (fun _ => none) 0 0 n))]) (fun _ z => (z.ma 0 rfl)) rfl (E0 := "java/lang/Object") (E1 := "java/lang/Object") rfl rfl (fun _ z i hi y hy => hel _ (fun q hq => z.2.2 q (by simp [hq])) i hi y (by simpa using hy)) q441 rfl rfl rfl (by omega) (by omega) ⟨by omega, by omega⟩ rfl ⟨by decide, by decide⟩ (Nat.le_of_ble_eq_true rfl) dJ13_copyOf_2_35 rfl ?_
  refine r_aload_n 39 0 (hF.pu _ _ _ _) dJ13_copyOf_2_38 rfl rfl ?_
  refine f_imsub hF [] (imk [] rfl) ?_
  exact FR.a hR (Or.inr ⟨_, rfl⟩) dJ13_copyOf_2_39 (Nat.le_of_ble_eq_true rfl) (Nat.le_of_ble_eq_true rfl) ⟨_, rfl, rfl, rfl⟩
theorem lk_J13_300 : GoodIn lw_all (va_wsS RJ13 300 yJ13_copyOf_2 (ws_ yJ13_copyOf_2 cJ13_copyOf_2 4 (Option.some (ClassFile.FieldType.array (ClassFile.FieldType.object "java/lang/Object"))))) := lw_S q432 q433 q120 q434
theorem yk_J13_copyOf_2 : yOk yJ13_copyOf_2 3 := by decide +kernel
set_option maxHeartbeats 4000000 in
theorem fc_J13_copyOf (D : DD) (l : Launch) {KS : Nat → Prop} {Hb : Heap} (e n cap : Nat) (g : Nat → Option Nat) (hc : cap < 2 ^ 31) (hn : n ≤ cap) (hn6 : n ≤ 10) (iv : va_W) (hel : ∀ H, (∀ q ∈ iv, va_at D.1 aCl q H) → ∀ i, i < n → ∀ y, g i = some y → anyK D "java/lang/Object" y H) : Fc D l yJ13_copyOf cJ13_copyOf 2 (Option.some (ClassFile.FieldType.array (ClassFile.FieldType.object "java/lang/Object"))) 2 1 10 53 KS Hb [.ref e, .int (nI n)] ([]) ((aC D 3 e (qA cap g)) :: iv) (fun r w i => ∃ b, r = some (.ref b) ∧ w = [aC D 3 b (qA n (va_cpy g (fun _ => none) 0 0 n))] ∧ i = []) := by
  refine Fc.of (by decide) (Nat.le_of_ble_eq_true rfl) (fun s F hF hR => ?_)
  show F 0 0 ([]) ((aC D 3 e (qA cap g)) :: iv) 0 [] [(0, .ref e), (1, .int (nI n))]
  refine r_aload_n 1 0 (hF.pu _ _ _ _) dJ13_copyOf_0 rfl rfl ?_
  refine r_iload_n 2 1 (hF.pu _ _ _ _) dJ13_copyOf_1 rfl rfl ?_
  refine r_aload_n 3 0 (hF.pu _ _ _ _) dJ13_copyOf_2 rfl rfl ?_
  refine f_getCA 6 hF (fun _ z => (z.ma 0 rfl)) q383 q3995 q384 q431 ⟨by decide, by decide⟩ (Nat.le_of_ble_eq_true rfl) dJ13_copyOf_3 rfl ?_
  refine f_callS 9 hF (fc_J13_copyOf_2 (KS := KS) (Hb := Hb) D l e n cap g hc hn hn6 iv hel) (wr := ([])) rfl (fun _ h => h) lk_J13_300 3 yk_J13_copyOf_2 rfl ⟨by decide, by decide⟩ rfl (Nat.le_of_ble_eq_true rfl) dJ13_copyOf_6 ⟨Nat.le_of_ble_eq_true rfl, Nat.le_of_ble_eq_true rfl⟩ rfl (fun r ws_ im' hp => ?_)
  obtain ⟨a1_, rfl, rfl, rfl⟩ := hp
  show F 1 10 ([aC D 3 a1_ (qA n (va_cpy g (fun _ => none) 0 0 n))]) ((aC D 3 e (qA cap g)) :: iv) 9 [.ref a1_] [(0, .ref e), (1, .int (nI n))]
  refine f_imsub hF [] (imk [] rfl) ?_
  exact FR.a hR (Or.inr ⟨_, rfl⟩) dJ13_copyOf_9 (Nat.le_of_ble_eq_true rfl) (Nat.le_of_ble_eq_true rfl) ⟨_, rfl, rfl, rfl⟩
theorem lk_J8_66 : GoodIn lw_all (va_wsS RJ8 66 yJ13_copyOf (ws_ yJ13_copyOf cJ13_copyOf 2 (Option.some (ClassFile.FieldType.array (ClassFile.FieldType.object "java/lang/Object"))))) := lw_S q380 q381 q120 q382
theorem yk_J13_copyOf : yOk yJ13_copyOf 2 := by decide +kernel
set_option maxHeartbeats 4000000 in
theorem fc_J8_toArray (D : DD) (l : Launch) {KS : Nat → Prop} {Hb : Heap} (c : Nat) (m : Int32) (e n cap : Nat) (g : Nat → Option Nat) (hc : cap < 2 ^ 31) (hn : n ≤ cap) (hn6 : n ≤ 10) (iv : va_W) (hel : ∀ H, (∀ q ∈ iv, va_at D.1 aCl q H) → ∀ i, i < n → ∀ y, g i = some y → anyK D "java/lang/Object" y H) : Fc D l yJ8_toArray cJ8_toArray 1 (Option.some (ClassFile.FieldType.array (ClassFile.FieldType.object "java/lang/Object"))) 3 1 10 74 KS Hb [.ref c] ([]) ((oC c 12 [.int m, .ref e, .int (nI n)]) :: (aC D 3 e (qA cap g)) :: iv) (fun r w i => ∃ b, r = some (.ref b) ∧ w = [aC D 3 b (qA n (va_cpy g (fun _ => none) 0 0 n))] ∧ i = []) := by
  refine Fc.of (by decide) (Nat.le_of_ble_eq_true rfl) (fun s F hF hR => ?_)
  show F 0 0 ([]) ((oC c 12 [.int m, .ref e, .int (nI n)]) :: (aC D 3 e (qA cap g)) :: iv) 0 [] [(0, .ref c)]
  refine r_aload_n 1 0 (hF.pu _ _ _ _) dJ8_toArray_0 rfl rfl ?_
  refine f_getf 4 hF (T := TJ8) (C := RJ8) 1 (v := .ref e) okJ8 (fun _ z => ((z.mo 0 rfl).fld 1 rfl)) rfl (by decide) (Or.inl q251) (Or.inl rfl) dJ8_toArray_1 rfl ?_
  refine r_aload_n 5 0 (hF.pu _ _ _ _) dJ8_toArray_4 rfl rfl ?_
  refine f_getf 8 hF (T := TJ8) (C := RJ8) 2 (v := .int (nI n)) okJ8 (fun _ z => ((z.mo 0 rfl).fld 2 rfl)) rfl (by decide) (Or.inl q257) (Or.inl rfl) dJ8_toArray_5 rfl ?_
  refine f_callS 11 hF (fc_J13_copyOf (KS := KS) (Hb := Hb) D l e n cap g hc hn hn6 iv hel) (wr := ([])) rfl (fun c hc => by simp only [List.mem_cons] at hc ⊢; rcases hc with h | h <;> first | exact Or.inl h | exact Or.inr (Or.inl h) | exact Or.inr (Or.inr (h))) lk_J8_66 2 yk_J13_copyOf rfl ⟨by decide, by decide⟩ rfl (Nat.le_of_ble_eq_true rfl) dJ8_toArray_8 ⟨Nat.le_of_ble_eq_true rfl, Nat.le_of_ble_eq_true rfl⟩ rfl (fun r ws_ im' hp => ?_)
  obtain ⟨a1_, rfl, rfl, rfl⟩ := hp
  show F 1 10 ([aC D 3 a1_ (qA n (va_cpy g (fun _ => none) 0 0 n))]) ((oC c 12 [.int m, .ref e, .int (nI n)]) :: (aC D 3 e (qA cap g)) :: iv) 11 [.ref a1_] [(0, .ref c)]
  refine f_imsub hF [] (imk [] rfl) ?_
  exact FR.a hR (Or.inr ⟨_, rfl⟩) dJ8_toArray_11 (Nat.le_of_ble_eq_true rfl) (Nat.le_of_ble_eq_true rfl) ⟨_, rfl, rfl, rfl⟩
theorem lf_J8_42_J8_toArray : GoodIn lw_all (va_wsF RJ8 42 "java/util/ArrayList" ⟨"java/util/Collection", "toArray", "()[Ljava/lang/Object;"⟩ yJ8_toArray (ws_ yJ8_toArray cJ8_toArray 1 (Option.some (ClassFile.FieldType.array (ClassFile.FieldType.object "java/lang/Object"))))) := lw_F q613 q1664 q1666 q114 q1668
theorem yf_Collection_toArray_0 : yOk ⟨"java/util/Collection", "toArray", "()[Ljava/lang/Object;"⟩ 0 := by decide +kernel
theorem fo_J8_toArray_Collection_toArray : fwOk ("java/util/ArrayList", ⟨"java/util/Collection", "toArray", "()[Ljava/lang/Object;"⟩, yJ8_toArray) = true := by decide +kernel
set_option maxHeartbeats 4000000 in
theorem fc_J8_addAll_0 (D : DD) (l : Launch) {KS : Nat → Prop} {Hb : Heap} (a c : Nat) (mc m : Int32) (e n cap : Nat) (g : Nat → Option Nat) (hc : cap < 2 ^ 31) (hn : n ≤ cap) (hn6 : n ≤ 10) (iv : va_W) (hel : ∀ H, (∀ q ∈ iv, va_at D.1 aCl q H) → ∀ i, i < n → ∀ y, g i = some y → anyK D "java/lang/Object" y H) (h0 : n = 0) : Fc D l yJ8_addAll cJ8_addAll 6 (some .boolean) 4 1 10 94 KS Hb [.ref a, .ref c] ([oC a 12 [.int mc, .ref (D.2.2.1 1), .int (nI 0)]]) ((oC c 12 [.int m, .ref e, .int (nI n)]) :: (aC D 3 e (qA cap g)) :: iv) (fun r w i => r = some (.int 0) ∧ w = [oC a 12 [.int (mc + 1), .ref (D.2.2.1 1), .int (nI 0)]] ∧ i = []) := by
  refine Fc.of (by decide) (Nat.le_of_ble_eq_true rfl) (fun s F hF hR => ?_)
  show F 0 0 ([oC a 12 [.int mc, .ref (D.2.2.1 1), .int (nI 0)]]) ((oC c 12 [.int m, .ref e, .int (nI n)]) :: (aC D 3 e (qA cap g)) :: iv) 0 [] [(0, .ref a), (1, .ref c)]
  refine r_aload_n 1 1 (hF.pu _ _ _ _) dJ8_addAll_0 rfl rfl ?_
  refine f_callF 6 hF (fc_J8_toArray (KS := KS) (Hb := Hb) D l c m e n cap g hc hn hn6 iv hel) (wr := ([oC a 12 [.int mc, .ref (D.2.2.1 1), .int (nI 0)]])) rfl (fun c hc => by simp only [List.mem_cons] at hc ⊢; rcases hc with h | h | h <;> first | exact Or.inl h | exact Or.inr (Or.inl h) | exact Or.inr (Or.inr (h))) lf_J8_42_J8_toArray fw_1 fo_J8_toArray_Collection_toArray 0 yf_Collection_toArray_0 rfl ⟨by decide, by decide⟩ (fun _ z => ((z.mo 0 rfl).fld 0 rfl)) rfl rfl (Nat.le_of_ble_eq_true rfl) dJ8_addAll_1 ⟨Nat.le_of_ble_eq_true rfl, Nat.le_of_ble_eq_true rfl⟩ rfl (fun r ws_ im' hp => ?_)
  obtain ⟨a1_, rfl, rfl, rfl⟩ := hp
  show F 1 10 ([aC D 3 a1_ (qA n (va_cpy g (fun _ => none) 0 0 n)), oC a 12 [.int mc, .ref (D.2.2.1 1), .int (nI 0)]]) ((oC c 12 [.int m, .ref e, .int (nI n)]) :: (aC D 3 e (qA cap g)) :: iv) 6 [.ref a1_] [(0, .ref a), (1, .ref c)]
  refine r_astore_n 7 [(2, .ref a1_), (0, .ref a), (1, .ref c)] (hF.pu _ _ _ _) dJ8_addAll_6 rfl (by decide) rfl rfl ?_
  refine r_aload_n 8 1 (hF.pu _ _ _ _) dJ8_addAll_7 rfl rfl ?_
  refine r_dup 9 (hF.pu _ _ _ _) dJ8_addAll_8 rfl rfl ?_
  refine f_getf 12 hF (T := TJ8) (C := RJ8) 0 (v := .int mc) okJ8 (fun _ z => ((z.o 1 rfl).fld 0 rfl)) rfl (by decide) (Or.inl q274) (Or.inr q262) dJ8_addAll_9 rfl ?_
  refine r_iconst 13 1 (hF.pu _ _ _ _) dJ8_addAll_12 (by decide) rfl ?_
  refine r_iadd 14 (hF.pu _ _ _ _) dJ8_addAll_13 rfl ?_
  refine f_put 17 hF 1 (T := TJ8) (C := RJ8) ([aC D 3 a1_ (qA n (va_cpy g (fun _ => none) 0 0 n)), oC a 12 [.int (mc + 1), .ref (D.2.2.1 1), .int (nI 0)]]) okJ8 rfl rfl 0 (by decide) (Or.inl q274) (Or.inr q262) rfl rfl rfl (Nat.le_of_ble_eq_true rfl) rfl dJ8_addAll_14 rfl ?_
  refine r_aload_n 18 0 (hF.pu _ _ _ _) dJ8_addAll_17 rfl rfl ?_
  refine f_alen 19 hF (fun _ z => (z.a 0 rfl)) rfl dJ8_addAll_18 rfl ?_
  refine r_istore_n 20 [(3, .int (nI n)), (2, .ref a1_), (0, .ref a), (1, .ref c)] (hF.pu _ _ _ _) dJ8_addAll_19 rfl (by decide) rfl rfl ?_
  refine r_iload_n 21 0 (hF.pu _ _ _ _) dJ8_addAll_20 rfl rfl ?_
  refine r_if_neN n 24 26 (hF.pu _ _ _ _) dJ8_addAll_21 (by omega) (by decide) (fun c21 => absurd c21 (fun z => z h0)) rfl (fun c21 => ?_)
  refine r_iconst 25 0 (hF.pu _ _ _ _) dJ8_addAll_24 (by decide) rfl ?_
  refine f_kp hF [false] ([oC a 12 [.int (mc + 1), .ref (D.2.2.1 1), .int (nI 0)]]) rfl ?_
  refine f_imsub hF [] (imk [] rfl) ?_
  exact FR.i hR rfl dJ8_addAll_25 (Nat.le_of_ble_eq_true rfl) (Nat.le_of_ble_eq_true rfl) ⟨rfl, rfl, rfl⟩
set_option maxHeartbeats 4000000 in
theorem fc_J8_addAll_n (D : DD) (l : Launch) {KS : Nat → Prop} {Hb : Heap} (a c : Nat) (mc m : Int32) (e n cap : Nat) (g : Nat → Option Nat) (hc : cap < 2 ^ 31) (hn : n ≤ cap) (hn6 : n ≤ 10) (iv : va_W) (hel : ∀ H, (∀ q ∈ iv, va_at D.1 aCl q H) → ∀ i, i < n → ∀ y, g i = some y → anyK D "java/lang/Object" y H) (h0 : 0 < n) : Fc D l yJ8_addAll cJ8_addAll 6 (some .boolean) 4 2 20 94 KS Hb [.ref a, .ref c] ([oC a 12 [.int mc, .ref (D.2.2.1 1), .int (nI 0)]]) ((oC c 12 [.int m, .ref e, .int (nI n)]) :: (aC D 3 e (qA cap g)) :: iv) (fun r w i => ∃ b, r = some (.int 1) ∧ w = [oC a 12 [.int (mc + 1), .ref b, .int (nI n)], aC D 3 b (qA 10 (va_cpy (va_cpy g (fun _ => none) 0 0 n) (fun _ => none) 0 0 n))] ∧ i = []) := by
  refine Fc.of (by decide) (Nat.le_of_ble_eq_true rfl) (fun s F hF hR => ?_)
  show F 0 0 ([oC a 12 [.int mc, .ref (D.2.2.1 1), .int (nI 0)]]) ((oC c 12 [.int m, .ref e, .int (nI n)]) :: (aC D 3 e (qA cap g)) :: iv) 0 [] [(0, .ref a), (1, .ref c)]
  refine r_aload_n 1 1 (hF.pu _ _ _ _) dJ8_addAll_0 rfl rfl ?_
  refine f_callF 6 hF (fc_J8_toArray (KS := KS) (Hb := Hb) D l c m e n cap g hc hn hn6 iv hel) (wr := ([oC a 12 [.int mc, .ref (D.2.2.1 1), .int (nI 0)]])) rfl (fun c hc => by simp only [List.mem_cons] at hc ⊢; rcases hc with h | h | h <;> first | exact Or.inl h | exact Or.inr (Or.inl h) | exact Or.inr (Or.inr (h))) lf_J8_42_J8_toArray fw_1 fo_J8_toArray_Collection_toArray 0 yf_Collection_toArray_0 rfl ⟨by decide, by decide⟩ (fun _ z => ((z.mo 0 rfl).fld 0 rfl)) rfl rfl (Nat.le_of_ble_eq_true rfl) dJ8_addAll_1 ⟨Nat.le_of_ble_eq_true rfl, Nat.le_of_ble_eq_true rfl⟩ rfl (fun r ws_ im' hp => ?_)
  obtain ⟨a1_, rfl, rfl, rfl⟩ := hp
  show F 1 10 ([aC D 3 a1_ (qA n (va_cpy g (fun _ => none) 0 0 n)), oC a 12 [.int mc, .ref (D.2.2.1 1), .int (nI 0)]]) ((oC c 12 [.int m, .ref e, .int (nI n)]) :: (aC D 3 e (qA cap g)) :: iv) 6 [.ref a1_] [(0, .ref a), (1, .ref c)]
  refine r_astore_n 7 [(2, .ref a1_), (0, .ref a), (1, .ref c)] (hF.pu _ _ _ _) dJ8_addAll_6 rfl (by decide) rfl rfl ?_
  refine r_aload_n 8 1 (hF.pu _ _ _ _) dJ8_addAll_7 rfl rfl ?_
  refine r_dup 9 (hF.pu _ _ _ _) dJ8_addAll_8 rfl rfl ?_
  refine f_getf 12 hF (T := TJ8) (C := RJ8) 0 (v := .int mc) okJ8 (fun _ z => ((z.o 1 rfl).fld 0 rfl)) rfl (by decide) (Or.inl q274) (Or.inr q262) dJ8_addAll_9 rfl ?_
  refine r_iconst 13 1 (hF.pu _ _ _ _) dJ8_addAll_12 (by decide) rfl ?_
  refine r_iadd 14 (hF.pu _ _ _ _) dJ8_addAll_13 rfl ?_
  refine f_put 17 hF 1 (T := TJ8) (C := RJ8) ([aC D 3 a1_ (qA n (va_cpy g (fun _ => none) 0 0 n)), oC a 12 [.int (mc + 1), .ref (D.2.2.1 1), .int (nI 0)]]) okJ8 rfl rfl 0 (by decide) (Or.inl q274) (Or.inr q262) rfl rfl rfl (Nat.le_of_ble_eq_true rfl) rfl dJ8_addAll_14 rfl ?_
  refine r_aload_n 18 0 (hF.pu _ _ _ _) dJ8_addAll_17 rfl rfl ?_
  refine f_alen 19 hF (fun _ z => (z.a 0 rfl)) rfl dJ8_addAll_18 rfl ?_
  refine r_istore_n 20 [(3, .int (nI n)), (2, .ref a1_), (0, .ref a), (1, .ref c)] (hF.pu _ _ _ _) dJ8_addAll_19 rfl (by decide) rfl rfl ?_
  refine r_iload_n 21 0 (hF.pu _ _ _ _) dJ8_addAll_20 rfl rfl ?_
  refine r_if_neN n 24 26 (hF.pu _ _ _ _) dJ8_addAll_21 (by omega) (by decide) (fun c21 => ?_) rfl (fun c21 => absurd c21 (by omega))
  refine r_iload_n 27 0 (hF.pu _ _ _ _) dJ8_addAll_26 rfl rfl ?_
  refine r_aload_n 28 2 (hF.pu _ _ _ _) dJ8_addAll_27 rfl rfl ?_
  refine f_getf 31 hF (T := TJ8) (C := RJ8) 1 (v := .ref (D.2.2.1 1)) okJ8 (fun _ z => ((z.o 1 rfl).fld 1 rfl)) rfl (by decide) (Or.inl q251) (Or.inl rfl) dJ8_addAll_28 rfl ?_
  refine r_dup 32 (hF.pu _ _ _ _) dJ8_addAll_31 rfl rfl ?_
  refine r_astore 34 [(4, .ref (D.2.2.1 1)), (3, .int (nI n)), (2, .ref a1_), (0, .ref a), (1, .ref c)] (hF.pu _ _ _ _) dJ8_addAll_32 (by decide) rfl rfl ?_
  refine f_c1 hF ?_
  refine f_alen 35 hF (fun _ z => (z.ma 0 rfl)) rfl dJ8_addAll_34 rfl ?_
  refine r_aload_n 36 3 (hF.pu _ _ _ _) dJ8_addAll_35 rfl rfl ?_
  refine f_getf 39 hF (T := TJ8) (C := RJ8) 2 (v := .int (nI 0)) okJ8 (fun _ z => ((z.o 1 rfl).fld 2 rfl)) rfl (by decide) (Or.inl q257) (Or.inl rfl) dJ8_addAll_36 rfl ?_
  refine r_dup 40 (hF.pu _ _ _ _) dJ8_addAll_39 rfl rfl ?_
  refine r_istore 42 [(5, .int (nI 0)), (4, .ref (D.2.2.1 1)), (3, .int (nI n)), (2, .ref a1_), (0, .ref a), (1, .ref c)] (hF.pu _ _ _ _) dJ8_addAll_40 (by decide) rfl rfl ?_
  refine r_isubN 0 0 0 43 (hF.pu _ _ _ _) dJ8_addAll_42 (by omega) (by omega) rfl ?_
  refine r_icmp_leN n 0 46 56 (hF.pu _ _ _ _) dJ8_addAll_43 (by omega) (by omega) (by decide) (fun c43 => absurd c43 (by omega)) rfl (fun c43 => ?_)
  refine r_aload_n 47 4 (hF.pu _ _ _ _) dJ8_addAll_46 rfl rfl ?_
  refine r_iload 49 0 (hF.pu _ _ _ _) dJ8_addAll_47 rfl rfl ?_
  refine r_iload_n 50 2 (hF.pu _ _ _ _) dJ8_addAll_49 rfl rfl ?_
  refine r_iaddN 0 n n 51 (hF.pu _ _ _ _) dJ8_addAll_50 (by omega) rfl ?_
  refine f_ups hF [1] ([oC a 12 [.int (mc + 1), .ref (D.2.2.1 1), .int (nI 0)], aC D 3 a1_ (qA n (va_cpy g (fun _ => none) 0 0 n))]) rfl ?_
  refine f_callV 54 hF (fc_J8_grow_2 (KS := KS) (Hb := Hb) D l a n (mc + 1) (nI 0) (by omega)) (wr := ([aC D 3 a1_ (qA n (va_cpy g (fun _ => none) 0 0 n))])) rfl (imk [] rfl) lk_J8_69 1 yk_J8_grow_2 rfl ⟨by decide, by decide⟩ (fun _ z => ((z.o 0 rfl).fld 0 rfl)) rfl rfl (Nat.le_of_ble_eq_true rfl) dJ8_addAll_51 ⟨Nat.le_of_ble_eq_true rfl, Nat.le_of_ble_eq_true rfl⟩ rfl (fun r ws_ im' hp => ?_)
  obtain ⟨a2_, rfl, rfl, rfl⟩ := hp
  show F 2 20 ([oC a 12 [.int (mc + 1), .ref a2_, .int (nI 0)], aC D 3 a2_ (qA 10 (fun _ => none)), aC D 3 a1_ (qA n (va_cpy g (fun _ => none) 0 0 n))]) ((aC D 3 (D.2.2.1 1) (qA 0 (fun _ => none))) :: (oC c 12 [.int m, .ref e, .int (nI n)]) :: (aC D 3 e (qA cap g)) :: iv) 54 [.ref a2_] [(5, .int (nI 0)), (4, .ref (D.2.2.1 1)), (3, .int (nI n)), (2, .ref a1_), (0, .ref a), (1, .ref c)]
  refine r_astore 56 [(4, .ref a2_), (5, .int (nI 0)), (3, .int (nI n)), (2, .ref a1_), (0, .ref a), (1, .ref c)] (hF.pu _ _ _ _) dJ8_addAll_54 (by decide) rfl rfl ?_
  refine r_aload_n 57 3 (hF.pu _ _ _ _) dJ8_addAll_56 rfl rfl ?_
  refine r_iconst 58 0 (hF.pu _ _ _ _) dJ8_addAll_57 (by decide) rfl ?_
  refine r_aload 60 0 (hF.pu _ _ _ _) dJ8_addAll_58 rfl rfl ?_
  refine r_iload 62 1 (hF.pu _ _ _ _) dJ8_addAll_60 rfl rfl ?_
  refine r_iload_n 63 2 (hF.pu _ _ _ _) dJ8_addAll_62 rfl rfl ?_
  refine f_copyq 66 hF 1 0 0 n ([oC a 12 [.int (mc + 1), .ref a2_, .int (nI 0)], aC D 3 a2_ (qA 10 (va_cpy (va_cpy g (fun _ => none) 0 0 n) (fun _ => none) 0 0 n)), aC D 3 a1_ (qA n (va_cpy g (fun _ => none) 0 0 n))]) (fun _ z => (z.a 2 rfl)) rfl (E0 := "java/lang/Object") (E1 := "java/lang/Object") rfl rfl (fun _ z i hi y hy => hel _ (fun q hq => z.2.2 q (by simp [hq])) i hi y (by simp [va_cpy, hi] at hy; simpa using hy)) q1712 rfl rfl rfl (by omega) (by omega) ⟨by omega, by omega⟩ rfl ⟨by decide, by decide⟩ (Nat.le_of_ble_eq_true rfl) dJ8_addAll_63 rfl ?_
  refine r_aload_n 67 4 (hF.pu _ _ _ _) dJ8_addAll_66 rfl rfl ?_
  refine r_iload 69 1 (hF.pu _ _ _ _) dJ8_addAll_67 rfl rfl ?_
  refine r_iload_n 70 2 (hF.pu _ _ _ _) dJ8_addAll_69 rfl rfl ?_
  refine r_iaddN 0 n n 71 (hF.pu _ _ _ _) dJ8_addAll_70 (by omega) rfl ?_
  refine f_put 74 hF 0 (T := TJ8) (C := RJ8) ([oC a 12 [.int (mc + 1), .ref a2_, .int (nI n)], aC D 3 a2_ (qA 10 (va_cpy (va_cpy g (fun _ => none) 0 0 n) (fun _ => none) 0 0 n)), aC D 3 a1_ (qA n (va_cpy g (fun _ => none) 0 0 n))]) okJ8 rfl rfl 2 (by decide) (Or.inl q257) (Or.inl rfl) rfl rfl rfl (Nat.le_of_ble_eq_true rfl) rfl dJ8_addAll_71 rfl ?_
  refine r_iconst 75 1 (hF.pu _ _ _ _) dJ8_addAll_74 (by decide) rfl ?_
  refine f_kp hF [true, true, false] ([oC a 12 [.int (mc + 1), .ref a2_, .int (nI n)], aC D 3 a2_ (qA 10 (va_cpy (va_cpy g (fun _ => none) 0 0 n) (fun _ => none) 0 0 n))]) rfl ?_
  refine f_imsub hF [] (imk [] rfl) ?_
  exact FR.i hR rfl dJ8_addAll_75 (Nat.le_of_ble_eq_true rfl) (Nat.le_of_ble_eq_true rfl) ⟨_, rfl, rfl, rfl⟩
