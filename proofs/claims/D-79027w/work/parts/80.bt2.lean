theorem minJ_l {a b : Nat} (h : a ≤ b) (hb : b < 2 ^ 31) : minJ (nI a) (nI b) = nI a := by
  unfold minJ
  rw [if_neg (by rw [Int32.lt_iff_toInt_lt, nI_toInt hb, nI_toInt (by omega)]; omega)]
set_option maxHeartbeats 4000000 in
theorem fc_J13_copyOf_4 (D : DD) (l : Launch) {KS : Nat → Prop} {Hb : Heap} (e N N1 : Nat) (f : Nat → Int64) (hN : N < N1) (h1 : N1 ≤ 65536) : Fc D l yJ13_copyOf_4 cJ13_copyOf_4 3 (Option.some (ClassFile.FieldType.array ClassFile.FieldType.long)) 1 1 N1 30 KS Hb [.ref e, .int (nI N1)] ([aC D 1 e (lA N f)]) ([]) (fun r w i => ∃ a, r = some (.ref a) ∧ w = [aC D 1 a (lA N1 (va_cpy f (fun _ => 0) 0 0 N)), aC D 1 e (lA N f)] ∧ i = []) := by
  refine Fc.of (by decide) (Nat.le_of_ble_eq_true rfl) (fun s F hF hR => ?_)
  show F 0 0 ([aC D 1 e (lA N f)]) ([]) 0 [] [(0, .ref e), (1, .int (nI N1))]
  refine r_iload_n 1 1 (hF.pu _ _ _ _) dJ13_copyOf_4_0 rfl rfl ?_
  refine r_aload_n 2 0 (hF.pu _ _ _ _) dJ13_copyOf_4_1 rfl rfl ?_
  refine f_alen 3 hF (fun _ z => (z.a 0 rfl)) rfl dJ13_copyOf_4_2 rfl ?_
  refine r_icmp_neN N1 N 6 14 (hF.pu _ _ _ _) dJ13_copyOf_4_3 (by omega) (by omega) (by decide) (fun c3 => ?_) rfl (fun c3 => absurd c3 (by omega))
  refine r_iload_n 15 1 (hF.pu _ _ _ _) dJ13_copyOf_4_14 rfl rfl ?_
  refine f_newl 17 hF q468 rfl (by omega) ⟨by show 1 ≤ 1; omega, by show 0 + N1 ≤ N1; omega⟩ dJ13_copyOf_4_15 rfl (fun a1_ => ?_)
  refine r_astore_n 18 [(2, .ref a1_), (0, .ref e), (1, .int (nI N1))] (hF.pu _ _ _ _) dJ13_copyOf_4_17 rfl (by decide) rfl rfl ?_
  refine r_aload_n 19 1 (hF.pu _ _ _ _) dJ13_copyOf_4_18 rfl rfl ?_
  refine r_iconst 20 0 (hF.pu _ _ _ _) dJ13_copyOf_4_19 (by decide) rfl ?_
  refine r_aload_n 21 0 (hF.pu _ _ _ _) dJ13_copyOf_4_20 rfl rfl ?_
  refine r_iconst 22 0 (hF.pu _ _ _ _) dJ13_copyOf_4_21 (by decide) rfl ?_
  refine r_aload_n 23 1 (hF.pu _ _ _ _) dJ13_copyOf_4_22 rfl rfl ?_
  refine f_alen 24 hF (fun _ z => (z.a 1 rfl)) rfl dJ13_copyOf_4_23 rfl ?_
  refine r_iload_n 25 2 (hF.pu _ _ _ _) dJ13_copyOf_4_24 rfl rfl ?_
  refine f_minJ 28 hF q438 ⟨Nat.le_of_ble_eq_true rfl, Nat.le_of_ble_eq_true rfl⟩ (Nat.le_of_ble_eq_true rfl) dJ13_copyOf_4_25 ⟨by show 1 ≤ 1; omega, by show 0 + N1 ≤ N1; omega⟩ rfl ?_
  refine r_eqi (nI N) (minJ_l (a := N) (b := N1) (by omega) (by omega)) ?_
  refine f_copyl 31 hF 0 0 0 N ([aC D 1 a1_ (lA N1 (va_cpy f (fun _ => 0) 0 0 N)), aC D 1 e (lA N f)]) (fun _ z => (z.a 1 rfl)) rfl q441 rfl rfl rfl (by omega) (by omega) ⟨by omega, by omega⟩ rfl ⟨Nat.le_of_ble_eq_true rfl, Nat.le_of_ble_eq_true rfl⟩ (Nat.le_of_ble_eq_true rfl) dJ13_copyOf_4_28 rfl ?_
  refine r_aload_n 32 0 (hF.pu _ _ _ _) dJ13_copyOf_4_31 rfl rfl ?_
  exact FR.a hR (Or.inr ⟨_, rfl⟩) dJ13_copyOf_4_32 (by omega) (by omega) ⟨_, rfl, rfl, rfl⟩
theorem lk_J54_59 : GoodIn lw_all (va_wsS RJ54 59 yJ13_copyOf_4 (ws_ yJ13_copyOf_4 cJ13_copyOf_4 3 (Option.some (ClassFile.FieldType.array ClassFile.FieldType.long)))) := lw_S q3361 q3362 q120 q3363
theorem yk_J13_copyOf_4 : yOk yJ13_copyOf_4 2 := by decide +kernel
set_option maxHeartbeats 4000000 in
theorem fc_J54_ensureCapacity_g (D : DD) (l : Launch) {KS : Nat → Prop} {Hb : Heap} (b w N N1 W k : Nat) (f : Nat → Int64) (hg1 : N1 = if 2 * N < k + 1 then k + 1 else 2 * N) (hg2 : N < k + 1) (hk : k < 1024) (hN : N ≤ 1024) : Fc D l yJ54_ensureCapacity cJ54_ensureCapacity 3 none 2 1 N1 52 KS Hb [.ref b, .int (nI (k + 1))] ([oC b 17 [.ref w, .int (nI W), .int 0], aC D 1 w (lA N f)]) ([]) (fun r w_ i => ∃ w2, r = none ∧ w_ = [oC b 17 [.ref w2, .int (nI W), .int 0], aC D 1 w2 (lA N1 (va_cpy f (fun _ => 0) 0 0 N))] ∧ i = []) := by
  refine Fc.of (by decide) (Nat.le_of_ble_eq_true rfl) (fun s F hF hR => ?_)
  show F 0 0 ([oC b 17 [.ref w, .int (nI W), .int 0], aC D 1 w (lA N f)]) ([]) 0 [] [(0, .ref b), (1, .int (nI (k + 1)))]
  have hN1 : N < N1 ∧ N1 ≤ 4096 := by rw [hg1]; split <;> omega
  refine r_aload_n 1 0 (hF.pu _ _ _ _) dJ54_ensureCapacity_0 rfl rfl ?_
  refine f_getf 4 hF (T := TJ54) (C := RJ54) 0 (v := .ref w) okJ54 (fun _ z => ((z.o 0 rfl).fld 0 rfl)) rfl (by decide) (Or.inl q3326) (Or.inl rfl) dJ54_ensureCapacity_1 rfl ?_
  refine f_alen 5 hF (fun _ z => (z.a 1 rfl)) rfl dJ54_ensureCapacity_4 rfl ?_
  refine r_iload_n 6 1 (hF.pu _ _ _ _) dJ54_ensureCapacity_5 rfl rfl ?_
  refine r_icmp_geN N (k + 1) 9 38 (hF.pu _ _ _ _) dJ54_ensureCapacity_6 (by omega) (by omega) (by decide) (fun c6 => absurd c6 (by omega)) rfl (fun c6 => ?_)
  refine r_iconst 10 2 (hF.pu _ _ _ _) dJ54_ensureCapacity_9 (by decide) rfl ?_
  refine r_aload_n 11 0 (hF.pu _ _ _ _) dJ54_ensureCapacity_10 rfl rfl ?_
  refine f_getf 14 hF (T := TJ54) (C := RJ54) 0 (v := .ref w) okJ54 (fun _ z => ((z.o 0 rfl).fld 0 rfl)) rfl (by decide) (Or.inl q3326) (Or.inl rfl) dJ54_ensureCapacity_11 rfl ?_
  refine f_alen 15 hF (fun _ z => (z.a 1 rfl)) rfl dJ54_ensureCapacity_14 rfl ?_
  refine r_imulN 2 N (2 * N) 16 (hF.pu _ _ _ _) dJ54_ensureCapacity_15 rfl rfl ?_
  refine r_iload_n 17 1 (hF.pu _ _ _ _) dJ54_ensureCapacity_16 rfl rfl ?_
  refine f_maxJ 20 hF q3360 ⟨Nat.le_of_ble_eq_true rfl, Nat.le_of_ble_eq_true rfl⟩ (Nat.le_of_ble_eq_true rfl) dJ54_ensureCapacity_17 ⟨by show 0 ≤ 1; omega, by show 0 ≤ N1; omega⟩ rfl ?_
  refine r_eqi (nI N1) ((mx_eq (a := 2 * N) (b := k + 1) (by omega) (by omega)).trans (by rw [← hg1])) ?_
  refine r_istore_n 21 [(2, .int (nI N1)), (0, .ref b), (1, .int (nI (k + 1)))] (hF.pu _ _ _ _) dJ54_ensureCapacity_20 rfl (by decide) rfl rfl ?_
  refine r_aload_n 22 1 (hF.pu _ _ _ _) dJ54_ensureCapacity_21 rfl rfl ?_
  refine r_aload_n 23 1 (hF.pu _ _ _ _) dJ54_ensureCapacity_22 rfl rfl ?_
  refine f_getf 26 hF (T := TJ54) (C := RJ54) 0 (v := .ref w) okJ54 (fun _ z => ((z.o 0 rfl).fld 0 rfl)) rfl (by decide) (Or.inl q3326) (Or.inl rfl) dJ54_ensureCapacity_23 rfl ?_
  refine r_iload_n 27 0 (hF.pu _ _ _ _) dJ54_ensureCapacity_26 rfl rfl ?_
  refine f_ups hF [1] ([aC D 1 w (lA N f), oC b 17 [.ref w, .int (nI W), .int 0]]) rfl ?_
  refine f_callS 30 hF (fc_J13_copyOf_4 (KS := KS) (Hb := Hb) D l w N N1 f (by omega) (by omega)) (wr := ([oC b 17 [.ref w, .int (nI W), .int 0]])) rfl (imk [] rfl) lk_J54_59 2 yk_J13_copyOf_4 rfl ⟨Nat.le_of_ble_eq_true rfl, Nat.le_of_ble_eq_true rfl⟩ rfl (Nat.le_of_ble_eq_true rfl) dJ54_ensureCapacity_27 ⟨by show 1 ≤ 1; omega, by show 0 + N1 ≤ N1; omega⟩ rfl (fun r ws_ im' hp => ?_)
  obtain ⟨a1_, rfl, rfl, rfl⟩ := hp
  show F 1 (0 + N1) ([aC D 1 a1_ (lA N1 (va_cpy f (fun _ => 0) 0 0 N)), aC D 1 w (lA N f), oC b 17 [.ref w, .int (nI W), .int 0]]) ([]) 30 [.ref a1_, .ref b] [(2, .int (nI N1)), (0, .ref b), (1, .int (nI (k + 1)))]
  refine f_put 33 hF 2 (T := TJ54) (C := RJ54) ([aC D 1 a1_ (lA N1 (va_cpy f (fun _ => 0) 0 0 N)), aC D 1 w (lA N f), oC b 17 [.ref a1_, .int (nI W), .int 0]]) okJ54 rfl rfl 0 (by decide) (Or.inl q3326) (Or.inl rfl) rfl rfl rfl (Nat.le_of_ble_eq_true rfl) rfl dJ54_ensureCapacity_30 rfl ?_
  refine r_aload_n 34 1 (hF.pu _ _ _ _) dJ54_ensureCapacity_33 rfl rfl ?_
  refine r_iconst 35 0 (hF.pu _ _ _ _) dJ54_ensureCapacity_34 (by decide) rfl ?_
  refine f_put 38 hF 2 (T := TJ54) (C := RJ54) ([aC D 1 a1_ (lA N1 (va_cpy f (fun _ => 0) 0 0 N)), aC D 1 w (lA N f), oC b 17 [.ref a1_, .int (nI W), .int 0]]) okJ54 rfl rfl 2 (by decide) (Or.inl q3328) (Or.inl rfl) rfl rfl rfl (Nat.le_of_ble_eq_true rfl) rfl dJ54_ensureCapacity_35 rfl ?_
  refine f_kp hF [true, false] ([aC D 1 a1_ (lA N1 (va_cpy f (fun _ => 0) 0 0 N)), oC b 17 [.ref a1_, .int (nI W), .int 0]]) rfl ?_
  refine f_ups hF [1] ([oC b 17 [.ref a1_, .int (nI W), .int 0], aC D 1 a1_ (lA N1 (va_cpy f (fun _ => 0) 0 0 N))]) rfl ?_
  exact FR.v hR dJ54_ensureCapacity_38 (by omega) (by omega) ⟨_, rfl, rfl, rfl⟩
set_option maxHeartbeats 4000000 in
theorem fc_J54_ensureCapacity_n (D : DD) (l : Launch) {KS : Nat → Prop} {Hb : Heap} (b w N W k : Nat) (f : Nat → Int64) (hk : k < N) (hN : N ≤ 4096) : Fc D l yJ54_ensureCapacity cJ54_ensureCapacity 3 none 0 0 0 0 KS Hb [.ref b, .int (nI (k + 1))] ([oC b 17 [.ref w, .int (nI W), .int 0], aC D 1 w (lA N f)]) ([]) (fun r w_ i => r = none ∧ w_ = [oC b 17 [.ref w, .int (nI W), .int 0], aC D 1 w (lA N f)] ∧ i = []) := by
  refine Fc.of (by decide) (Nat.le_of_ble_eq_true rfl) (fun s F hF hR => ?_)
  show F 0 0 ([oC b 17 [.ref w, .int (nI W), .int 0], aC D 1 w (lA N f)]) ([]) 0 [] [(0, .ref b), (1, .int (nI (k + 1)))]
  refine r_aload_n 1 0 (hF.pu _ _ _ _) dJ54_ensureCapacity_0 rfl rfl ?_
  refine f_getf 4 hF (T := TJ54) (C := RJ54) 0 (v := .ref w) okJ54 (fun _ z => ((z.o 0 rfl).fld 0 rfl)) rfl (by decide) (Or.inl q3326) (Or.inl rfl) dJ54_ensureCapacity_1 rfl ?_
  refine f_alen 5 hF (fun _ z => (z.a 1 rfl)) rfl dJ54_ensureCapacity_4 rfl ?_
  refine r_iload_n 6 1 (hF.pu _ _ _ _) dJ54_ensureCapacity_5 rfl rfl ?_
  refine r_icmp_geN N (k + 1) 9 38 (hF.pu _ _ _ _) dJ54_ensureCapacity_6 (by omega) (by omega) (by decide) (fun c6 => ?_) rfl (fun c6 => absurd c6 (by omega))
  exact FR.v hR dJ54_ensureCapacity_38 (Nat.le_of_ble_eq_true rfl) (Nat.le_of_ble_eq_true rfl) ⟨rfl, rfl, rfl⟩
theorem lk_J54_139 : GoodIn lw_all (wsV RJ54 139 yJ54_ensureCapacity.cls yJ54_ensureCapacity (ws_ yJ54_ensureCapacity cJ54_ensureCapacity 3 none)) := lw_V q3356 q3358 qs57 q171 q3359
theorem yk_J54_ensureCapacity : yOk yJ54_ensureCapacity 1 := by decide +kernel
set_option maxHeartbeats 4000000 in
theorem fc_J54_expandTo_n (D : DD) (l : Launch) {KS : Nat → Prop} {Hb : Heap} (b w N W k : Nat) (f : Nat → Int64) (hk : k < N) (hW : W ≤ N) (hN : N ≤ 4096) : Fc D l yJ54_expandTo cJ54_expandTo 3 none 1 0 0 22 KS Hb [.ref b, .int (nI k)] ([oC b 17 [.ref w, .int (nI W), .int 0], aC D 1 w (lA N f)]) ([]) (fun r w_ i => r = none ∧ w_ = [oC b 17 [.ref w, .int (nI (if W < k + 1 then k + 1 else W)), .int 0], aC D 1 w (lA N f)] ∧ i = []) := by
  refine Fc.of (by decide) (Nat.le_of_ble_eq_true rfl) (fun s F hF hR => ?_)
  show F 0 0 ([oC b 17 [.ref w, .int (nI W), .int 0], aC D 1 w (lA N f)]) ([]) 0 [] [(0, .ref b), (1, .int (nI k))]
  refine r_iload_n 1 1 (hF.pu _ _ _ _) dJ54_expandTo_0 rfl rfl ?_
  refine r_iconst 2 1 (hF.pu _ _ _ _) dJ54_expandTo_1 (by decide) rfl ?_
  refine r_iaddN k 1 (k + 1) 3 (hF.pu _ _ _ _) dJ54_expandTo_2 rfl rfl ?_
  refine r_istore_n 4 [(2, .int (nI (k + 1))), (0, .ref b), (1, .int (nI k))] (hF.pu _ _ _ _) dJ54_expandTo_3 rfl (by decide) rfl rfl ?_
  refine r_aload_n 5 1 (hF.pu _ _ _ _) dJ54_expandTo_4 rfl rfl ?_
  refine f_getf 8 hF (T := TJ54) (C := RJ54) 1 (v := .int (nI W)) okJ54 (fun _ z => ((z.o 0 rfl).fld 1 rfl)) rfl (by decide) (Or.inl q3327) (Or.inl rfl) dJ54_expandTo_5 rfl ?_
  refine r_iload_n 9 0 (hF.pu _ _ _ _) dJ54_expandTo_8 rfl rfl ?_
  refine r_icmp_geN W (k + 1) 12 22 (hF.pu _ _ _ _) dJ54_expandTo_9 (by omega) (by omega) (by decide) (fun c9 => ?_) rfl (fun c9 => ?_)
  · refine f_eqw ([oC b 17 [.ref w, .int (nI (if W < k + 1 then k + 1 else W)), .int 0], aC D 1 w (lA N f)]) (by rw [if_neg (by omega)]) ?_
    exact FR.v hR dJ54_expandTo_22 (Nat.le_of_ble_eq_true rfl) (Nat.le_of_ble_eq_true rfl) ⟨rfl, rfl, rfl⟩
  · refine r_aload_n 13 1 (hF.pu _ _ _ _) dJ54_expandTo_12 rfl rfl ?_
    refine r_iload_n 14 0 (hF.pu _ _ _ _) dJ54_expandTo_13 rfl rfl ?_
    refine f_callV 17 hF (fc_J54_ensureCapacity_n (KS := KS) (Hb := Hb) D l b w N W k f (by omega) (by omega)) (wr := ([])) rfl (imk [] rfl) lk_J54_139 1 yk_J54_ensureCapacity rfl ⟨by decide, by decide⟩ (fun _ z => ((z.o 0 rfl).fld 0 rfl)) rfl rfl (Nat.le_of_ble_eq_true rfl) dJ54_expandTo_14 ⟨Nat.le_of_ble_eq_true rfl, Nat.le_of_ble_eq_true rfl⟩ rfl (fun r ws_ im' hp => ?_)
    obtain ⟨rfl, rfl, rfl⟩ := hp
    show F 0 0 ([oC b 17 [.ref w, .int (nI W), .int 0], aC D 1 w (lA N f)]) ([]) 17 [] [(2, .int (nI (k + 1))), (0, .ref b), (1, .int (nI k))]
    refine r_aload_n 18 1 (hF.pu _ _ _ _) dJ54_expandTo_17 rfl rfl ?_
    refine r_iload_n 19 0 (hF.pu _ _ _ _) dJ54_expandTo_18 rfl rfl ?_
    refine f_put 22 hF 0 (T := TJ54) (C := RJ54) ([oC b 17 [.ref w, .int (nI (k + 1)), .int 0], aC D 1 w (lA N f)]) okJ54 rfl rfl 1 (by decide) (Or.inl q3327) (Or.inl rfl) rfl rfl rfl (Nat.le_of_ble_eq_true rfl) rfl dJ54_expandTo_19 rfl ?_
    refine f_eqw ([oC b 17 [.ref w, .int (nI (if W < k + 1 then k + 1 else W)), .int 0], aC D 1 w (lA N f)]) (by rw [if_pos (by omega)]) ?_
    exact FR.v hR dJ54_expandTo_22 (Nat.le_of_ble_eq_true rfl) (Nat.le_of_ble_eq_true rfl) ⟨rfl, rfl, rfl⟩
set_option maxHeartbeats 4000000 in
theorem fc_J54_expandTo_g (D : DD) (l : Launch) {KS : Nat → Prop} {Hb : Heap} (b w N N1 W k : Nat) (f : Nat → Int64) (hW : W ≤ N) (hg1 : N1 = if 2 * N < k + 1 then k + 1 else 2 * N) (hg2 : N < k + 1) (hk : k < 1024) (hN : N ≤ 1024) : Fc D l yJ54_expandTo cJ54_expandTo 3 none 3 1 N1 74 KS Hb [.ref b, .int (nI k)] ([oC b 17 [.ref w, .int (nI W), .int 0], aC D 1 w (lA N f)]) ([]) (fun r w_ i => ∃ w2, r = none ∧ w_ = [oC b 17 [.ref w2, .int (nI (k + 1)), .int 0], aC D 1 w2 (lA N1 (va_cpy f (fun _ => 0) 0 0 N))] ∧ i = []) := by
  refine Fc.of (by decide) (Nat.le_of_ble_eq_true rfl) (fun s F hF hR => ?_)
  show F 0 0 ([oC b 17 [.ref w, .int (nI W), .int 0], aC D 1 w (lA N f)]) ([]) 0 [] [(0, .ref b), (1, .int (nI k))]
  refine r_iload_n 1 1 (hF.pu _ _ _ _) dJ54_expandTo_0 rfl rfl ?_
  refine r_iconst 2 1 (hF.pu _ _ _ _) dJ54_expandTo_1 (by decide) rfl ?_
  refine r_iaddN k 1 (k + 1) 3 (hF.pu _ _ _ _) dJ54_expandTo_2 rfl rfl ?_
  refine r_istore_n 4 [(2, .int (nI (k + 1))), (0, .ref b), (1, .int (nI k))] (hF.pu _ _ _ _) dJ54_expandTo_3 rfl (by decide) rfl rfl ?_
  refine r_aload_n 5 1 (hF.pu _ _ _ _) dJ54_expandTo_4 rfl rfl ?_
  refine f_getf 8 hF (T := TJ54) (C := RJ54) 1 (v := .int (nI W)) okJ54 (fun _ z => ((z.o 0 rfl).fld 1 rfl)) rfl (by decide) (Or.inl q3327) (Or.inl rfl) dJ54_expandTo_5 rfl ?_
  refine r_iload_n 9 0 (hF.pu _ _ _ _) dJ54_expandTo_8 rfl rfl ?_
  refine r_icmp_geN W (k + 1) 12 22 (hF.pu _ _ _ _) dJ54_expandTo_9 (by omega) (by omega) (by decide) (fun c9 => absurd c9 (by omega)) rfl (fun c9 => ?_)
  refine r_aload_n 13 1 (hF.pu _ _ _ _) dJ54_expandTo_12 rfl rfl ?_
  refine r_iload_n 14 0 (hF.pu _ _ _ _) dJ54_expandTo_13 rfl rfl ?_
  refine f_callV 17 hF (fc_J54_ensureCapacity_g (KS := KS) (Hb := Hb) D l b w N N1 W k f hg1 hg2 hk hN) (wr := ([])) rfl (imk [] rfl) lk_J54_139 1 yk_J54_ensureCapacity rfl ⟨Nat.le_of_ble_eq_true rfl, Nat.le_of_ble_eq_true rfl⟩ (fun _ z => ((z.o 0 rfl).fld 0 rfl)) rfl rfl (Nat.le_of_ble_eq_true rfl) dJ54_expandTo_14 ⟨by show 1 ≤ 1; omega, by show 0 + N1 ≤ N1; omega⟩ rfl (fun r ws_ im' hp => ?_)
  obtain ⟨a1_, rfl, rfl, rfl⟩ := hp
  show F 1 (0 + N1) ([oC b 17 [.ref a1_, .int (nI W), .int 0], aC D 1 a1_ (lA N1 (va_cpy f (fun _ => 0) 0 0 N))]) ([]) 17 [] [(2, .int (nI (k + 1))), (0, .ref b), (1, .int (nI k))]
  refine r_aload_n 18 1 (hF.pu _ _ _ _) dJ54_expandTo_17 rfl rfl ?_
  refine r_iload_n 19 0 (hF.pu _ _ _ _) dJ54_expandTo_18 rfl rfl ?_
  refine f_put 22 hF 0 (T := TJ54) (C := RJ54) ([oC b 17 [.ref a1_, .int (nI (k + 1)), .int 0], aC D 1 a1_ (lA N1 (va_cpy f (fun _ => 0) 0 0 N))]) okJ54 rfl rfl 1 (by decide) (Or.inl q3327) (Or.inl rfl) rfl rfl rfl (Nat.le_of_ble_eq_true rfl) rfl dJ54_expandTo_19 rfl ?_
  exact FR.v hR dJ54_expandTo_22 (by omega) (by omega) ⟨_, rfl, rfl, rfl⟩
theorem lk_J54_155 : GoodIn lw_all (wsV RJ54 155 yJ54_expandTo.cls yJ54_expandTo (ws_ yJ54_expandTo cJ54_expandTo 3 none)) := lw_V q3352 q3354 qs56 q171 q3355
theorem yk_J54_expandTo : yOk yJ54_expandTo 1 := by decide +kernel
theorem lk_J54_56 : GoodIn lw_all (wsV RJ54 56 yJ54_checkInvariants.cls yJ54_checkInvariants (ws_ yJ54_checkInvariants cJ54_checkInvariants 1 none)) := lw_V q3366 q3368 qs58 q171 q3369
theorem yk_J54_checkInvariants : yOk yJ54_checkInvariants 0 := by decide +kernel
set_option maxHeartbeats 4000000 in
theorem fc_J54_set_2_n (D : DD) (l : Launch) {KS : Nat → Prop} {Hb : Heap} (b w N W i : Nat) (f : Nat → Int64) (hi : i < 65536) (hk : i / 64 < N) (hW : W ≤ N) (hN : N ≤ 4096) : Fc D l yJ54_set_2 cJ54_set_2 3 none 2 0 0 44 KS Hb [.ref b, .int (nI i)] ([oC b 17 [.ref w, .int (nI W), .int 0], aC D 1 w (lA N f)]) ([]) (fun r w_ i_ => r = none ∧ w_ = [oC b 17 [.ref w, .int (nI (if W < i / 64 + 1 then i / 64 + 1 else W)), .int 0], aC D 1 w (lA N (vp_updL f (i / 64) ((f (i / 64)) ||| (1 <<< ((Int32.toInt64 (nI i)) &&& 63)))))] ∧ i_ = []) := by
  refine Fc.of (by decide) (Nat.le_of_ble_eq_true rfl) (fun s F hF hR => ?_)
  show F 0 0 ([oC b 17 [.ref w, .int (nI W), .int 0], aC D 1 w (lA N f)]) ([]) 0 [] [(0, .ref b), (1, .int (nI i))]
  refine r_iload_n 1 1 (hF.pu _ _ _ _) dJ54_set_2_0 rfl rfl ?_
  refine r_if_geN i 4 31 (hF.pu _ _ _ _) dJ54_set_2_1 (by omega) (by decide) ?_
  refine r_iload_n 32 1 (hF.pu _ _ _ _) dJ54_set_2_31 rfl rfl ?_
  refine f_callS' 35 hF (ts_J54_wordIndex D l i (by omega)) lk_J54_52 1 yk_J54_wordIndex rfl ⟨by decide, by decide⟩ rfl (Nat.le_of_ble_eq_true rfl) dJ54_set_2_32 ⟨Nat.le_of_ble_eq_true rfl, Nat.le_of_ble_eq_true rfl⟩ rfl ?_
  refine r_istore_n 36 [(2, .int (nI (i / 64))), (0, .ref b), (1, .int (nI i))] (hF.pu _ _ _ _) dJ54_set_2_35 rfl (by decide) rfl rfl ?_
  refine r_aload_n 37 1 (hF.pu _ _ _ _) dJ54_set_2_36 rfl rfl ?_
  refine r_iload_n 38 0 (hF.pu _ _ _ _) dJ54_set_2_37 rfl rfl ?_
  refine f_callV 41 hF (fc_J54_expandTo_n (KS := KS) (Hb := Hb) D l b w N W (i / 64) f (by omega) (by omega) (by omega)) (wr := ([])) rfl (imk [] rfl) lk_J54_155 1 yk_J54_expandTo rfl ⟨by decide, by decide⟩ (fun _ z => ((z.o 0 rfl).fld 0 rfl)) rfl rfl (Nat.le_of_ble_eq_true rfl) dJ54_set_2_38 ⟨Nat.le_of_ble_eq_true rfl, Nat.le_of_ble_eq_true rfl⟩ rfl (fun r ws_ im' hp => ?_)
  obtain ⟨rfl, rfl, rfl⟩ := hp
  show F 0 0 ([oC b 17 [.ref w, .int (nI (if W < (i / 64) + 1 then (i / 64) + 1 else W)), .int 0], aC D 1 w (lA N f)]) ([]) 41 [] [(2, .int (nI (i / 64))), (0, .ref b), (1, .int (nI i))]
  refine r_aload_n 42 1 (hF.pu _ _ _ _) dJ54_set_2_41 rfl rfl ?_
  refine f_getf 45 hF (T := TJ54) (C := RJ54) 0 (v := .ref w) okJ54 (fun _ z => ((z.o 0 rfl).fld 0 rfl)) rfl (by decide) (Or.inl q3326) (Or.inl rfl) dJ54_set_2_42 rfl ?_
  refine r_iload_n 46 0 (hF.pu _ _ _ _) dJ54_set_2_45 rfl rfl ?_
  refine r_dup2_11 47 (hF.pu _ _ _ _) dJ54_set_2_46 rfl rfl rfl ?_
  refine f_lald 48 hF (i / 64) (x := f (i / 64)) (fun _ z => ⟨_, (z.a 1 rfl), rfl⟩) rfl (by omega) (by omega) dJ54_set_2_47 rfl ?_
  refine r_lconst 49 1 (hF.pu _ _ _ _) dJ54_set_2_48 (by decide) rfl ?_
  refine r_iload_n 50 2 (hF.pu _ _ _ _) dJ54_set_2_49 rfl rfl ?_
  refine r_lshl 51 (hF.pu _ _ _ _) dJ54_set_2_50 rfl ?_
  refine r_lor 52 (hF.pu _ _ _ _) dJ54_set_2_51 rfl ?_
  refine f_last 53 hF 1 ([oC b 17 [.ref w, .int (nI (if W < (i / 64) + 1 then (i / 64) + 1 else W)), .int 0], aC D 1 w (lA N (vp_updL f (i / 64) ((f (i / 64)) ||| (1 <<< ((Int32.toInt64 (nI i)) &&& 63)))))]) rfl (i / 64) rfl (by omega) (by omega) rfl dJ54_set_2_52 rfl ?_
  refine r_aload_n 54 1 (hF.pu _ _ _ _) dJ54_set_2_53 rfl rfl ?_
  refine f_callV 57 hF (fc_J54_checkInvariants (KS := KS) (Hb := Hb) D l b) (wr := ([oC b 17 [.ref w, .int (nI (if W < (i / 64) + 1 then (i / 64) + 1 else W)), .int 0], aC D 1 w (lA N (vp_updL f (i / 64) ((f (i / 64)) ||| (1 <<< ((Int32.toInt64 (nI i)) &&& 63)))))])) rfl (imk [] rfl) lk_J54_56 0 yk_J54_checkInvariants rfl ⟨by decide, by decide⟩ (fun _ z => ((z.o 0 rfl).fld 0 rfl)) rfl rfl (Nat.le_of_ble_eq_true rfl) dJ54_set_2_54 ⟨Nat.le_of_ble_eq_true rfl, Nat.le_of_ble_eq_true rfl⟩ rfl (fun r ws_ im' hp => ?_)
  obtain ⟨rfl, rfl, rfl⟩ := hp
  show F 0 0 ([oC b 17 [.ref w, .int (nI (if W < (i / 64) + 1 then (i / 64) + 1 else W)), .int 0], aC D 1 w (lA N (vp_updL f (i / 64) ((f (i / 64)) ||| (1 <<< ((Int32.toInt64 (nI i)) &&& 63)))))]) ([]) 57 [] [(2, .int (nI (i / 64))), (0, .ref b), (1, .int (nI i))]
  exact FR.v hR dJ54_set_2_57 (Nat.le_of_ble_eq_true rfl) (Nat.le_of_ble_eq_true rfl) ⟨rfl, rfl, rfl⟩
set_option maxHeartbeats 4000000 in
theorem fc_J54_set_2_g (D : DD) (l : Launch) {KS : Nat → Prop} {Hb : Heap} (b w N N1 W i : Nat) (f : Nat → Int64) (hi : i < 65536) (hW : W ≤ N) (hg1 : N1 = if 2 * N < (i / 64) + 1 then (i / 64) + 1 else 2 * N) (hg2 : N < (i / 64) + 1) (hk : (i / 64) < 1024) (hN : N ≤ 1024) : Fc D l yJ54_set_2 cJ54_set_2 3 none 4 1 N1 96 KS Hb [.ref b, .int (nI i)] ([oC b 17 [.ref w, .int (nI W), .int 0], aC D 1 w (lA N f)]) ([]) (fun r w_ i_ => ∃ w2, r = none ∧ w_ = [oC b 17 [.ref w2, .int (nI (i / 64 + 1)), .int 0], aC D 1 w2 (lA N1 (vp_updL (va_cpy f (fun _ => 0) 0 0 N) (i / 64) ((va_cpy f (fun _ => 0) 0 0 N (i / 64)) ||| (1 <<< ((Int32.toInt64 (nI i)) &&& 63)))))] ∧ i_ = []) := by
  refine Fc.of (by decide) (Nat.le_of_ble_eq_true rfl) (fun s F hF hR => ?_)
  show F 0 0 ([oC b 17 [.ref w, .int (nI W), .int 0], aC D 1 w (lA N f)]) ([]) 0 [] [(0, .ref b), (1, .int (nI i))]
  have hN1 : i / 64 < N1 ∧ N1 ≤ 4096 := by rw [hg1]; split <;> omega
  refine r_iload_n 1 1 (hF.pu _ _ _ _) dJ54_set_2_0 rfl rfl ?_
  refine r_if_geN i 4 31 (hF.pu _ _ _ _) dJ54_set_2_1 (by omega) (by decide) ?_
  refine r_iload_n 32 1 (hF.pu _ _ _ _) dJ54_set_2_31 rfl rfl ?_
  refine f_callS' 35 hF (ts_J54_wordIndex D l i (by omega)) lk_J54_52 1 yk_J54_wordIndex rfl ⟨Nat.le_of_ble_eq_true rfl, Nat.le_of_ble_eq_true rfl⟩ rfl (Nat.le_of_ble_eq_true rfl) dJ54_set_2_32 ⟨by show 0 ≤ 1; omega, by show 0 ≤ N1; omega⟩ rfl ?_
  refine r_istore_n 36 [(2, .int (nI (i / 64))), (0, .ref b), (1, .int (nI i))] (hF.pu _ _ _ _) dJ54_set_2_35 rfl (by decide) rfl rfl ?_
  refine r_aload_n 37 1 (hF.pu _ _ _ _) dJ54_set_2_36 rfl rfl ?_
  refine r_iload_n 38 0 (hF.pu _ _ _ _) dJ54_set_2_37 rfl rfl ?_
  refine f_callV 41 hF (fc_J54_expandTo_g (KS := KS) (Hb := Hb) D l b w N N1 W (i / 64) f (by omega) hg1 hg2 (by omega) hN) (wr := ([])) rfl (imk [] rfl) lk_J54_155 1 yk_J54_expandTo rfl ⟨Nat.le_of_ble_eq_true rfl, Nat.le_of_ble_eq_true rfl⟩ (fun _ z => ((z.o 0 rfl).fld 0 rfl)) rfl rfl (Nat.le_of_ble_eq_true rfl) dJ54_set_2_38 ⟨by show 1 ≤ 1; omega, by show 0 + N1 ≤ N1; omega⟩ rfl (fun r ws_ im' hp => ?_)
  obtain ⟨a1_, rfl, rfl, rfl⟩ := hp
  show F 1 (0 + N1) ([oC b 17 [.ref a1_, .int (nI (i / 64 + 1)), .int 0], aC D 1 a1_ (lA N1 (va_cpy f (fun _ => 0) 0 0 N))]) ([]) 41 [] [(2, .int (nI (i / 64))), (0, .ref b), (1, .int (nI i))]
  refine r_aload_n 42 1 (hF.pu _ _ _ _) dJ54_set_2_41 rfl rfl ?_
  refine f_getf 45 hF (T := TJ54) (C := RJ54) 0 (v := .ref a1_) okJ54 (fun _ z => ((z.o 0 rfl).fld 0 rfl)) rfl (by decide) (Or.inl q3326) (Or.inl rfl) dJ54_set_2_42 rfl ?_
  refine r_iload_n 46 0 (hF.pu _ _ _ _) dJ54_set_2_45 rfl rfl ?_
  refine r_dup2_11 47 (hF.pu _ _ _ _) dJ54_set_2_46 rfl rfl rfl ?_
  refine f_lald 48 hF (i / 64) (x := (va_cpy f (fun _ => 0) 0 0 N) (i / 64)) (fun _ z => ⟨_, (z.a 1 rfl), rfl⟩) rfl (by omega) (by omega) dJ54_set_2_47 rfl ?_
  refine r_lconst 49 1 (hF.pu _ _ _ _) dJ54_set_2_48 (by decide) rfl ?_
  refine r_iload_n 50 2 (hF.pu _ _ _ _) dJ54_set_2_49 rfl rfl ?_
  refine r_lshl 51 (hF.pu _ _ _ _) dJ54_set_2_50 rfl ?_
  refine r_lor 52 (hF.pu _ _ _ _) dJ54_set_2_51 rfl ?_
  refine f_last 53 hF 1 ([oC b 17 [.ref a1_, .int (nI (i / 64 + 1)), .int 0], aC D 1 a1_ (lA N1 (vp_updL (va_cpy f (fun _ => 0) 0 0 N) (i / 64) (((va_cpy f (fun _ => 0) 0 0 N) (i / 64)) ||| (1 <<< ((Int32.toInt64 (nI i)) &&& 63)))))]) rfl (i / 64) rfl (by omega) (by omega) rfl dJ54_set_2_52 rfl ?_
  refine r_aload_n 54 1 (hF.pu _ _ _ _) dJ54_set_2_53 rfl rfl ?_
  refine f_callV 57 hF (fc_J54_checkInvariants (KS := KS) (Hb := Hb) D l b) (wr := ([oC b 17 [.ref a1_, .int (nI (i / 64 + 1)), .int 0], aC D 1 a1_ (lA N1 (vp_updL (va_cpy f (fun _ => 0) 0 0 N) (i / 64) (((va_cpy f (fun _ => 0) 0 0 N) (i / 64)) ||| (1 <<< ((Int32.toInt64 (nI i)) &&& 63)))))])) rfl (imk [] rfl) lk_J54_56 0 yk_J54_checkInvariants rfl ⟨Nat.le_of_ble_eq_true rfl, Nat.le_of_ble_eq_true rfl⟩ (fun _ z => ((z.o 0 rfl).fld 0 rfl)) rfl rfl (Nat.le_of_ble_eq_true rfl) dJ54_set_2_54 ⟨by show 1 ≤ 1; omega, by show 0 + N1 + 0 ≤ N1; omega⟩ rfl (fun r ws_ im' hp => ?_)
  obtain ⟨rfl, rfl, rfl⟩ := hp
  show F 1 (0 + N1 + 0) ([oC b 17 [.ref a1_, .int (nI (i / 64 + 1)), .int 0], aC D 1 a1_ (lA N1 (vp_updL (va_cpy f (fun _ => 0) 0 0 N) (i / 64) (((va_cpy f (fun _ => 0) 0 0 N) (i / 64)) ||| (1 <<< ((Int32.toInt64 (nI i)) &&& 63)))))]) ([]) 57 [] [(2, .int (nI (i / 64))), (0, .ref b), (1, .int (nI i))]
  exact FR.v hR dJ54_set_2_57 (by omega) (by omega) ⟨_, rfl, rfl, rfl⟩
