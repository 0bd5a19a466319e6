set_option maxHeartbeats 4000000 in
theorem fc_J54_recalculateWordsInUse (D : DD) (l : Launch) {KS : Nat → Prop} {Hb : Heap} (b w N W : Nat) (f : Nat → Int64) (hW : 0 < W) (hWN : W ≤ N) (hN : N ≤ 4096) (hne : ¬ f (W - 1) = 0) : Fc D l yJ54_recalculateWordsInUse cJ54_recalculateWordsInUse 2 none 0 0 0 0 KS Hb [.ref b] ([oC b 17 [.ref w, .int (nI W), .int 0], aC D 1 w (lA N f)]) ([]) (fun r w_ i => r = none ∧ w_ = [oC b 17 [.ref w, .int (nI W), .int 0], aC D 1 w (lA N f)] ∧ i = []) := by
  refine Fc.of (by decide) (Nat.le_of_ble_eq_true rfl) (fun s F hF hR => ?_)
  show F 0 0 ([oC b 17 [.ref w, .int (nI W), .int 0], aC D 1 w (lA N f)]) ([]) 0 [] [(0, .ref b)]
  refine r_aload_n 1 0 (hF.pu _ _ _ _) dJ54_recalculateWordsInUse_0 rfl rfl ?_
  refine f_getf 4 hF (T := TJ54) (C := RJ54) 1 (v := .int (nI W)) okJ54 (fun _ z => ((z.o 0 rfl).fld 1 rfl)) rfl (by decide) (Or.inl q3327) (Or.inl rfl) dJ54_recalculateWordsInUse_1 rfl ?_
  refine r_iconst 5 1 (hF.pu _ _ _ _) dJ54_recalculateWordsInUse_4 (by decide) rfl ?_
  refine r_isubN W 1 (W - 1) 6 (hF.pu _ _ _ _) dJ54_recalculateWordsInUse_5 (by omega) (by omega) rfl ?_
  refine r_istore_n 7 [(1, .int (nI (W - 1))), (0, .ref b)] (hF.pu _ _ _ _) dJ54_recalculateWordsInUse_6 rfl (by decide) rfl rfl ?_
  refine r_iload_n 8 0 (hF.pu _ _ _ _) dJ54_recalculateWordsInUse_7 rfl rfl ?_
  refine r_if_ltN (W - 1) 11 31 (hF.pu _ _ _ _) dJ54_recalculateWordsInUse_8 (by omega) (by decide) rfl ?_
  refine r_aload_n 12 1 (hF.pu _ _ _ _) dJ54_recalculateWordsInUse_11 rfl rfl ?_
  refine f_getf 15 hF (T := TJ54) (C := RJ54) 0 (v := .ref w) okJ54 (fun _ z => ((z.o 0 rfl).fld 0 rfl)) rfl (by decide) (Or.inl q3326) (Or.inl rfl) dJ54_recalculateWordsInUse_12 rfl ?_
  refine r_iload_n 16 0 (hF.pu _ _ _ _) dJ54_recalculateWordsInUse_15 rfl rfl ?_
  refine f_lald 17 hF (W - 1) (x := f (W - 1)) (fun _ z => ⟨_, (z.a 1 rfl), rfl⟩) rfl (by omega) (by omega) dJ54_recalculateWordsInUse_16 rfl ?_
  refine r_lconst 18 0 (hF.pu _ _ _ _) dJ54_recalculateWordsInUse_17 (by decide) rfl ?_
  refine r_lc_eq 22 25 (hF.pu _ _ _ _) dJ54_recalculateWordsInUse_18 dJ54_recalculateWordsInUse_19 (by decide) (fun c18 => absurd c18 (fun z => hne z)) rfl (fun c18 => ?_)
  refine r_goto 31 (hF.pu _ _ _ _) dJ54_recalculateWordsInUse_22 (by decide) ?_
  refine r_aload_n 32 1 (hF.pu _ _ _ _) dJ54_recalculateWordsInUse_31 rfl rfl ?_
  refine r_iload_n 33 0 (hF.pu _ _ _ _) dJ54_recalculateWordsInUse_32 rfl rfl ?_
  refine r_iconst 34 1 (hF.pu _ _ _ _) dJ54_recalculateWordsInUse_33 (by decide) rfl ?_
  refine r_iaddN (W - 1) 1 (W - 1 + 1) 35 (hF.pu _ _ _ _) dJ54_recalculateWordsInUse_34 rfl rfl ?_
  refine r_eqi (nI W) (by rw [Nat.sub_add_cancel hW]) ?_
  refine f_put 38 hF 0 (T := TJ54) (C := RJ54) ([oC b 17 [.ref w, .int (nI W), .int 0], aC D 1 w (lA N f)]) okJ54 rfl rfl 1 (by decide) (Or.inl q3327) (Or.inl rfl) rfl rfl rfl (Nat.le_of_ble_eq_true rfl) rfl dJ54_recalculateWordsInUse_35 rfl ?_
  exact FR.v hR dJ54_recalculateWordsInUse_38 (Nat.le_of_ble_eq_true rfl) (Nat.le_of_ble_eq_true rfl) ⟨rfl, rfl, rfl⟩
theorem lk_J54_158 : GoodIn lw_all (wsV RJ54 158 yJ54_recalculateWordsInUse.cls yJ54_recalculateWordsInUse (ws_ yJ54_recalculateWordsInUse cJ54_recalculateWordsInUse 2 none)) := lw_V q3377 q3379 qs59 q171 q3380
theorem yk_J54_recalculateWordsInUse : yOk yJ54_recalculateWordsInUse 0 := by decide +kernel
set_option maxHeartbeats 4000000 in
theorem fc_J54_clear (D : DD) (l : Launch) {KS : Nat → Prop} {Hb : Heap} (b w N W i : Nat) (f : Nat → Int64) (S : Nat → Bool) (hb : bsI N W f S) (hN : N ≤ 4096) (hi : i < 65536) (hS : S i = false) : Fc D l yJ54_clear cJ54_clear 3 none 1 0 0 21 KS Hb [.ref b, .int (nI i)] ([oC b 17 [.ref w, .int (nI W), .int 0], aC D 1 w (lA N f)]) ([]) (fun r w_ i_ => r = none ∧ w_ = [oC b 17 [.ref w, .int (nI W), .int 0], aC D 1 w (lA N f)] ∧ i_ = []) := by
  refine Fc.of (by decide) (Nat.le_of_ble_eq_true rfl) (fun s F hF hR => ?_)
  show F 0 0 ([oC b 17 [.ref w, .int (nI W), .int 0], aC D 1 w (lA N f)]) ([]) 0 [] [(0, .ref b), (1, .int (nI i))]
  have hWN := hb.1
  have hne : i / 64 < W → ¬ f (W - 1) = 0 := fun h => hb.2.2.2.resolve_left (by omega)
  refine r_iload_n 1 1 (hF.pu _ _ _ _) dJ54_clear_0 rfl rfl ?_
  refine r_if_geN i 4 31 (hF.pu _ _ _ _) dJ54_clear_1 (by omega) (by decide) ?_
  refine r_iload_n 32 1 (hF.pu _ _ _ _) dJ54_clear_31 rfl rfl ?_
  refine f_callS' 35 hF (ts_J54_wordIndex D l i (by omega)) lk_J54_52 1 yk_J54_wordIndex rfl ⟨by decide, by decide⟩ rfl (Nat.le_of_ble_eq_true rfl) dJ54_clear_32 ⟨Nat.le_of_ble_eq_true rfl, Nat.le_of_ble_eq_true rfl⟩ rfl ?_
  refine r_istore_n 36 [(2, .int (nI (i / 64))), (0, .ref b), (1, .int (nI i))] (hF.pu _ _ _ _) dJ54_clear_35 rfl (by decide) rfl rfl ?_
  refine r_iload_n 37 0 (hF.pu _ _ _ _) dJ54_clear_36 rfl rfl ?_
  refine r_aload_n 38 1 (hF.pu _ _ _ _) dJ54_clear_37 rfl rfl ?_
  refine f_getf 41 hF (T := TJ54) (C := RJ54) 1 (v := .int (nI W)) okJ54 (fun _ z => ((z.o 0 rfl).fld 1 rfl)) rfl (by decide) (Or.inl q3327) (Or.inl rfl) dJ54_clear_38 rfl ?_
  refine r_icmp_ltN (i / 64) W 44 45 (hF.pu _ _ _ _) dJ54_clear_41 (by omega) (by omega) (by decide) (fun c41 => ?_) rfl (fun c41 => ?_)
  · refine r_aload_n 46 1 (hF.pu _ _ _ _) dJ54_clear_45 rfl rfl ?_
    refine f_getf 49 hF (T := TJ54) (C := RJ54) 0 (v := .ref w) okJ54 (fun _ z => ((z.o 0 rfl).fld 0 rfl)) rfl (by decide) (Or.inl q3326) (Or.inl rfl) dJ54_clear_46 rfl ?_
    refine r_iload_n 50 0 (hF.pu _ _ _ _) dJ54_clear_49 rfl rfl ?_
    refine r_dup2_11 51 (hF.pu _ _ _ _) dJ54_clear_50 rfl rfl rfl ?_
    refine f_lald 52 hF (i / 64) (x := f (i / 64)) (fun _ z => ⟨_, (z.a 1 rfl), rfl⟩) rfl (by omega) (by omega) dJ54_clear_51 rfl ?_
    refine r_lconst 53 1 (hF.pu _ _ _ _) dJ54_clear_52 (by decide) rfl ?_
    refine r_iload_n 54 2 (hF.pu _ _ _ _) dJ54_clear_53 rfl rfl ?_
    refine r_lshl 55 (hF.pu _ _ _ _) dJ54_clear_54 rfl ?_
    refine r_ldc2 58 (hF.pu _ _ _ _) dJ54_clear_55 q3376 rfl ?_
    refine r_lxor 59 (hF.pu _ _ _ _) dJ54_clear_58 rfl ?_
    refine r_land 60 (hF.pu _ _ _ _) dJ54_clear_59 rfl ?_
    refine f_last 61 hF 1 ([oC b 17 [.ref w, .int (nI W), .int 0], aC D 1 w (lA N (vp_updL f (i / 64) ((f (i / 64)) &&& ((1 <<< ((Int32.toInt64 (nI i)) &&& 63)) ^^^ (-1)))))]) rfl (i / 64) rfl (by omega) (by omega) rfl dJ54_clear_60 rfl ?_
    refine f_eqw ([oC b 17 [.ref w, .int (nI W), .int 0], aC D 1 w (lA N f)]) (by rw [bs_clr hb (by omega) (by omega) hS]) ?_
    have hne := hne (by omega)
    refine r_aload_n 62 1 (hF.pu _ _ _ _) dJ54_clear_61 rfl rfl ?_
    refine f_callV 65 hF (fc_J54_recalculateWordsInUse (KS := KS) (Hb := Hb) D l b w N W f (by omega) (by omega) (by omega) hne) (wr := ([])) rfl (imk [] rfl) lk_J54_158 0 yk_J54_recalculateWordsInUse rfl ⟨by decide, by decide⟩ (fun _ z => ((z.o 0 rfl).fld 0 rfl)) rfl rfl (Nat.le_of_ble_eq_true rfl) dJ54_clear_62 ⟨Nat.le_of_ble_eq_true rfl, Nat.le_of_ble_eq_true rfl⟩ rfl (fun r ws_ im' hp => ?_)
    obtain ⟨rfl, rfl, rfl⟩ := hp
    show F 0 0 ([oC b 17 [.ref w, .int (nI W), .int 0], aC D 1 w (lA N f)]) ([]) 65 [] [(2, .int (nI (i / 64))), (0, .ref b), (1, .int (nI i))]
    refine r_aload_n 66 1 (hF.pu _ _ _ _) dJ54_clear_65 rfl rfl ?_
    refine f_callV 69 hF (fc_J54_checkInvariants (KS := KS) (Hb := Hb) D l b) (wr := ([oC b 17 [.ref w, .int (nI W), .int 0], aC D 1 w (lA N f)])) rfl (imk [] rfl) lk_J54_56 0 yk_J54_checkInvariants rfl ⟨by decide, by decide⟩ (fun _ z => ((z.o 0 rfl).fld 0 rfl)) rfl rfl (Nat.le_of_ble_eq_true rfl) dJ54_clear_66 ⟨Nat.le_of_ble_eq_true rfl, Nat.le_of_ble_eq_true rfl⟩ rfl (fun r ws_ im' hp => ?_)
    obtain ⟨rfl, rfl, rfl⟩ := hp
    show F 0 0 ([oC b 17 [.ref w, .int (nI W), .int 0], aC D 1 w (lA N f)]) ([]) 69 [] [(2, .int (nI (i / 64))), (0, .ref b), (1, .int (nI i))]
    exact FR.v hR dJ54_clear_69 (Nat.le_of_ble_eq_true rfl) (Nat.le_of_ble_eq_true rfl) ⟨rfl, rfl, rfl⟩
  · exact FR.v hR dJ54_clear_44 (Nat.le_of_ble_eq_true rfl) (Nat.le_of_ble_eq_true rfl) ⟨rfl, rfl, rfl⟩
theorem lk_J54_167 : GoodIn lw_all (wsV RJ54 167 yJ54_set_2.cls yJ54_set_2 (ws_ yJ54_set_2 cJ54_set_2 3 none)) := lw_V q3340 q3341 q3342 q171 q3343
theorem yk_J54_set_2 : yOk yJ54_set_2 1 := by decide +kernel
set_option maxHeartbeats 4000000 in
theorem fc_J54_set_tn (D : DD) (l : Launch) {KS : Nat → Prop} {Hb : Heap} (b w N W i : Nat) (f : Nat → Int64) (hi : i < 65536) (hk : i / 64 < N) (hW : W ≤ N) (hN : N ≤ 4096) : Fc D l yJ54_set cJ54_set 3 none 3 0 0 66 KS Hb [.ref b, .int (nI i), .int 1] ([oC b 17 [.ref w, .int (nI W), .int 0], aC D 1 w (lA N f)]) ([]) (fun r w_ i_ => r = none ∧ w_ = [oC b 17 [.ref w, .int (nI (if W < i / 64 + 1 then i / 64 + 1 else W)), .int 0], aC D 1 w (lA N (vp_updL f (i / 64) ((f (i / 64)) ||| (1 <<< ((Int32.toInt64 (nI i)) &&& 63)))))] ∧ i_ = []) := by
  refine Fc.of (by decide) (Nat.le_of_ble_eq_true rfl) (fun s F hF hR => ?_)
  show F 0 0 ([oC b 17 [.ref w, .int (nI W), .int 0], aC D 1 w (lA N f)]) ([]) 0 [] [(0, .ref b), (1, .int (nI i)), (2, .int 1)]
  refine r_iload_n 1 2 (hF.pu _ _ _ _) dJ54_set_0 rfl rfl ?_
  refine r_if_eq 4 12 (hF.pu _ _ _ _) dJ54_set_1 (by decide) (fun c => absurd c (by decide)) rfl (fun _ => ?_)
  refine r_aload_n 5 0 (hF.pu _ _ _ _) dJ54_set_4 rfl rfl ?_
  refine r_iload_n 6 1 (hF.pu _ _ _ _) dJ54_set_5 rfl rfl ?_
  refine f_callV 9 hF (fc_J54_set_2_n (KS := KS) (Hb := Hb) D l b w N W i f (by omega) (by omega) (by omega) (by omega)) (wr := ([])) rfl (imk [] rfl) lk_J54_167 1 yk_J54_set_2 rfl ⟨by decide, by decide⟩ (fun _ z => ((z.o 0 rfl).fld 0 rfl)) rfl rfl (Nat.le_of_ble_eq_true rfl) dJ54_set_6 ⟨Nat.le_of_ble_eq_true rfl, Nat.le_of_ble_eq_true rfl⟩ rfl (fun r ws_ im' hp => ?_)
  obtain ⟨rfl, rfl, rfl⟩ := hp
  show F 0 0 ([oC b 17 [.ref w, .int (nI (if W < i / 64 + 1 then i / 64 + 1 else W)), .int 0], aC D 1 w (lA N (vp_updL f (i / 64) ((f (i / 64)) ||| (1 <<< ((Int32.toInt64 (nI i)) &&& 63)))))]) ([]) 9 [] [(0, .ref b), (1, .int (nI i)), (2, .int 1)]
  refine r_goto 17 (hF.pu _ _ _ _) dJ54_set_9 (by decide) ?_
  exact FR.v hR dJ54_set_17 (Nat.le_of_ble_eq_true rfl) (Nat.le_of_ble_eq_true rfl) ⟨rfl, rfl, rfl⟩
set_option maxHeartbeats 4000000 in
theorem fc_J54_set_tg (D : DD) (l : Launch) {KS : Nat → Prop} {Hb : Heap} (b w N N1 W i : Nat) (f : Nat → Int64) (hi : i < 65536) (hW : W ≤ N) (hg1 : N1 = if 2 * N < (i / 64) + 1 then (i / 64) + 1 else 2 * N) (hg2 : N < (i / 64) + 1) (hk : (i / 64) < 1024) (hN : N ≤ 1024) : Fc D l yJ54_set cJ54_set 3 none 5 1 N1 118 KS Hb [.ref b, .int (nI i), .int 1] ([oC b 17 [.ref w, .int (nI W), .int 0], aC D 1 w (lA N f)]) ([]) (fun r w_ i_ => ∃ w2, r = none ∧ w_ = [oC b 17 [.ref w2, .int (nI (i / 64 + 1)), .int 0], aC D 1 w2 (lA N1 (vp_updL (va_cpy f (fun _ => 0) 0 0 N) (i / 64) ((va_cpy f (fun _ => 0) 0 0 N (i / 64)) ||| (1 <<< ((Int32.toInt64 (nI i)) &&& 63)))))] ∧ i_ = []) := by
  refine Fc.of (by decide) (Nat.le_of_ble_eq_true rfl) (fun s F hF hR => ?_)
  show F 0 0 ([oC b 17 [.ref w, .int (nI W), .int 0], aC D 1 w (lA N f)]) ([]) 0 [] [(0, .ref b), (1, .int (nI i)), (2, .int 1)]
  refine r_iload_n 1 2 (hF.pu _ _ _ _) dJ54_set_0 rfl rfl ?_
  refine r_if_eq 4 12 (hF.pu _ _ _ _) dJ54_set_1 (by decide) (fun c => absurd c (by decide)) rfl (fun _ => ?_)
  refine r_aload_n 5 0 (hF.pu _ _ _ _) dJ54_set_4 rfl rfl ?_
  refine r_iload_n 6 1 (hF.pu _ _ _ _) dJ54_set_5 rfl rfl ?_
  refine f_callV 9 hF (fc_J54_set_2_g (KS := KS) (Hb := Hb) D l b w N N1 W i f (by omega) (by omega) hg1 hg2 (by omega) (by omega)) (wr := ([])) rfl (imk [] rfl) lk_J54_167 1 yk_J54_set_2 rfl ⟨Nat.le_of_ble_eq_true rfl, Nat.le_of_ble_eq_true rfl⟩ (fun _ z => ((z.o 0 rfl).fld 0 rfl)) rfl rfl (Nat.le_of_ble_eq_true rfl) dJ54_set_6 ⟨by show 1 ≤ 1; omega, by show 0 + N1 ≤ N1; omega⟩ rfl (fun r ws_ im' hp => ?_)
  obtain ⟨a1_, rfl, rfl, rfl⟩ := hp
  show F 1 (0 + N1) ([oC b 17 [.ref a1_, .int (nI (i / 64 + 1)), .int 0], aC D 1 a1_ (lA N1 (vp_updL (va_cpy f (fun _ => 0) 0 0 N) (i / 64) (((va_cpy f (fun _ => 0) 0 0 N) (i / 64)) ||| (1 <<< ((Int32.toInt64 (nI i)) &&& 63)))))]) ([]) 9 [] [(0, .ref b), (1, .int (nI i)), (2, .int 1)]
  refine r_goto 17 (hF.pu _ _ _ _) dJ54_set_9 (by decide) ?_
  exact FR.v hR dJ54_set_17 (by omega) (by omega) ⟨_, rfl, rfl, rfl⟩
theorem lk_J54_170 : GoodIn lw_all (wsV RJ54 170 yJ54_clear.cls yJ54_clear (ws_ yJ54_clear cJ54_clear 3 none)) := lw_V q3372 q3373 q3374 q171 q3375
theorem yk_J54_clear : yOk yJ54_clear 1 := by decide +kernel
set_option maxHeartbeats 4000000 in
theorem fc_J54_set_f (D : DD) (l : Launch) {KS : Nat → Prop} {Hb : Heap} (b w N W i : Nat) (f : Nat → Int64) (S : Nat → Bool) (hb : bsI N W f S) (hN : N ≤ 4096) (hi : i < 65536) (hS : S i = false) : Fc D l yJ54_set cJ54_set 3 none 2 0 0 43 KS Hb [.ref b, .int (nI i), .int 0] ([oC b 17 [.ref w, .int (nI W), .int 0], aC D 1 w (lA N f)]) ([]) (fun r w_ i_ => r = none ∧ w_ = [oC b 17 [.ref w, .int (nI W), .int 0], aC D 1 w (lA N f)] ∧ i_ = []) := by
  refine Fc.of (by decide) (Nat.le_of_ble_eq_true rfl) (fun s F hF hR => ?_)
  show F 0 0 ([oC b 17 [.ref w, .int (nI W), .int 0], aC D 1 w (lA N f)]) ([]) 0 [] [(0, .ref b), (1, .int (nI i)), (2, .int 0)]
  have hWN := hb.1
  refine r_iload_n 1 2 (hF.pu _ _ _ _) dJ54_set_0 rfl rfl ?_
  refine r_if_eq 4 12 (hF.pu _ _ _ _) dJ54_set_1 (by decide) (fun _ => ?_) rfl (fun c => absurd (by decide) c)
  refine r_aload_n 13 0 (hF.pu _ _ _ _) dJ54_set_12 rfl rfl ?_
  refine r_iload_n 14 1 (hF.pu _ _ _ _) dJ54_set_13 rfl rfl ?_
  refine f_callV 17 hF (fc_J54_clear (KS := KS) (Hb := Hb) D l b w N W i f S hb (by omega) (by omega) hS) (wr := ([])) rfl (imk [] rfl) lk_J54_170 1 yk_J54_clear rfl ⟨by decide, by decide⟩ (fun _ z => ((z.o 0 rfl).fld 0 rfl)) rfl rfl (Nat.le_of_ble_eq_true rfl) dJ54_set_14 ⟨Nat.le_of_ble_eq_true rfl, Nat.le_of_ble_eq_true rfl⟩ rfl (fun r ws_ im' hp => ?_)
  obtain ⟨rfl, rfl, rfl⟩ := hp
  show F 0 0 ([oC b 17 [.ref w, .int (nI W), .int 0], aC D 1 w (lA N f)]) ([]) 17 [] [(0, .ref b), (1, .int (nI i)), (2, .int 0)]
  exact FR.v hR dJ54_set_17 (Nat.le_of_ble_eq_true rfl) (Nat.le_of_ble_eq_true rfl) ⟨rfl, rfl, rfl⟩
theorem lk_J54_196 : GoodIn lw_all (va_wsS RJ54 196 yJ47_bitCount (ws_ yJ47_bitCount cJ47_bitCount 2 (some .int))) := lw_S q3385 q3386 q163 q3387
theorem yk_J47_bitCount : yOk yJ47_bitCount 1 := by decide +kernel
set_option maxHeartbeats 4000000 in
theorem fc_J54_cardinality (D : DD) (l : Launch) {KS : Nat → Prop} {Hb : Heap} (b w N W : Nat) (f : Nat → Int64) (S : Nat → Bool) (hb : bsI N W f S) (hN : N ≤ 4096) : Fc D l yJ54_cardinality cJ54_cardinality 3 (some .int) 1 0 0 21 KS Hb [.ref b] ([]) ([oC b 17 [.ref w, .int (nI W), .int 0], aC D 1 w (lA N f)]) (fun r w_ i => r = some (.int (nI (cntB S (64 * W)))) ∧ w_ = [] ∧ i = []) := by
  refine Fc.of (by decide) (Nat.le_of_ble_eq_true rfl) (fun s F hF hR => ?_)
  show F 0 0 ([]) ([oC b 17 [.ref w, .int (nI W), .int 0], aC D 1 w (lA N f)]) 0 [] [(0, .ref b)]
  have hWN := hb.1
  refine r_iconst 1 0 (hF.pu _ _ _ _) dJ54_cardinality_0 (by decide) rfl ?_
  refine r_istore_n 2 [(1, .int 0), (0, .ref b)] (hF.pu _ _ _ _) dJ54_cardinality_1 rfl (by decide) rfl rfl ?_
  refine r_iconst 3 0 (hF.pu _ _ _ _) dJ54_cardinality_2 (by decide) rfl ?_
  refine r_istore_n 4 [(2, .int 0), (1, .int 0), (0, .ref b)] (hF.pu _ _ _ _) dJ54_cardinality_3 rfl (by decide) rfl rfl ?_
  have lp_4 : ∀ (m : Nat) (u : Nat), (u ≤ W) → (W - u) < m → F 0 0 ([]) ([oC b 17 [.ref w, .int (nI W), .int 0], aC D 1 w (lA N f)]) 4 [] [(2, .int (nI u)), (1, .int (nI (cntB S (64 * u)))), (0, .ref b)] := by
    intro m
    induction m with
    | zero => intro u hu hm; exact absurd hm (Nat.not_lt_zero _)
    | succ m ih =>
      intro u hu hm
      refine r_iload_n 5 0 (hF.pu _ _ _ _) dJ54_cardinality_4 rfl rfl ?_
      refine r_aload_n 6 2 (hF.pu _ _ _ _) dJ54_cardinality_5 rfl rfl ?_
      refine f_getf 9 hF (T := TJ54) (C := RJ54) 1 (v := .int (nI W)) okJ54 (fun _ z => ((z.mo 0 rfl).fld 1 rfl)) rfl (by decide) (Or.inl q3327) (Or.inl rfl) dJ54_cardinality_6 rfl ?_
      refine r_icmp_geN u W 12 30 (hF.pu _ _ _ _) dJ54_cardinality_9 (by omega) (by omega) (by decide) (fun c9 => ?_) rfl (fun c9 => ?_)
      · have hu9 : u = W := by omega
        subst hu9
        refine r_iload_n 31 1 (hF.pu _ _ _ _) dJ54_cardinality_30 rfl rfl ?_
        refine f_imsub hF [] (imk [] rfl) ?_
        exact FR.i hR rfl dJ54_cardinality_31 (Nat.le_of_ble_eq_true rfl) (Nat.le_of_ble_eq_true rfl) ⟨rfl, rfl, rfl⟩
      · refine r_iload_n 13 1 (hF.pu _ _ _ _) dJ54_cardinality_12 rfl rfl ?_
        refine r_aload_n 14 2 (hF.pu _ _ _ _) dJ54_cardinality_13 rfl rfl ?_
        refine f_getf 17 hF (T := TJ54) (C := RJ54) 0 (v := .ref w) okJ54 (fun _ z => ((z.mo 0 rfl).fld 0 rfl)) rfl (by decide) (Or.inl q3326) (Or.inl rfl) dJ54_cardinality_14 rfl ?_
        refine r_iload_n 18 0 (hF.pu _ _ _ _) dJ54_cardinality_17 rfl rfl ?_
        refine f_lald 19 hF u (x := f (u)) (fun _ z => ⟨_, (z.ma 1 rfl), rfl⟩) rfl (by omega) (by omega) dJ54_cardinality_18 rfl ?_
        refine f_callS' 22 hF (ts_J47_bitCount D l (f (u))) lk_J54_196 1 yk_J47_bitCount rfl ⟨by decide, by decide⟩ rfl (Nat.le_of_ble_eq_true rfl) dJ54_cardinality_19 ⟨Nat.le_of_ble_eq_true rfl, Nat.le_of_ble_eq_true rfl⟩ rfl ?_
        refine r_iaddN (cntB S (64 * u)) (cntB (tb (f (u))) 64) (cntB S (64 * u) + cntB (tb (f (u))) 64) 23 (hF.pu _ _ _ _) dJ54_cardinality_22 rfl rfl ?_
        refine r_eqi (nI (cntB S (64 * (u + 1)))) (by rw [cnt_word hb (show u < N by omega)]) ?_
        refine r_istore_n 24 [(1, .int (nI (cntB S (64 * (u + 1))))), (2, .int (nI u)), (0, .ref b)] (hF.pu _ _ _ _) dJ54_cardinality_23 rfl (by decide) rfl rfl ?_
        refine r_iinc 27 (nI (u + 1)) 1 [(2, .int (nI (u + 1))), (1, .int (nI (cntB S (64 * (u + 1))))), (0, .ref b)] (hF.pu _ _ _ _) dJ54_cardinality_24 rfl (nI_1 u) (by decide) rfl rfl ?_
        refine r_goto 4 (hF.pu _ _ _ _) dJ54_cardinality_27 (by decide) ?_
        exact ih (u + 1) (by omega) (by omega)
  exact lp_4 (W + 1) 0 (by omega) (by omega)
theorem nx_word {N W u fr : Nat} {f : Nat → Int64} {S : Nat → Bool} (h : bsI N W f S) (hu : u < N) (hf : fr ≤ 64 * u) : ∀ j, j < 64 → tb (f u) j = (S (64 * u + j) && decide (fr ≤ 64 * u + j)) := fun j hj => by
  have := h.2.1 (64 * u + j) (by omega)
  rw [show (64 * u + j) / 64 = u by omega, show (64 * u + j) % 64 = j by omega] at this
  rw [this, decide_eq_true (by omega), Bool.and_true]
theorem nx_first {N W fr : Nat} {f : Nat → Int64} {S : Nat → Bool} (h : bsI N W f S) (hu : fr / 64 < N) (hf : fr < 2 ^ 31) : ∀ j, j < 64 → tb (f (fr / 64) &&& ((-1) <<< ((Int32.toInt64 (nI fr)) &&& 63))) j = (S (64 * (fr / 64) + j) && decide (fr ≤ 64 * (fr / 64) + j)) := fun j hj => by
  have := h.2.1 (64 * (fr / 64) + j) (by omega)
  rw [show (64 * (fr / 64) + j) / 64 = fr / 64 by omega, show (64 * (fr / 64) + j) % 64 = j by omega] at this
  rw [tb_and, tb_shm hf hj, this]
  congr 1
  exact decide_eq_decide.mpr (by omega)
theorem nx_hit {u fr i : Nat} {x : Int64} {S : Nat → Bool} (hx : ∀ j, j < 64 → tb x j = (S (64 * u + j) && decide (fr ≤ 64 * u + j))) (hne : ¬ x = 0) (hu : u ≤ i / 64) (hfi : fr ≤ i) (hSi : S i = true) (hmin : ∀ j, fr ≤ j → j < i → S j = false) : ∃ j, j < 64 ∧ tb x j = true ∧ (∀ k, k < j → tb x k = false) ∧ u * 64 + j = i := by
  obtain ⟨j, h1, h2, h3⟩ := tb_first hne
  have h4 := hx j h1
  rw [h2] at h4
  have h5 : S (64 * u + j) = true ∧ fr ≤ 64 * u + j := by
    cases e : S (64 * u + j)
    · rw [e] at h4; simp at h4
    · rw [e] at h4; exact ⟨rfl, by simpa using h4⟩
  have h6 : i ≤ 64 * u + j := by
    rcases Nat.lt_or_ge (64 * u + j) i with c | c
    · rw [hmin _ h5.2 c] at h5; cases h5.1
    · exact c
  refine ⟨j, h1, h2, h3, ?_⟩
  have h7 : i / 64 = u := by omega
  have h8 := hx (i % 64) (Nat.mod_lt _ (by decide))
  rw [show 64 * u + i % 64 = i by omega, hSi, decide_eq_true hfi] at h8
  rcases Nat.lt_or_ge (i % 64) j with c | c
  · rw [h3 _ c] at h8; cases h8
  · omega
theorem nx_skip {u fr i : Nat} {x : Int64} {S : Nat → Bool} (hx : ∀ j, j < 64 → tb x j = (S (64 * u + j) && decide (fr ≤ 64 * u + j))) (h0 : x = 0) (hu : u ≤ i / 64) (hfi : fr ≤ i) (hSi : S i = true) : u < i / 64 := by
  rcases Nat.lt_or_ge u (i / 64) with c | c
  · exact c
  · have h8 := hx (i % 64) (Nat.mod_lt _ (by decide))
    rw [show 64 * u + i % 64 = i by omega, hSi, decide_eq_true hfi, h0, tb_0] at h8
    cases h8
theorem nx_none {u fr : Nat} {x : Int64} {S : Nat → Bool} (hx : ∀ j, j < 64 → tb x j = (S (64 * u + j) && decide (fr ≤ 64 * u + j))) (hmiss : ∀ j, fr ≤ j → S j = false) : x = 0 := by
  refine tb_ext (fun j hj => ?_)
  rw [hx j hj, tb_0]
  by_cases c : fr ≤ 64 * u + j
  · rw [hmiss _ c]; rfl
  · rw [decide_eq_false c, Bool.and_false]
theorem lk_J54_182 : GoodIn lw_all (va_wsS RJ54 182 yJ47_numberOfTrailingZeros (ws_ yJ47_numberOfTrailingZeros cJ47_numberOfTrailingZeros 3 (some .int))) := lw_S q3404 q3405 q163 q3406
theorem yk_J47_numberOfTrailingZeros : yOk yJ47_numberOfTrailingZeros 1 := by decide +kernel
set_option maxHeartbeats 4000000 in
theorem fc_J54_nextSetBit_h (D : DD) (l : Launch) {KS : Nat → Prop} {Hb : Heap} (b w N W fr : Nat) (f : Nat → Int64) (S : Nat → Bool) (hb : bsI N W f S) (hN : N ≤ 4096) (hfr : fr < 65536) (i : Nat) (hfi : fr ≤ i) (hSi : S i = true) (hmin : ∀ j, fr ≤ j → j < i → S j = false) : Fc D l yJ54_nextSetBit cJ54_nextSetBit 5 (some .int) 2 0 0 43 KS Hb [.ref b, .int (nI fr)] ([]) ([oC b 17 [.ref w, .int (nI W), .int 0], aC D 1 w (lA N f)]) (fun r w_ i_ => r = some (.int (nI i)) ∧ w_ = [] ∧ i_ = []) := by
  refine Fc.of (by decide) (Nat.le_of_ble_eq_true rfl) (fun s F hF hR => ?_)
  show F 0 0 ([]) ([oC b 17 [.ref w, .int (nI W), .int 0], aC D 1 w (lA N f)]) 0 [] [(0, .ref b), (1, .int (nI fr))]
  have hWN := hb.1
  have hiW : i / 64 < W := by rcases Nat.lt_or_ge (i / 64) W with c | c; exact c; have := hb.2.2.1 i c; rw [hSi] at this; cases this
  have hfq : fr / 64 ≤ i / 64 := Nat.div_le_div_right hfi
  refine r_iload_n 1 1 (hF.pu _ _ _ _) dJ54_nextSetBit_0 rfl rfl ?_
  refine r_if_geN fr 4 31 (hF.pu _ _ _ _) dJ54_nextSetBit_1 (by omega) (by decide) ?_
  refine r_aload_n 32 0 (hF.pu _ _ _ _) dJ54_nextSetBit_31 rfl rfl ?_
  refine f_callV 35 hF (fc_J54_checkInvariants (KS := KS) (Hb := Hb) D l b) (wr := ([])) rfl (imk [] rfl) lk_J54_56 0 yk_J54_checkInvariants rfl ⟨by decide, by decide⟩ (fun _ z => ((z.mo 0 rfl).fld 0 rfl)) rfl rfl (Nat.le_of_ble_eq_true rfl) dJ54_nextSetBit_32 ⟨Nat.le_of_ble_eq_true rfl, Nat.le_of_ble_eq_true rfl⟩ rfl (fun r ws_ im' hp => ?_)
  obtain ⟨rfl, rfl, rfl⟩ := hp
  show F 0 0 ([]) ([oC b 17 [.ref w, .int (nI W), .int 0], aC D 1 w (lA N f)]) 35 [] [(0, .ref b), (1, .int (nI fr))]
  refine r_iload_n 36 1 (hF.pu _ _ _ _) dJ54_nextSetBit_35 rfl rfl ?_
  refine f_callS' 39 hF (ts_J54_wordIndex D l fr (by omega)) lk_J54_52 1 yk_J54_wordIndex rfl ⟨by decide, by decide⟩ rfl (Nat.le_of_ble_eq_true rfl) dJ54_nextSetBit_36 ⟨Nat.le_of_ble_eq_true rfl, Nat.le_of_ble_eq_true rfl⟩ rfl ?_
  refine r_istore_n 40 [(2, .int (nI (fr / 64))), (0, .ref b), (1, .int (nI fr))] (hF.pu _ _ _ _) dJ54_nextSetBit_39 rfl (by decide) rfl rfl ?_
  refine r_iload_n 41 0 (hF.pu _ _ _ _) dJ54_nextSetBit_40 rfl rfl ?_
  refine r_aload_n 42 1 (hF.pu _ _ _ _) dJ54_nextSetBit_41 rfl rfl ?_
  refine f_getf 45 hF (T := TJ54) (C := RJ54) 1 (v := .int (nI W)) okJ54 (fun _ z => ((z.mo 0 rfl).fld 1 rfl)) rfl (by decide) (Or.inl q3327) (Or.inl rfl) dJ54_nextSetBit_42 rfl ?_
  refine r_icmp_ltN (fr / 64) W 48 50 (hF.pu _ _ _ _) dJ54_nextSetBit_45 (by omega) (by omega) (by decide) (fun c45 => ?_) rfl (fun c45 => absurd c45 (by omega))
  refine r_aload_n 51 1 (hF.pu _ _ _ _) dJ54_nextSetBit_50 rfl rfl ?_
  refine f_getf 54 hF (T := TJ54) (C := RJ54) 0 (v := .ref w) okJ54 (fun _ z => ((z.mo 0 rfl).fld 0 rfl)) rfl (by decide) (Or.inl q3326) (Or.inl rfl) dJ54_nextSetBit_51 rfl ?_
  refine r_iload_n 55 0 (hF.pu _ _ _ _) dJ54_nextSetBit_54 rfl rfl ?_
  refine f_lald 56 hF (fr / 64) (x := f (fr / 64)) (fun _ z => ⟨_, (z.ma 1 rfl), rfl⟩) rfl (by omega) (by omega) dJ54_nextSetBit_55 rfl ?_
  refine r_ldc2 59 (hF.pu _ _ _ _) dJ54_nextSetBit_56 q3376 rfl ?_
  refine r_iload_n 60 2 (hF.pu _ _ _ _) dJ54_nextSetBit_59 rfl rfl ?_
  refine r_lshl 61 (hF.pu _ _ _ _) dJ54_nextSetBit_60 rfl ?_
  refine r_land 62 (hF.pu _ _ _ _) dJ54_nextSetBit_61 rfl ?_
  refine r_lstore_n 63 [(3, .long ((f (fr / 64)) &&& ((-1) <<< ((Int32.toInt64 (nI fr)) &&& 63)))), (2, .int (nI (fr / 64))), (0, .ref b), (1, .int (nI fr))] (hF.pu _ _ _ _) dJ54_nextSetBit_62 rfl (by decide) rfl rfl ?_
  have lp_63 : ∀ (m : Nat) (u : Nat) (xx : Int64), (fr / 64 ≤ u) → (u ≤ i / 64) → (∀ j, j < 64 → tb xx j = (S (64 * u + j) && decide (fr ≤ 64 * u + j))) → (W - u) < m → F 0 0 ([]) ([oC b 17 [.ref w, .int (nI W), .int 0], aC D 1 w (lA N f)]) 63 [] [(3, .long xx), (2, .int (nI u)), (0, .ref b), (1, .int (nI fr))] := by
    intro m
    induction m with
    | zero => intro u xx hfu hu hx hm; exact absurd hm (Nat.not_lt_zero _)
    | succ m ih =>
      intro u xx hfu hu hx hm
      refine r_lload_n 64 0 (hF.pu _ _ _ _) dJ54_nextSetBit_63 rfl rfl ?_
      refine r_lconst 65 0 (hF.pu _ _ _ _) dJ54_nextSetBit_64 (by decide) rfl ?_
      refine r_lc_eq 69 79 (hF.pu _ _ _ _) dJ54_nextSetBit_65 dJ54_nextSetBit_66 (by decide) (fun c65 => ?_) rfl (fun c65 => ?_)
      · have hlt := nx_skip hx c65 hu hfi hSi
        refine r_iinc 82 (nI (u + 1)) 1 [(2, .int (nI (u + 1))), (3, .long xx), (0, .ref b), (1, .int (nI fr))] (hF.pu _ _ _ _) dJ54_nextSetBit_79 rfl (nI_1 u) (by decide) rfl rfl ?_
        refine r_iload_n 83 0 (hF.pu _ _ _ _) dJ54_nextSetBit_82 rfl rfl ?_
        refine r_aload_n 84 2 (hF.pu _ _ _ _) dJ54_nextSetBit_83 rfl rfl ?_
        refine f_getf 87 hF (T := TJ54) (C := RJ54) 1 (v := .int (nI W)) okJ54 (fun _ z => ((z.mo 0 rfl).fld 1 rfl)) rfl (by decide) (Or.inl q3327) (Or.inl rfl) dJ54_nextSetBit_84 rfl ?_
        refine r_icmp_neN (u + 1) W 90 92 (hF.pu _ _ _ _) dJ54_nextSetBit_87 (by omega) (by omega) (by decide) (fun c87 => ?_) rfl (fun c87 => absurd c87 (by omega))
        refine r_aload_n 93 2 (hF.pu _ _ _ _) dJ54_nextSetBit_92 rfl rfl ?_
        refine f_getf 96 hF (T := TJ54) (C := RJ54) 0 (v := .ref w) okJ54 (fun _ z => ((z.mo 0 rfl).fld 0 rfl)) rfl (by decide) (Or.inl q3326) (Or.inl rfl) dJ54_nextSetBit_93 rfl ?_
        refine r_iload_n 97 0 (hF.pu _ _ _ _) dJ54_nextSetBit_96 rfl rfl ?_
        refine f_lald 98 hF (u + 1) (x := f (u + 1)) (fun _ z => ⟨_, (z.ma 1 rfl), rfl⟩) rfl (by omega) (by omega) dJ54_nextSetBit_97 rfl ?_
        refine r_lstore_n 99 [(3, .long (f (u + 1))), (2, .int (nI (u + 1))), (0, .ref b), (1, .int (nI fr))] (hF.pu _ _ _ _) dJ54_nextSetBit_98 rfl (by decide) rfl rfl ?_
        refine r_goto 63 (hF.pu _ _ _ _) dJ54_nextSetBit_99 (by decide) ?_
        exact ih (u + 1) _ (by omega) (by omega) (nx_word hb (by omega) (by omega)) (by omega)
      · obtain ⟨j, hj, hj1, hj0, hij⟩ := nx_hit hx c65 hu hfi hSi hmin
        refine r_iload_n 70 1 (hF.pu _ _ _ _) dJ54_nextSetBit_69 rfl rfl ?_
        refine r_bipush 72 64 (hF.pu _ _ _ _) dJ54_nextSetBit_70 (by decide) rfl ?_
        refine r_imulN u 64 (u * 64) 73 (hF.pu _ _ _ _) dJ54_nextSetBit_72 rfl rfl ?_
        refine r_lload_n 74 0 (hF.pu _ _ _ _) dJ54_nextSetBit_73 rfl rfl ?_
        refine f_callS' 77 hF (cs_J47_ntz D l xx j hj hj1 hj0) lk_J54_182 1 yk_J47_numberOfTrailingZeros rfl ⟨by decide, by decide⟩ rfl (Nat.le_of_ble_eq_true rfl) dJ54_nextSetBit_74 ⟨Nat.le_of_ble_eq_true rfl, Nat.le_of_ble_eq_true rfl⟩ rfl ?_
        refine r_iaddN (u * 64) j (u * 64 + j) 78 (hF.pu _ _ _ _) dJ54_nextSetBit_77 rfl rfl ?_
        refine r_eqi (nI i) (by rw [hij]) ?_
        refine f_imsub hF [] (imk [] rfl) ?_
        exact FR.i hR rfl dJ54_nextSetBit_78 (Nat.le_of_ble_eq_true rfl) (Nat.le_of_ble_eq_true rfl) ⟨rfl, rfl, rfl⟩
  exact lp_63 (W + 1) (fr / 64) _ (Nat.le_refl _) hfq (nx_first hb (by omega) (by omega)) (by omega)
set_option maxHeartbeats 4000000 in
theorem fc_J54_nextSetBit_m (D : DD) (l : Launch) {KS : Nat → Prop} {Hb : Heap} (b w N W fr : Nat) (f : Nat → Int64) (S : Nat → Bool) (hb : bsI N W f S) (hN : N ≤ 4096) (hfr : fr < 65536) (hmiss : ∀ j, fr ≤ j → S j = false) : Fc D l yJ54_nextSetBit cJ54_nextSetBit 5 (some .int) 1 0 0 20 KS Hb [.ref b, .int (nI fr)] ([]) ([oC b 17 [.ref w, .int (nI W), .int 0], aC D 1 w (lA N f)]) (fun r w_ i_ => r = some (.int (-1)) ∧ w_ = [] ∧ i_ = []) := by
  refine Fc.of (by decide) (Nat.le_of_ble_eq_true rfl) (fun s F hF hR => ?_)
  show F 0 0 ([]) ([oC b 17 [.ref w, .int (nI W), .int 0], aC D 1 w (lA N f)]) 0 [] [(0, .ref b), (1, .int (nI fr))]
  have hWN := hb.1
  refine r_iload_n 1 1 (hF.pu _ _ _ _) dJ54_nextSetBit_0 rfl rfl ?_
  refine r_if_geN fr 4 31 (hF.pu _ _ _ _) dJ54_nextSetBit_1 (by omega) (by decide) ?_
  refine r_aload_n 32 0 (hF.pu _ _ _ _) dJ54_nextSetBit_31 rfl rfl ?_
  refine f_callV 35 hF (fc_J54_checkInvariants (KS := KS) (Hb := Hb) D l b) (wr := ([])) rfl (imk [] rfl) lk_J54_56 0 yk_J54_checkInvariants rfl ⟨by decide, by decide⟩ (fun _ z => ((z.mo 0 rfl).fld 0 rfl)) rfl rfl (Nat.le_of_ble_eq_true rfl) dJ54_nextSetBit_32 ⟨Nat.le_of_ble_eq_true rfl, Nat.le_of_ble_eq_true rfl⟩ rfl (fun r ws_ im' hp => ?_)
  obtain ⟨rfl, rfl, rfl⟩ := hp
  show F 0 0 ([]) ([oC b 17 [.ref w, .int (nI W), .int 0], aC D 1 w (lA N f)]) 35 [] [(0, .ref b), (1, .int (nI fr))]
  refine r_iload_n 36 1 (hF.pu _ _ _ _) dJ54_nextSetBit_35 rfl rfl ?_
  refine f_callS' 39 hF (ts_J54_wordIndex D l fr (by omega)) lk_J54_52 1 yk_J54_wordIndex rfl ⟨by decide, by decide⟩ rfl (Nat.le_of_ble_eq_true rfl) dJ54_nextSetBit_36 ⟨Nat.le_of_ble_eq_true rfl, Nat.le_of_ble_eq_true rfl⟩ rfl ?_
  refine r_istore_n 40 [(2, .int (nI (fr / 64))), (0, .ref b), (1, .int (nI fr))] (hF.pu _ _ _ _) dJ54_nextSetBit_39 rfl (by decide) rfl rfl ?_
  refine r_iload_n 41 0 (hF.pu _ _ _ _) dJ54_nextSetBit_40 rfl rfl ?_
  refine r_aload_n 42 1 (hF.pu _ _ _ _) dJ54_nextSetBit_41 rfl rfl ?_
  refine f_getf 45 hF (T := TJ54) (C := RJ54) 1 (v := .int (nI W)) okJ54 (fun _ z => ((z.mo 0 rfl).fld 1 rfl)) rfl (by decide) (Or.inl q3327) (Or.inl rfl) dJ54_nextSetBit_42 rfl ?_
  refine r_icmp_ltN (fr / 64) W 48 50 (hF.pu _ _ _ _) dJ54_nextSetBit_45 (by omega) (by omega) (by decide) (fun c45 => ?_) rfl (fun c45 => ?_)
  · refine r_aload_n 51 1 (hF.pu _ _ _ _) dJ54_nextSetBit_50 rfl rfl ?_
    refine f_getf 54 hF (T := TJ54) (C := RJ54) 0 (v := .ref w) okJ54 (fun _ z => ((z.mo 0 rfl).fld 0 rfl)) rfl (by decide) (Or.inl q3326) (Or.inl rfl) dJ54_nextSetBit_51 rfl ?_
    refine r_iload_n 55 0 (hF.pu _ _ _ _) dJ54_nextSetBit_54 rfl rfl ?_
    refine f_lald 56 hF (fr / 64) (x := f (fr / 64)) (fun _ z => ⟨_, (z.ma 1 rfl), rfl⟩) rfl (by omega) (by omega) dJ54_nextSetBit_55 rfl ?_
    refine r_ldc2 59 (hF.pu _ _ _ _) dJ54_nextSetBit_56 q3376 rfl ?_
    refine r_iload_n 60 2 (hF.pu _ _ _ _) dJ54_nextSetBit_59 rfl rfl ?_
    refine r_lshl 61 (hF.pu _ _ _ _) dJ54_nextSetBit_60 rfl ?_
    refine r_land 62 (hF.pu _ _ _ _) dJ54_nextSetBit_61 rfl ?_
    refine r_lstore_n 63 [(3, .long ((f (fr / 64)) &&& ((-1) <<< ((Int32.toInt64 (nI fr)) &&& 63)))), (2, .int (nI (fr / 64))), (0, .ref b), (1, .int (nI fr))] (hF.pu _ _ _ _) dJ54_nextSetBit_62 rfl (by decide) rfl rfl ?_
    have lp_63 : ∀ (m : Nat) (u : Nat) (xx : Int64), (fr / 64 ≤ u) → (u < W) → (∀ j, j < 64 → tb xx j = (S (64 * u + j) && decide (fr ≤ 64 * u + j))) → (W - u) < m → F 0 0 ([]) ([oC b 17 [.ref w, .int (nI W), .int 0], aC D 1 w (lA N f)]) 63 [] [(3, .long xx), (2, .int (nI u)), (0, .ref b), (1, .int (nI fr))] := by
      intro m
      induction m with
      | zero => intro u xx hfu hu hx hm; exact absurd hm (Nat.not_lt_zero _)
      | succ m ih =>
        intro u xx hfu hu hx hm
        refine r_lload_n 64 0 (hF.pu _ _ _ _) dJ54_nextSetBit_63 rfl rfl ?_
        refine r_lconst 65 0 (hF.pu _ _ _ _) dJ54_nextSetBit_64 (by decide) rfl ?_
        refine r_lc_eq 69 79 (hF.pu _ _ _ _) dJ54_nextSetBit_65 dJ54_nextSetBit_66 (by decide) (fun c65 => ?_) rfl (fun c65 => absurd c65 (fun z => z (nx_none hx hmiss)))
        refine r_iinc 82 (nI (u + 1)) 1 [(2, .int (nI (u + 1))), (3, .long xx), (0, .ref b), (1, .int (nI fr))] (hF.pu _ _ _ _) dJ54_nextSetBit_79 rfl (nI_1 u) (by decide) rfl rfl ?_
        refine r_iload_n 83 0 (hF.pu _ _ _ _) dJ54_nextSetBit_82 rfl rfl ?_
        refine r_aload_n 84 2 (hF.pu _ _ _ _) dJ54_nextSetBit_83 rfl rfl ?_
        refine f_getf 87 hF (T := TJ54) (C := RJ54) 1 (v := .int (nI W)) okJ54 (fun _ z => ((z.mo 0 rfl).fld 1 rfl)) rfl (by decide) (Or.inl q3327) (Or.inl rfl) dJ54_nextSetBit_84 rfl ?_
        refine r_icmp_neN (u + 1) W 90 92 (hF.pu _ _ _ _) dJ54_nextSetBit_87 (by omega) (by omega) (by decide) (fun c87 => ?_) rfl (fun c87 => ?_)
        · refine r_aload_n 93 2 (hF.pu _ _ _ _) dJ54_nextSetBit_92 rfl rfl ?_
          refine f_getf 96 hF (T := TJ54) (C := RJ54) 0 (v := .ref w) okJ54 (fun _ z => ((z.mo 0 rfl).fld 0 rfl)) rfl (by decide) (Or.inl q3326) (Or.inl rfl) dJ54_nextSetBit_93 rfl ?_
          refine r_iload_n 97 0 (hF.pu _ _ _ _) dJ54_nextSetBit_96 rfl rfl ?_
          refine f_lald 98 hF (u + 1) (x := f (u + 1)) (fun _ z => ⟨_, (z.ma 1 rfl), rfl⟩) rfl (by omega) (by omega) dJ54_nextSetBit_97 rfl ?_
          refine r_lstore_n 99 [(3, .long (f (u + 1))), (2, .int (nI (u + 1))), (0, .ref b), (1, .int (nI fr))] (hF.pu _ _ _ _) dJ54_nextSetBit_98 rfl (by decide) rfl rfl ?_
          refine r_goto 63 (hF.pu _ _ _ _) dJ54_nextSetBit_99 (by decide) ?_
          exact ih (u + 1) _ (by omega) (by omega) (nx_word hb (by omega) (by omega)) (by omega)
        · refine r_iconst 91 (-1) (hF.pu _ _ _ _) dJ54_nextSetBit_90 (by decide) rfl ?_
          refine f_imsub hF [] (imk [] rfl) ?_
          exact FR.i hR rfl dJ54_nextSetBit_91 (Nat.le_of_ble_eq_true rfl) (Nat.le_of_ble_eq_true rfl) ⟨rfl, rfl, rfl⟩
    exact lp_63 (W + 1) (fr / 64) _ (Nat.le_refl _) (by omega) (nx_first hb (by omega) (by omega)) (by omega)
  · refine r_iconst 49 (-1) (hF.pu _ _ _ _) dJ54_nextSetBit_48 (by decide) rfl ?_
    refine f_imsub hF [] (imk [] rfl) ?_
    exact FR.i hR rfl dJ54_nextSetBit_49 (Nat.le_of_ble_eq_true rfl) (Nat.le_of_ble_eq_true rfl) ⟨rfl, rfl, rfl⟩
