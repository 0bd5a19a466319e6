set_option maxHeartbeats 4000000 in
theorem fc_J10_linkLast_0 (D : DD) (l : Launch) {KS : Nat → Prop} {Hb : Heap} (a x : Nat) (mc : Int32) : Fc D l yJ10_linkLast cJ10_linkLast 4 none 2 1 3 43 KS Hb [.ref a, .ref x] ([oC a 13 [.int mc, .int 0, .null, .null]]) ([]) (fun r w i => ∃ b, r = none ∧ w = [oC a 13 [.int (mc + 1), .int 1, .ref b, .ref b], oC b 14 [.ref x, .null, .null]] ∧ i = []) := by
  refine Fc.of (by decide) (Nat.le_of_ble_eq_true rfl) (fun s F hF hR => ?_)
  show F 0 0 ([oC a 13 [.int mc, .int 0, .null, .null]]) ([]) 0 [] [(0, .ref a), (1, .ref x)]
  refine r_aload_n 1 0 (hF.pu _ _ _ _) dJ10_linkLast_0 rfl rfl ?_
  refine f_getf 4 hF (T := TJ10) (C := RJ10) 3 (v := .null) okJ10 (fun _ z => ((z.o 0 rfl).fld 3 rfl)) rfl (by decide) (Or.inl q295) (Or.inl rfl) dJ10_linkLast_1 rfl ?_
  refine r_astore_nN 5 [(2, .null), (0, .ref a), (1, .ref x)] (hF.pu _ _ _ _) dJ10_linkLast_4 rfl (by decide) rfl rfl ?_
  refine f_new 8 hF (ci := 14) [.null, .null, .null] okJ39 rfl q1723 q1724 q151 dvJ39 ⟨Nat.le_of_ble_eq_true rfl, Nat.le_of_ble_eq_true rfl⟩ dJ10_linkLast_5 rfl (fun a1_ => ?_)
  refine r_dup 9 (hF.pu _ _ _ _) dJ10_linkLast_8 rfl rfl ?_
  refine r_aload_nN 10 0 (hF.pu _ _ _ _) dJ10_linkLast_9 rfl rfl ?_
  refine r_aload_n 11 2 (hF.pu _ _ _ _) dJ10_linkLast_10 rfl rfl ?_
  refine r_null 12 (hF.pu _ _ _ _) dJ10_linkLast_11 rfl ?_
  refine f_callI 15 hF (fc_J39_init_nn (KS := KS) (Hb := Hb) D l a1_ 0 x 0) (wr := ([oC a 13 [.int mc, .int 0, .null, .null]])) rfl (imk [] rfl) q1727 q151 q1725 q1726 rfl 3 yk_J39_init rfl ⟨by decide, by decide⟩ rfl (Nat.le_of_ble_eq_true rfl) dJ10_linkLast_12 ⟨Nat.le_of_ble_eq_true rfl, Nat.le_of_ble_eq_true rfl⟩ rfl (fun r ws_ im' hp => ?_)
  obtain ⟨rfl, rfl, rfl⟩ := hp
  show F 1 3 ([oC a1_ 14 [.ref x, .null, .null], oC a 13 [.int mc, .int 0, .null, .null]]) ([]) 15 [.ref a1_] [(2, .null), (0, .ref a), (1, .ref x)]
  refine r_astore_n 16 [(3, .ref a1_), (2, .null), (0, .ref a), (1, .ref x)] (hF.pu _ _ _ _) dJ10_linkLast_15 rfl (by decide) rfl rfl ?_
  refine r_aload_n 17 2 (hF.pu _ _ _ _) dJ10_linkLast_16 rfl rfl ?_
  refine r_aload_n 18 0 (hF.pu _ _ _ _) dJ10_linkLast_17 rfl rfl ?_
  refine f_put 21 hF 1 (T := TJ10) (C := RJ10) ([oC a1_ 14 [.ref x, .null, .null], oC a 13 [.int mc, .int 0, .null, .ref a1_]]) okJ10 rfl rfl 3 (by decide) (Or.inl q295) (Or.inl rfl) rfl rfl rfl (Nat.le_of_ble_eq_true rfl) rfl dJ10_linkLast_18 rfl ?_
  refine r_aload_nN 22 1 (hF.pu _ _ _ _) dJ10_linkLast_21 rfl rfl ?_
  refine r_ifnonnullN 25 (hF.pu _ _ _ _) dJ10_linkLast_22 rfl ?_
  refine r_aload_n 26 2 (hF.pu _ _ _ _) dJ10_linkLast_25 rfl rfl ?_
  refine r_aload_n 27 0 (hF.pu _ _ _ _) dJ10_linkLast_26 rfl rfl ?_
  refine f_put 30 hF 1 (T := TJ10) (C := RJ10) ([oC a1_ 14 [.ref x, .null, .null], oC a 13 [.int mc, .int 0, .ref a1_, .ref a1_]]) okJ10 rfl rfl 2 (by decide) (Or.inl q294) (Or.inl rfl) rfl rfl rfl (Nat.le_of_ble_eq_true rfl) rfl dJ10_linkLast_27 rfl ?_
  refine r_goto 38 (hF.pu _ _ _ _) dJ10_linkLast_30 (by decide) ?_
  refine r_aload_n 39 2 (hF.pu _ _ _ _) dJ10_linkLast_38 rfl rfl ?_
  refine r_dup 40 (hF.pu _ _ _ _) dJ10_linkLast_39 rfl rfl ?_
  refine f_getf 43 hF (T := TJ10) (C := RJ10) 1 (v := .int 0) okJ10 (fun _ z => ((z.o 1 rfl).fld 1 rfl)) rfl (by decide) (Or.inl q292) (Or.inl rfl) dJ10_linkLast_40 rfl ?_
  refine r_iconst 44 1 (hF.pu _ _ _ _) dJ10_linkLast_43 (by decide) rfl ?_
  refine r_iaddN 0 1 1 45 (hF.pu _ _ _ _) dJ10_linkLast_44 (by omega) rfl ?_
  refine f_put 48 hF 1 (T := TJ10) (C := RJ10) ([oC a1_ 14 [.ref x, .null, .null], oC a 13 [.int mc, .int (nI 1), .ref a1_, .ref a1_]]) okJ10 rfl rfl 1 (by decide) (Or.inl q292) (Or.inl rfl) rfl rfl rfl (Nat.le_of_ble_eq_true rfl) rfl dJ10_linkLast_45 rfl ?_
  refine r_aload_n 49 2 (hF.pu _ _ _ _) dJ10_linkLast_48 rfl rfl ?_
  refine r_dup 50 (hF.pu _ _ _ _) dJ10_linkLast_49 rfl rfl ?_
  refine f_getf 53 hF (T := TJ10) (C := RJ10) 0 (v := .int mc) okJ10 (fun _ z => ((z.o 1 rfl).fld 0 rfl)) rfl (by decide) (Or.inl q271) (Or.inr q260) dJ10_linkLast_50 rfl ?_
  refine r_iconst 54 1 (hF.pu _ _ _ _) dJ10_linkLast_53 (by decide) rfl ?_
  refine r_iadd 55 (hF.pu _ _ _ _) dJ10_linkLast_54 rfl ?_
  refine f_put 58 hF 1 (T := TJ10) (C := RJ10) ([oC a1_ 14 [.ref x, .null, .null], oC a 13 [.int (mc + 1), .int (nI 1), .ref a1_, .ref a1_]]) okJ10 rfl rfl 0 (by decide) (Or.inl q271) (Or.inr q260) rfl rfl rfl (Nat.le_of_ble_eq_true rfl) rfl dJ10_linkLast_55 rfl ?_
  refine f_ups hF [1] ([oC a 13 [.int (mc + 1), .int (nI 1), .ref a1_, .ref a1_], oC a1_ 14 [.ref x, .null, .null]]) rfl ?_
  exact FR.v hR dJ10_linkLast_58 (Nat.le_of_ble_eq_true rfl) (Nat.le_of_ble_eq_true rfl) ⟨_, rfl, rfl, rfl⟩
set_option maxHeartbeats 4000000 in
theorem fc_J10_linkLast_1 (D : DD) (l : Launch) {KS : Nat → Prop} {Hb : Heap} (a x : Nat) (mc : Int32) (b y : Nat) : Fc D l yJ10_linkLast cJ10_linkLast 4 none 2 1 3 43 KS Hb [.ref a, .ref x] ([oC a 13 [.int mc, .int 1, .ref b, .ref b], oC b 14 [.ref y, .null, .null]]) ([]) (fun r w i => ∃ c, r = none ∧ w = [oC a 13 [.int (mc + 1), .int 2, .ref b, .ref c], oC b 14 [.ref y, .ref c, .null], oC c 14 [.ref x, .null, .ref b]] ∧ i = []) := by
  refine Fc.of (by decide) (Nat.le_of_ble_eq_true rfl) (fun s F hF hR => ?_)
  show F 0 0 ([oC a 13 [.int mc, .int 1, .ref b, .ref b], oC b 14 [.ref y, .null, .null]]) ([]) 0 [] [(0, .ref a), (1, .ref x)]
  refine r_aload_n 1 0 (hF.pu _ _ _ _) dJ10_linkLast_0 rfl rfl ?_
  refine f_getf 4 hF (T := TJ10) (C := RJ10) 3 (v := .ref b) okJ10 (fun _ z => ((z.o 0 rfl).fld 3 rfl)) rfl (by decide) (Or.inl q295) (Or.inl rfl) dJ10_linkLast_1 rfl ?_
  refine r_astore_n 5 [(2, .ref b), (0, .ref a), (1, .ref x)] (hF.pu _ _ _ _) dJ10_linkLast_4 rfl (by decide) rfl rfl ?_
  refine f_new 8 hF (ci := 14) [.null, .null, .null] okJ39 rfl q1723 q1724 q151 dvJ39 ⟨Nat.le_of_ble_eq_true rfl, Nat.le_of_ble_eq_true rfl⟩ dJ10_linkLast_5 rfl (fun a1_ => ?_)
  refine r_dup 9 (hF.pu _ _ _ _) dJ10_linkLast_8 rfl rfl ?_
  refine r_aload_n 10 0 (hF.pu _ _ _ _) dJ10_linkLast_9 rfl rfl ?_
  refine r_aload_n 11 2 (hF.pu _ _ _ _) dJ10_linkLast_10 rfl rfl ?_
  refine r_null 12 (hF.pu _ _ _ _) dJ10_linkLast_11 rfl ?_
  refine f_callI 15 hF (fc_J39_init_rn (KS := KS) (Hb := Hb) D l a1_ b x 0) (wr := ([oC a 13 [.int mc, .int 1, .ref b, .ref b], oC b 14 [.ref y, .null, .null]])) rfl (imk [] rfl) q1727 q151 q1725 q1726 rfl 3 yk_J39_init rfl ⟨by decide, by decide⟩ rfl (Nat.le_of_ble_eq_true rfl) dJ10_linkLast_12 ⟨Nat.le_of_ble_eq_true rfl, Nat.le_of_ble_eq_true rfl⟩ rfl (fun r ws_ im' hp => ?_)
  obtain ⟨rfl, rfl, rfl⟩ := hp
  show F 1 3 ([oC a1_ 14 [.ref x, .null, .ref b], oC a 13 [.int mc, .int 1, .ref b, .ref b], oC b 14 [.ref y, .null, .null]]) ([]) 15 [.ref a1_] [(2, .ref b), (0, .ref a), (1, .ref x)]
  refine r_astore_n 16 [(3, .ref a1_), (2, .ref b), (0, .ref a), (1, .ref x)] (hF.pu _ _ _ _) dJ10_linkLast_15 rfl (by decide) rfl rfl ?_
  refine r_aload_n 17 2 (hF.pu _ _ _ _) dJ10_linkLast_16 rfl rfl ?_
  refine r_aload_n 18 0 (hF.pu _ _ _ _) dJ10_linkLast_17 rfl rfl ?_
  refine f_put 21 hF 1 (T := TJ10) (C := RJ10) ([oC a1_ 14 [.ref x, .null, .ref b], oC a 13 [.int mc, .int 1, .ref b, .ref a1_], oC b 14 [.ref y, .null, .null]]) okJ10 rfl rfl 3 (by decide) (Or.inl q295) (Or.inl rfl) rfl rfl rfl (Nat.le_of_ble_eq_true rfl) rfl dJ10_linkLast_18 rfl ?_
  refine r_aload_n 22 1 (hF.pu _ _ _ _) dJ10_linkLast_21 rfl rfl ?_
  refine r_ifnonnull 33 (hF.pu _ _ _ _) dJ10_linkLast_22 (by decide) ?_
  refine r_aload_n 34 1 (hF.pu _ _ _ _) dJ10_linkLast_33 rfl rfl ?_
  refine r_aload_n 35 0 (hF.pu _ _ _ _) dJ10_linkLast_34 rfl rfl ?_
  refine f_put 38 hF 2 (T := TJ39) (C := RJ39) ([oC a1_ 14 [.ref x, .null, .ref b], oC a 13 [.int mc, .int 1, .ref b, .ref a1_], oC b 14 [.ref y, .ref a1_, .null]]) okJ39 rfl rfl 1 (by decide) (Or.inl q1734) (Or.inl rfl) rfl rfl rfl (Nat.le_of_ble_eq_true rfl) rfl dJ10_linkLast_35 rfl ?_
  refine r_aload_n 39 2 (hF.pu _ _ _ _) dJ10_linkLast_38 rfl rfl ?_
  refine r_dup 40 (hF.pu _ _ _ _) dJ10_linkLast_39 rfl rfl ?_
  refine f_getf 43 hF (T := TJ10) (C := RJ10) 1 (v := .int 1) okJ10 (fun _ z => ((z.o 1 rfl).fld 1 rfl)) rfl (by decide) (Or.inl q292) (Or.inl rfl) dJ10_linkLast_40 rfl ?_
  refine r_iconst 44 1 (hF.pu _ _ _ _) dJ10_linkLast_43 (by decide) rfl ?_
  refine r_iaddN 1 1 2 45 (hF.pu _ _ _ _) dJ10_linkLast_44 rfl rfl ?_
  refine f_put 48 hF 1 (T := TJ10) (C := RJ10) ([oC a1_ 14 [.ref x, .null, .ref b], oC a 13 [.int mc, .int (nI 2), .ref b, .ref a1_], oC b 14 [.ref y, .ref a1_, .null]]) okJ10 rfl rfl 1 (by decide) (Or.inl q292) (Or.inl rfl) rfl rfl rfl (Nat.le_of_ble_eq_true rfl) rfl dJ10_linkLast_45 rfl ?_
  refine r_aload_n 49 2 (hF.pu _ _ _ _) dJ10_linkLast_48 rfl rfl ?_
  refine r_dup 50 (hF.pu _ _ _ _) dJ10_linkLast_49 rfl rfl ?_
  refine f_getf 53 hF (T := TJ10) (C := RJ10) 0 (v := .int mc) okJ10 (fun _ z => ((z.o 1 rfl).fld 0 rfl)) rfl (by decide) (Or.inl q271) (Or.inr q260) dJ10_linkLast_50 rfl ?_
  refine r_iconst 54 1 (hF.pu _ _ _ _) dJ10_linkLast_53 (by decide) rfl ?_
  refine r_iadd 55 (hF.pu _ _ _ _) dJ10_linkLast_54 rfl ?_
  refine f_put 58 hF 1 (T := TJ10) (C := RJ10) ([oC a1_ 14 [.ref x, .null, .ref b], oC a 13 [.int (mc + 1), .int (nI 2), .ref b, .ref a1_], oC b 14 [.ref y, .ref a1_, .null]]) okJ10 rfl rfl 0 (by decide) (Or.inl q271) (Or.inr q260) rfl rfl rfl (Nat.le_of_ble_eq_true rfl) rfl dJ10_linkLast_55 rfl ?_
  refine f_ups hF [2] ([oC b 14 [.ref y, .ref a1_, .null], oC a1_ 14 [.ref x, .null, .ref b], oC a 13 [.int (mc + 1), .int (nI 2), .ref b, .ref a1_]]) rfl ?_
  refine f_ups hF [2] ([oC a 13 [.int (mc + 1), .int (nI 2), .ref b, .ref a1_], oC b 14 [.ref y, .ref a1_, .null], oC a1_ 14 [.ref x, .null, .ref b]]) rfl ?_
  exact FR.v hR dJ10_linkLast_58 (Nat.le_of_ble_eq_true rfl) (Nat.le_of_ble_eq_true rfl) ⟨_, rfl, rfl, rfl⟩
theorem lk_J10_57 : GoodIn lw_all (wsV RJ10 57 yJ10_linkLast.cls yJ10_linkLast (ws_ yJ10_linkLast cJ10_linkLast 4 none)) := lw_V q2318 q2319 q2320 q116 q2321
theorem yk_J10_linkLast : yOk yJ10_linkLast 1 := by decide +kernel
set_option maxHeartbeats 4000000 in
theorem fc_J10_addLast_0 (D : DD) (l : Launch) {KS : Nat → Prop} {Hb : Heap} (a x : Nat) (mc : Int32) : Fc D l yJ10_addLast cJ10_addLast 2 none 3 1 3 66 KS Hb [.ref a, .ref x] ([oC a 13 [.int mc, .int 0, .null, .null]]) ([]) (fun r w i => ∃ b, r = none ∧ w = [oC a 13 [.int (mc + 1), .int 1, .ref b, .ref b], oC b 14 [.ref x, .null, .null]] ∧ i = []) := by
  refine Fc.of (by decide) (Nat.le_of_ble_eq_true rfl) (fun s F hF hR => ?_)
  show F 0 0 ([oC a 13 [.int mc, .int 0, .null, .null]]) ([]) 0 [] [(0, .ref a), (1, .ref x)]
  refine r_aload_n 1 0 (hF.pu _ _ _ _) dJ10_addLast_0 rfl rfl ?_
  refine r_aload_n 2 1 (hF.pu _ _ _ _) dJ10_addLast_1 rfl rfl ?_
  refine f_callV 5 hF (fc_J10_linkLast_0 (KS := KS) (Hb := Hb) D l a x mc) (wr := ([])) rfl (imk [] rfl) lk_J10_57 1 yk_J10_linkLast rfl ⟨by decide, by decide⟩ (fun _ z => ((z.o 0 rfl).fld 0 rfl)) rfl rfl (Nat.le_of_ble_eq_true rfl) dJ10_addLast_2 ⟨Nat.le_of_ble_eq_true rfl, Nat.le_of_ble_eq_true rfl⟩ rfl (fun r ws_ im' hp => ?_)
  obtain ⟨a1_, rfl, rfl, rfl⟩ := hp
  show F 1 3 ([oC a 13 [.int (mc + 1), .int 1, .ref a1_, .ref a1_], oC a1_ 14 [.ref x, .null, .null]]) ([]) 5 [] [(0, .ref a), (1, .ref x)]
  exact FR.v hR dJ10_addLast_5 (Nat.le_of_ble_eq_true rfl) (Nat.le_of_ble_eq_true rfl) ⟨_, rfl, rfl, rfl⟩
set_option maxHeartbeats 4000000 in
theorem fc_J10_addLast_1 (D : DD) (l : Launch) {KS : Nat → Prop} {Hb : Heap} (a x : Nat) (mc : Int32) (b y : Nat) : Fc D l yJ10_addLast cJ10_addLast 2 none 3 1 3 66 KS Hb [.ref a, .ref x] ([oC a 13 [.int mc, .int 1, .ref b, .ref b], oC b 14 [.ref y, .null, .null]]) ([]) (fun r w i => ∃ c, r = none ∧ w = [oC a 13 [.int (mc + 1), .int 2, .ref b, .ref c], oC b 14 [.ref y, .ref c, .null], oC c 14 [.ref x, .null, .ref b]] ∧ i = []) := by
  refine Fc.of (by decide) (Nat.le_of_ble_eq_true rfl) (fun s F hF hR => ?_)
  show F 0 0 ([oC a 13 [.int mc, .int 1, .ref b, .ref b], oC b 14 [.ref y, .null, .null]]) ([]) 0 [] [(0, .ref a), (1, .ref x)]
  refine r_aload_n 1 0 (hF.pu _ _ _ _) dJ10_addLast_0 rfl rfl ?_
  refine r_aload_n 2 1 (hF.pu _ _ _ _) dJ10_addLast_1 rfl rfl ?_
  refine f_callV 5 hF (fc_J10_linkLast_1 (KS := KS) (Hb := Hb) D l a x mc b y) (wr := ([])) rfl (imk [] rfl) lk_J10_57 1 yk_J10_linkLast rfl ⟨by decide, by decide⟩ (fun _ z => ((z.o 0 rfl).fld 0 rfl)) rfl rfl (Nat.le_of_ble_eq_true rfl) dJ10_addLast_2 ⟨Nat.le_of_ble_eq_true rfl, Nat.le_of_ble_eq_true rfl⟩ rfl (fun r ws_ im' hp => ?_)
  obtain ⟨a1_, rfl, rfl, rfl⟩ := hp
  show F 1 3 ([oC a 13 [.int (mc + 1), .int 2, .ref b, .ref a1_], oC b 14 [.ref y, .ref a1_, .null], oC a1_ 14 [.ref x, .null, .ref b]]) ([]) 5 [] [(0, .ref a), (1, .ref x)]
  exact FR.v hR dJ10_addLast_5 (Nat.le_of_ble_eq_true rfl) (Nat.le_of_ble_eq_true rfl) ⟨_, rfl, rfl, rfl⟩
theorem dvX11 : ∀ j, j < 2 → defaultValue (tyX11 j) = vp_V [.int 0, .int 0] j := by
  intro j hj
  rcases (show j = 0 ∨ j = 1 by omega) with rfl | rfl <;> rfl
theorem yk_X11_init : yOk yX11_init 2 := by decide +kernel
set_option maxHeartbeats 4000000 in
theorem fc_X9_charge_e (D : DD) (l : Launch) (hl : l.stackTraces = false) {KS : Nat → Prop} {Hb : Heap} (r x R tx sp : Nat) (it : Int32) (ab : Bool) (x0 x1 x2 x3 x6 : Value) (t : Nat → Int32) (ln : Nat) (hln : ln ≤ 80) (hch : ∀ i, i < ln → inB (t i) 33 126 = true) (hsp : sp ≤ ln) (rb r2 r3 r4 r6 : Nat) (m4 : Int32) : Gc D l yX9_charge cX9_charge 2 none 7 10 50 155 KS Hb [.ref r] ([oC r 8 [.ref R, .int (nI sp), .int it, .int (zB ab), .ref x], oC R 3 [.ref rb, .ref r2, .ref r3, .ref r4, .ref r6], oC r4 12 [.int m4, .ref (D.2.2.1 1), .int (nI 0)]]) ([oC x 1 [x0, x1, x2, x3, .ref tx, .int (nI ln), x6], aC D 2 tx (iA 80 t)]) (fun r_ w i => ∃ c b, r_ = none ∧ w = [oC r 8 [.ref R, .int (nI (sK t ln sp 1 + nuD t ln (sK t ln sp 1))), .int it, .int (zB ab), .ref x], oC R 3 [.ref rb, .ref r2, .ref r3, .ref r4, .ref r6], oC r4 12 [.int (m4 + 1), .ref b, .int (nI 1)], aC D 3 b (qA 10 (va_up (fun _ => none) 0 (some c)))] ∧ i = [oC c 10 [.int (nI (nuN t ln sp)), .int (nI (nuN t ln (sK t ln sp 1)))]] ∧ nbR t ln 2 sp = (true, sK t ln sp 1 + nuD t ln (sK t ln sp 1)) ∧ ¬ c = x) (pxF ((nbR t ln 2 sp).1 = false) (nbR t ln 2 sp).2) := by
  refine Gc.of hl (by decide) (Nat.le_of_ble_eq_true rfl) (fun s F X hG hR hO => ?_)
  have hF := hG.f
  show F 0 0 ([oC r 8 [.ref R, .int (nI sp), .int it, .int (zB ab), .ref x], oC R 3 [.ref rb, .ref r2, .ref r3, .ref r4, .ref r6], oC r4 12 [.int m4, .ref (D.2.2.1 1), .int (nI 0)]]) ([oC x 1 [x0, x1, x2, x3, .ref tx, .int (nI ln), x6], aC D 2 tx (iA 80 t)]) 0 [] [(0, .ref r)]
  refine r_aload_n 1 0 (hF.pu _ _ _ _) dX9_charge_0 rfl rfl ?_
  refine r_iconst 2 2 (hF.pu _ _ _ _) dX9_charge_1 (by decide) rfl ?_
  refine g_callV 5 hG (fc_X9_numbers_2 (KS := KS) (Hb := Hb) D l hl r x R tx sp it ab x0 x1 x2 x3 x6 t ln hln hch (by omega)) (wr := ([oC R 3 [.ref rb, .ref r2, .ref r3, .ref r4, .ref r6], oC r4 12 [.int m4, .ref (D.2.2.1 1), .int (nI 0)]])) rfl (imk [0, 1] rfl) lk_X9_100 1 yk_X9_numbers rfl ⟨by decide, by decide⟩ (fun _ z => ((z.o 0 rfl).fld 0 rfl)) rfl rfl (Nat.le_of_ble_eq_true rfl) dX9_charge_2 ⟨Nat.le_of_ble_eq_true rfl, Nat.le_of_ble_eq_true rfl⟩ rfl (fun E a ws' im' hp hx => by obtain ⟨hb, rfl, rfl, rfl⟩ := hp; exact g_out hO 0 rfl (Nat.le_of_ble_eq_true rfl) (Nat.le_of_ble_eq_true rfl) (⟨hb, rfl⟩)) (fun r ws_ im' hp => ?_)
  obtain ⟨a1_, a2_, a3_, a4_, a5_, rfl, rfl, rfl, hp2⟩ := hp
  show F 8 38 ([oC r 8 [.ref R, .int (nI (sK t ln sp 1 + nuD t ln (sK t ln sp 1))), .int it, .int (zB ab), .ref x], oC R 3 [.ref rb, .ref r2, .ref r3, .ref r4, .ref r6], oC r4 12 [.int m4, .ref (D.2.2.1 1), .int (nI 0)]]) ([oC a1_ 21 [.ref a2_, .ref a2_], oC a2_ 12 [.int ((0 + 1) + 1), .ref a3_, .int (nI 2)], aC D 3 a3_ (qA 10 (va_up (va_up (fun _ => none) 0 (some a4_)) 1 (some a5_))), oC a4_ 19 [.int (nI (nuN t ln sp))], oC a5_ 19 [.int (nI (nuN t ln (sK t ln sp 1)))], oC x 1 [x0, x1, x2, x3, .ref tx, .int (nI ln), x6], aC D 2 tx (iA 80 t)]) 5 [.ref a1_] [(0, .ref r)]
  refine r_astore_n 6 [(1, .ref a1_), (0, .ref r)] (hF.pu _ _ _ _) dX9_charge_5 rfl (by decide) rfl rfl ?_
  refine r_aload_n 7 1 (hF.pu _ _ _ _) dX9_charge_6 rfl rfl ?_
  refine f_getf 10 hF (T := TX9) (C := RX9) 0 (v := .ref R) okX9 (fun _ z => ((z.o 0 rfl).fld 0 rfl)) rfl (by decide) (Or.inl q2049) (Or.inl rfl) dX9_charge_7 rfl ?_
  refine f_getf 13 hF (T := TX3) (C := RX3) 3 (v := .ref r4) okX3 (fun _ z => ((z.o 1 rfl).fld 3 rfl)) rfl (by decide) (Or.inr ⟨_, nw_q315⟩) (Or.inl rfl) dX9_charge_10 rfl ?_
  refine f_new 16 hF (ci := 10) [.int 0, .int 0] okX11 rfl q2263 q2264 q159 dvX11 ⟨Nat.le_of_ble_eq_true rfl, Nat.le_of_ble_eq_true rfl⟩ dX9_charge_13 rfl (fun a6_ => ?_)
  refine r_dup 17 (hF.pu _ _ _ _) dX9_charge_16 rfl rfl ?_
  refine r_aload_n 18 0 (hF.pu _ _ _ _) dX9_charge_17 rfl rfl ?_
  refine r_iconst 19 0 (hF.pu _ _ _ _) dX9_charge_18 (by decide) rfl ?_
  refine f_callFp 24 hF (fun _ z => cp_J43_get D l a1_ a2_ a3_ 10 2 0 a4_ ((z.mo 0 rfl).fld 1 rfl) ((z.mo 1 rfl).fld 2 rfl) ((z.mo 1 rfl).fld 1 rfl) ⟨_, (z.ma 2 rfl), rfl⟩ (by decide) (by decide) (by decide) (by decide)) lf_X9_119_J43_get fw_18 fo_J43_get_List_get 1 yf_List_get_1 rfl ⟨by decide, by decide⟩ (fun _ z => ((z.mo 0 rfl).fld 0 rfl)) rfl rfl (Nat.le_of_ble_eq_true rfl) dX9_charge_19 ⟨Nat.le_of_ble_eq_true rfl, Nat.le_of_ble_eq_true rfl⟩ rfl ?_
  refine f_castf 27 hF (fun _ z => ((z.mo 3 rfl).fld 0 rfl)) rfl q2254 dX9_charge_24 rfl ?_
  refine f_callp 30 hF (fun _ z => cp_J28_intValue D l a4_ (nI (nuN t ln sp)) ((z.mo 3 rfl).fld 0 rfl)) lk_X9_125 0 yk_J28_intValue rfl ⟨by decide, by decide⟩ (fun _ z => ((z.mo 3 rfl).fld 0 rfl)) rfl rfl (Nat.le_of_ble_eq_true rfl) dX9_charge_27 ⟨Nat.le_of_ble_eq_true rfl, Nat.le_of_ble_eq_true rfl⟩ rfl ?_
  refine r_aload_n 31 0 (hF.pu _ _ _ _) dX9_charge_30 rfl rfl ?_
  refine r_iconst 32 1 (hF.pu _ _ _ _) dX9_charge_31 (by decide) rfl ?_
  refine f_callFp 37 hF (fun _ z => cp_J43_get D l a1_ a2_ a3_ 10 2 1 a5_ ((z.mo 0 rfl).fld 1 rfl) ((z.mo 1 rfl).fld 2 rfl) ((z.mo 1 rfl).fld 1 rfl) ⟨_, (z.ma 2 rfl), rfl⟩ (by decide) (by decide) (by decide) (by decide)) lf_X9_119_J43_get fw_18 fo_J43_get_List_get 1 yf_List_get_1 rfl ⟨by decide, by decide⟩ (fun _ z => ((z.mo 0 rfl).fld 0 rfl)) rfl rfl (Nat.le_of_ble_eq_true rfl) dX9_charge_32 ⟨Nat.le_of_ble_eq_true rfl, Nat.le_of_ble_eq_true rfl⟩ rfl ?_
  refine f_castf 40 hF (fun _ z => ((z.mo 4 rfl).fld 0 rfl)) rfl q2254 dX9_charge_37 rfl ?_
  refine f_callp 43 hF (fun _ z => cp_J28_intValue D l a5_ (nI (nuN t ln (sK t ln sp 1))) ((z.mo 4 rfl).fld 0 rfl)) lk_X9_125 0 yk_J28_intValue rfl ⟨by decide, by decide⟩ (fun _ z => ((z.mo 4 rfl).fld 0 rfl)) rfl rfl (Nat.le_of_ble_eq_true rfl) dX9_charge_40 ⟨Nat.le_of_ble_eq_true rfl, Nat.le_of_ble_eq_true rfl⟩ rfl ?_
  refine f_callI 46 hF (fc_X11_init (KS := KS) (Hb := Hb) D l a6_ (nI (nuN t ln sp)) (nI (nuN t ln (sK t ln sp 1)))) (wr := ([oC r 8 [.ref R, .int (nI (sK t ln sp 1 + nuD t ln (sK t ln sp 1))), .int it, .int (zB ab), .ref x], oC R 3 [.ref rb, .ref r2, .ref r3, .ref r4, .ref r6], oC r4 12 [.int m4, .ref (D.2.2.1 1), .int (nI 0)]])) rfl (imk [] rfl) q2267 q159 q2265 q2266 rfl 2 yk_X11_init rfl ⟨by decide, by decide⟩ rfl (Nat.le_of_ble_eq_true rfl) dX9_charge_43 ⟨Nat.le_of_ble_eq_true rfl, Nat.le_of_ble_eq_true rfl⟩ rfl (fun r ws_ im' hp => ?_)
  obtain ⟨rfl, rfl, rfl⟩ := hp
  show F 9 40 ([oC a6_ 10 [.int (nI (nuN t ln sp)), .int (nI (nuN t ln (sK t ln sp 1)))], oC r 8 [.ref R, .int (nI (sK t ln sp 1 + nuD t ln (sK t ln sp 1))), .int it, .int (zB ab), .ref x], oC R 3 [.ref rb, .ref r2, .ref r3, .ref r4, .ref r6], oC r4 12 [.int m4, .ref (D.2.2.1 1), .int (nI 0)]]) ([oC a1_ 21 [.ref a2_, .ref a2_], oC a2_ 12 [.int ((0 + 1) + 1), .ref a3_, .int (nI 2)], aC D 3 a3_ (qA 10 (va_up (va_up (fun _ => none) 0 (some a4_)) 1 (some a5_))), oC a4_ 19 [.int (nI (nuN t ln sp))], oC a5_ 19 [.int (nI (nuN t ln (sK t ln sp 1)))], oC x 1 [x0, x1, x2, x3, .ref tx, .int (nI ln), x6], aC D 2 tx (iA 80 t)]) 46 [.ref a6_, .ref r4] [(1, .ref a1_), (0, .ref r)]
  refine f_ups hF [3] ([oC r4 12 [.int m4, .ref (D.2.2.1 1), .int (nI 0)], oC a6_ 10 [.int (nI (nuN t ln sp)), .int (nI (nuN t ln (sK t ln sp 1)))], oC r 8 [.ref R, .int (nI (sK t ln sp 1 + nuD t ln (sK t ln sp 1))), .int it, .int (zB ab), .ref x], oC R 3 [.ref rb, .ref r2, .ref r3, .ref r4, .ref r6]]) rfl ?_
  refine f_callV 49 hF (fc_J8_add_e (KS := KS) (Hb := Hb) D l r4 a6_ m4 [oC a6_ 10 [.int (nI (nuN t ln sp)), .int (nI (nuN t ln (sK t ln sp 1)))]] [] (fun H h => anyK.ofob (h _ List.mem_cons_self) rfl nw_q3971)) (wr := ([oC r 8 [.ref R, .int (nI (sK t ln sp 1 + nuD t ln (sK t ln sp 1))), .int it, .int (zB ab), .ref x], oC R 3 [.ref rb, .ref r2, .ref r3, .ref r4, .ref r6]])) rfl (imk [] rfl) lk_X9_81 1 yk_J8_add rfl ⟨by decide, by decide⟩ (fun _ z => ((z.o 0 rfl).fld 0 rfl)) rfl rfl (Nat.le_of_ble_eq_true rfl) dX9_charge_46 ⟨Nat.le_of_ble_eq_true rfl, Nat.le_of_ble_eq_true rfl⟩ rfl (fun r ws_ im' hp => ?_)
  obtain ⟨a7_, rfl, rfl, rfl⟩ := hp
  show F 10 50 ([oC r4 12 [.int (m4 + 1), .ref a7_, .int (nI 1)], aC D 3 a7_ (qA 10 (va_up (fun _ => none) 0 (some a6_))), oC a6_ 10 [.int (nI (nuN t ln sp)), .int (nI (nuN t ln (sK t ln sp 1)))], oC r 8 [.ref R, .int (nI (sK t ln sp 1 + nuD t ln (sK t ln sp 1))), .int it, .int (zB ab), .ref x], oC R 3 [.ref rb, .ref r2, .ref r3, .ref r4, .ref r6]]) ([oC a1_ 21 [.ref a2_, .ref a2_], oC a2_ 12 [.int ((0 + 1) + 1), .ref a3_, .int (nI 2)], aC D 3 a3_ (qA 10 (va_up (va_up (fun _ => none) 0 (some a4_)) 1 (some a5_))), oC a4_ 19 [.int (nI (nuN t ln sp))], oC a5_ 19 [.int (nI (nuN t ln (sK t ln sp 1)))], oC x 1 [x0, x1, x2, x3, .ref tx, .int (nI ln), x6], aC D 2 tx (iA 80 t)]) 49 [.int 1] [(1, .ref a1_), (0, .ref r)]
  refine r_pop 50 (hF.pu _ _ _ _) dX9_charge_49 rfl rfl ?_
  refine f_ups hF [2] ([oC a6_ 10 [.int (nI (nuN t ln sp)), .int (nI (nuN t ln (sK t ln sp 1)))], oC r4 12 [.int (m4 + 1), .ref a7_, .int (nI 1)], aC D 3 a7_ (qA 10 (va_up (fun _ => none) 0 (some a6_))), oC r 8 [.ref R, .int (nI (sK t ln sp 1 + nuD t ln (sK t ln sp 1))), .int it, .int (zB ab), .ref x], oC R 3 [.ref rb, .ref r2, .ref r3, .ref r4, .ref r6]]) rfl ?_
  refine f_frzx hF (fun hzx_ => ?_)
  have hcx : ¬ a6_ = x := fun z => hzx_ _ (List.mem_of_getElem? (i := 5) rfl) z.symm
  refine f_ups hF [1] ([aC D 3 a7_ (qA 10 (va_up (fun _ => none) 0 (some a6_))), oC r4 12 [.int (m4 + 1), .ref a7_, .int (nI 1)], oC r 8 [.ref R, .int (nI (sK t ln sp 1 + nuD t ln (sK t ln sp 1))), .int it, .int (zB ab), .ref x], oC R 3 [.ref rb, .ref r2, .ref r3, .ref r4, .ref r6]]) rfl ?_
  refine f_ups hF [1] ([oC r4 12 [.int (m4 + 1), .ref a7_, .int (nI 1)], aC D 3 a7_ (qA 10 (va_up (fun _ => none) 0 (some a6_))), oC r 8 [.ref R, .int (nI (sK t ln sp 1 + nuD t ln (sK t ln sp 1))), .int it, .int (zB ab), .ref x], oC R 3 [.ref rb, .ref r2, .ref r3, .ref r4, .ref r6]]) rfl ?_
  refine f_ups hF [3] ([oC R 3 [.ref rb, .ref r2, .ref r3, .ref r4, .ref r6], oC r4 12 [.int (m4 + 1), .ref a7_, .int (nI 1)], aC D 3 a7_ (qA 10 (va_up (fun _ => none) 0 (some a6_))), oC r 8 [.ref R, .int (nI (sK t ln sp 1 + nuD t ln (sK t ln sp 1))), .int it, .int (zB ab), .ref x]]) rfl ?_
  refine f_ups hF [3] ([oC r 8 [.ref R, .int (nI (sK t ln sp 1 + nuD t ln (sK t ln sp 1))), .int it, .int (zB ab), .ref x], oC R 3 [.ref rb, .ref r2, .ref r3, .ref r4, .ref r6], oC r4 12 [.int (m4 + 1), .ref a7_, .int (nI 1)], aC D 3 a7_ (qA 10 (va_up (fun _ => none) 0 (some a6_)))]) rfl ?_
  refine f_imsub hF [oC a6_ 10 [.int (nI (nuN t ln sp)), .int (nI (nuN t ln (sK t ln sp 1)))]] (imk [0] rfl) ?_
  exact FR.v hR dX9_charge_50 (Nat.le_of_ble_eq_true rfl) (Nat.le_of_ble_eq_true rfl) ⟨_, _, rfl, rfl, rfl, hp2, hcx⟩
set_option maxHeartbeats 4000000 in
theorem fc_X9_charge_n (D : DD) (l : Launch) (hl : l.stackTraces = false) {KS : Nat → Prop} {Hb : Heap} (r x R tx sp : Nat) (it : Int32) (ab : Bool) (x0 x1 x2 x3 x6 : Value) (t : Nat → Int32) (ln : Nat) (hln : ln ≤ 80) (hch : ∀ i, i < ln → inB (t i) 33 126 = true) (hsp : sp ≤ ln) (rb r2 r3 r4 r6 : Nat) (m4 : Int32) (e4 n4 : Nat) (g4 : Nat → Option Nat) (hn4 : n4 < 10) : Gc D l yX9_charge cX9_charge 2 none 7 9 40 155 KS Hb [.ref r] ([oC r 8 [.ref R, .int (nI sp), .int it, .int (zB ab), .ref x], oC R 3 [.ref rb, .ref r2, .ref r3, .ref r4, .ref r6], oC r4 12 [.int m4, .ref e4, .int (nI n4)], aC D 3 e4 (qA 10 g4)]) ([oC x 1 [x0, x1, x2, x3, .ref tx, .int (nI ln), x6], aC D 2 tx (iA 80 t)]) (fun r_ w i => ∃ c, r_ = none ∧ w = [oC r 8 [.ref R, .int (nI (sK t ln sp 1 + nuD t ln (sK t ln sp 1))), .int it, .int (zB ab), .ref x], oC R 3 [.ref rb, .ref r2, .ref r3, .ref r4, .ref r6], oC r4 12 [.int (m4 + 1), .ref e4, .int (nI (n4 + 1))], aC D 3 e4 (qA 10 (va_up g4 n4 (some c)))] ∧ i = [oC c 10 [.int (nI (nuN t ln sp)), .int (nI (nuN t ln (sK t ln sp 1)))]] ∧ nbR t ln 2 sp = (true, sK t ln sp 1 + nuD t ln (sK t ln sp 1)) ∧ ¬ c = x) (pxF ((nbR t ln 2 sp).1 = false) (nbR t ln 2 sp).2) := by
  refine Gc.of hl (by decide) (Nat.le_of_ble_eq_true rfl) (fun s F X hG hR hO => ?_)
  have hF := hG.f
  show F 0 0 ([oC r 8 [.ref R, .int (nI sp), .int it, .int (zB ab), .ref x], oC R 3 [.ref rb, .ref r2, .ref r3, .ref r4, .ref r6], oC r4 12 [.int m4, .ref e4, .int (nI n4)], aC D 3 e4 (qA 10 g4)]) ([oC x 1 [x0, x1, x2, x3, .ref tx, .int (nI ln), x6], aC D 2 tx (iA 80 t)]) 0 [] [(0, .ref r)]
  refine r_aload_n 1 0 (hF.pu _ _ _ _) dX9_charge_0 rfl rfl ?_
  refine r_iconst 2 2 (hF.pu _ _ _ _) dX9_charge_1 (by decide) rfl ?_
  refine g_callV 5 hG (fc_X9_numbers_2 (KS := KS) (Hb := Hb) D l hl r x R tx sp it ab x0 x1 x2 x3 x6 t ln hln hch (by omega)) (wr := ([oC R 3 [.ref rb, .ref r2, .ref r3, .ref r4, .ref r6], oC r4 12 [.int m4, .ref e4, .int (nI n4)], aC D 3 e4 (qA 10 g4)])) rfl (imk [0, 1] rfl) lk_X9_100 1 yk_X9_numbers rfl ⟨by decide, by decide⟩ (fun _ z => ((z.o 0 rfl).fld 0 rfl)) rfl rfl (Nat.le_of_ble_eq_true rfl) dX9_charge_2 ⟨Nat.le_of_ble_eq_true rfl, Nat.le_of_ble_eq_true rfl⟩ rfl (fun E a ws' im' hp hx => by obtain ⟨hb, rfl, rfl, rfl⟩ := hp; exact g_out hO 0 rfl (Nat.le_of_ble_eq_true rfl) (Nat.le_of_ble_eq_true rfl) (⟨hb, rfl⟩)) (fun r ws_ im' hp => ?_)
  obtain ⟨a1_, a2_, a3_, a4_, a5_, rfl, rfl, rfl, hp2⟩ := hp
  show F 8 38 ([oC r 8 [.ref R, .int (nI (sK t ln sp 1 + nuD t ln (sK t ln sp 1))), .int it, .int (zB ab), .ref x], oC R 3 [.ref rb, .ref r2, .ref r3, .ref r4, .ref r6], oC r4 12 [.int m4, .ref e4, .int (nI n4)], aC D 3 e4 (qA 10 g4)]) ([oC a1_ 21 [.ref a2_, .ref a2_], oC a2_ 12 [.int ((0 + 1) + 1), .ref a3_, .int (nI 2)], aC D 3 a3_ (qA 10 (va_up (va_up (fun _ => none) 0 (some a4_)) 1 (some a5_))), oC a4_ 19 [.int (nI (nuN t ln sp))], oC a5_ 19 [.int (nI (nuN t ln (sK t ln sp 1)))], oC x 1 [x0, x1, x2, x3, .ref tx, .int (nI ln), x6], aC D 2 tx (iA 80 t)]) 5 [.ref a1_] [(0, .ref r)]
  refine r_astore_n 6 [(1, .ref a1_), (0, .ref r)] (hF.pu _ _ _ _) dX9_charge_5 rfl (by decide) rfl rfl ?_
  refine r_aload_n 7 1 (hF.pu _ _ _ _) dX9_charge_6 rfl rfl ?_
  refine f_getf 10 hF (T := TX9) (C := RX9) 0 (v := .ref R) okX9 (fun _ z => ((z.o 0 rfl).fld 0 rfl)) rfl (by decide) (Or.inl q2049) (Or.inl rfl) dX9_charge_7 rfl ?_
  refine f_getf 13 hF (T := TX3) (C := RX3) 3 (v := .ref r4) okX3 (fun _ z => ((z.o 1 rfl).fld 3 rfl)) rfl (by decide) (Or.inr ⟨_, nw_q315⟩) (Or.inl rfl) dX9_charge_10 rfl ?_
  refine f_new 16 hF (ci := 10) [.int 0, .int 0] okX11 rfl q2263 q2264 q159 dvX11 ⟨Nat.le_of_ble_eq_true rfl, Nat.le_of_ble_eq_true rfl⟩ dX9_charge_13 rfl (fun a6_ => ?_)
  refine r_dup 17 (hF.pu _ _ _ _) dX9_charge_16 rfl rfl ?_
  refine r_aload_n 18 0 (hF.pu _ _ _ _) dX9_charge_17 rfl rfl ?_
  refine r_iconst 19 0 (hF.pu _ _ _ _) dX9_charge_18 (by decide) rfl ?_
  refine f_callFp 24 hF (fun _ z => cp_J43_get D l a1_ a2_ a3_ 10 2 0 a4_ ((z.mo 0 rfl).fld 1 rfl) ((z.mo 1 rfl).fld 2 rfl) ((z.mo 1 rfl).fld 1 rfl) ⟨_, (z.ma 2 rfl), rfl⟩ (by decide) (by decide) (by decide) (by decide)) lf_X9_119_J43_get fw_18 fo_J43_get_List_get 1 yf_List_get_1 rfl ⟨by decide, by decide⟩ (fun _ z => ((z.mo 0 rfl).fld 0 rfl)) rfl rfl (Nat.le_of_ble_eq_true rfl) dX9_charge_19 ⟨Nat.le_of_ble_eq_true rfl, Nat.le_of_ble_eq_true rfl⟩ rfl ?_
  refine f_castf 27 hF (fun _ z => ((z.mo 3 rfl).fld 0 rfl)) rfl q2254 dX9_charge_24 rfl ?_
  refine f_callp 30 hF (fun _ z => cp_J28_intValue D l a4_ (nI (nuN t ln sp)) ((z.mo 3 rfl).fld 0 rfl)) lk_X9_125 0 yk_J28_intValue rfl ⟨by decide, by decide⟩ (fun _ z => ((z.mo 3 rfl).fld 0 rfl)) rfl rfl (Nat.le_of_ble_eq_true rfl) dX9_charge_27 ⟨Nat.le_of_ble_eq_true rfl, Nat.le_of_ble_eq_true rfl⟩ rfl ?_
  refine r_aload_n 31 0 (hF.pu _ _ _ _) dX9_charge_30 rfl rfl ?_
  refine r_iconst 32 1 (hF.pu _ _ _ _) dX9_charge_31 (by decide) rfl ?_
  refine f_callFp 37 hF (fun _ z => cp_J43_get D l a1_ a2_ a3_ 10 2 1 a5_ ((z.mo 0 rfl).fld 1 rfl) ((z.mo 1 rfl).fld 2 rfl) ((z.mo 1 rfl).fld 1 rfl) ⟨_, (z.ma 2 rfl), rfl⟩ (by decide) (by decide) (by decide) (by decide)) lf_X9_119_J43_get fw_18 fo_J43_get_List_get 1 yf_List_get_1 rfl ⟨by decide, by decide⟩ (fun _ z => ((z.mo 0 rfl).fld 0 rfl)) rfl rfl (Nat.le_of_ble_eq_true rfl) dX9_charge_32 ⟨Nat.le_of_ble_eq_true rfl, Nat.le_of_ble_eq_true rfl⟩ rfl ?_
  refine f_castf 40 hF (fun _ z => ((z.mo 4 rfl).fld 0 rfl)) rfl q2254 dX9_charge_37 rfl ?_
  refine f_callp 43 hF (fun _ z => cp_J28_intValue D l a5_ (nI (nuN t ln (sK t ln sp 1))) ((z.mo 4 rfl).fld 0 rfl)) lk_X9_125 0 yk_J28_intValue rfl ⟨by decide, by decide⟩ (fun _ z => ((z.mo 4 rfl).fld 0 rfl)) rfl rfl (Nat.le_of_ble_eq_true rfl) dX9_charge_40 ⟨Nat.le_of_ble_eq_true rfl, Nat.le_of_ble_eq_true rfl⟩ rfl ?_
  refine f_callI 46 hF (fc_X11_init (KS := KS) (Hb := Hb) D l a6_ (nI (nuN t ln sp)) (nI (nuN t ln (sK t ln sp 1)))) (wr := ([oC r 8 [.ref R, .int (nI (sK t ln sp 1 + nuD t ln (sK t ln sp 1))), .int it, .int (zB ab), .ref x], oC R 3 [.ref rb, .ref r2, .ref r3, .ref r4, .ref r6], oC r4 12 [.int m4, .ref e4, .int (nI n4)], aC D 3 e4 (qA 10 g4)])) rfl (imk [] rfl) q2267 q159 q2265 q2266 rfl 2 yk_X11_init rfl ⟨by decide, by decide⟩ rfl (Nat.le_of_ble_eq_true rfl) dX9_charge_43 ⟨Nat.le_of_ble_eq_true rfl, Nat.le_of_ble_eq_true rfl⟩ rfl (fun r ws_ im' hp => ?_)
  obtain ⟨rfl, rfl, rfl⟩ := hp
  show F 9 40 ([oC a6_ 10 [.int (nI (nuN t ln sp)), .int (nI (nuN t ln (sK t ln sp 1)))], oC r 8 [.ref R, .int (nI (sK t ln sp 1 + nuD t ln (sK t ln sp 1))), .int it, .int (zB ab), .ref x], oC R 3 [.ref rb, .ref r2, .ref r3, .ref r4, .ref r6], oC r4 12 [.int m4, .ref e4, .int (nI n4)], aC D 3 e4 (qA 10 g4)]) ([oC a1_ 21 [.ref a2_, .ref a2_], oC a2_ 12 [.int ((0 + 1) + 1), .ref a3_, .int (nI 2)], aC D 3 a3_ (qA 10 (va_up (va_up (fun _ => none) 0 (some a4_)) 1 (some a5_))), oC a4_ 19 [.int (nI (nuN t ln sp))], oC a5_ 19 [.int (nI (nuN t ln (sK t ln sp 1)))], oC x 1 [x0, x1, x2, x3, .ref tx, .int (nI ln), x6], aC D 2 tx (iA 80 t)]) 46 [.ref a6_, .ref r4] [(1, .ref a1_), (0, .ref r)]
  refine f_ups hF [4] ([aC D 3 e4 (qA 10 g4), oC a6_ 10 [.int (nI (nuN t ln sp)), .int (nI (nuN t ln (sK t ln sp 1)))], oC r 8 [.ref R, .int (nI (sK t ln sp 1 + nuD t ln (sK t ln sp 1))), .int it, .int (zB ab), .ref x], oC R 3 [.ref rb, .ref r2, .ref r3, .ref r4, .ref r6], oC r4 12 [.int m4, .ref e4, .int (nI n4)]]) rfl ?_
  refine f_ups hF [4] ([oC r4 12 [.int m4, .ref e4, .int (nI n4)], aC D 3 e4 (qA 10 g4), oC a6_ 10 [.int (nI (nuN t ln sp)), .int (nI (nuN t ln (sK t ln sp 1)))], oC r 8 [.ref R, .int (nI (sK t ln sp 1 + nuD t ln (sK t ln sp 1))), .int it, .int (zB ab), .ref x], oC R 3 [.ref rb, .ref r2, .ref r3, .ref r4, .ref r6]]) rfl ?_
  refine f_callV 49 hF (fc_J8_add_n (KS := KS) (Hb := Hb) D l r4 e4 n4 a6_ m4 g4 (by omega) [oC a6_ 10 [.int (nI (nuN t ln sp)), .int (nI (nuN t ln (sK t ln sp 1)))]] [] (fun H h => anyK.ofob (h _ List.mem_cons_self) rfl nw_q3971)) (wr := ([oC r 8 [.ref R, .int (nI (sK t ln sp 1 + nuD t ln (sK t ln sp 1))), .int it, .int (zB ab), .ref x], oC R 3 [.ref rb, .ref r2, .ref r3, .ref r4, .ref r6]])) rfl (imk [] rfl) lk_X9_81 1 yk_J8_add rfl ⟨by decide, by decide⟩ (fun _ z => ((z.o 0 rfl).fld 0 rfl)) rfl rfl (Nat.le_of_ble_eq_true rfl) dX9_charge_46 ⟨Nat.le_of_ble_eq_true rfl, Nat.le_of_ble_eq_true rfl⟩ rfl (fun r ws_ im' hp => ?_)
  obtain ⟨rfl, rfl, rfl⟩ := hp
  show F 9 40 ([oC r4 12 [.int (m4 + 1), .ref e4, .int (nI (n4 + 1))], aC D 3 e4 (qA 10 (va_up g4 n4 (some a6_))), oC a6_ 10 [.int (nI (nuN t ln sp)), .int (nI (nuN t ln (sK t ln sp 1)))], oC r 8 [.ref R, .int (nI (sK t ln sp 1 + nuD t ln (sK t ln sp 1))), .int it, .int (zB ab), .ref x], oC R 3 [.ref rb, .ref r2, .ref r3, .ref r4, .ref r6]]) ([oC a1_ 21 [.ref a2_, .ref a2_], oC a2_ 12 [.int ((0 + 1) + 1), .ref a3_, .int (nI 2)], aC D 3 a3_ (qA 10 (va_up (va_up (fun _ => none) 0 (some a4_)) 1 (some a5_))), oC a4_ 19 [.int (nI (nuN t ln sp))], oC a5_ 19 [.int (nI (nuN t ln (sK t ln sp 1)))], oC x 1 [x0, x1, x2, x3, .ref tx, .int (nI ln), x6], aC D 2 tx (iA 80 t)]) 49 [.int 1] [(1, .ref a1_), (0, .ref r)]
  refine r_pop 50 (hF.pu _ _ _ _) dX9_charge_49 rfl rfl ?_
  refine f_ups hF [2] ([oC a6_ 10 [.int (nI (nuN t ln sp)), .int (nI (nuN t ln (sK t ln sp 1)))], oC r4 12 [.int (m4 + 1), .ref e4, .int (nI (n4 + 1))], aC D 3 e4 (qA 10 (va_up g4 n4 (some a6_))), oC r 8 [.ref R, .int (nI (sK t ln sp 1 + nuD t ln (sK t ln sp 1))), .int it, .int (zB ab), .ref x], oC R 3 [.ref rb, .ref r2, .ref r3, .ref r4, .ref r6]]) rfl ?_
  refine f_frzx hF (fun hzx_ => ?_)
  have hcx : ¬ a6_ = x := fun z => hzx_ _ (List.mem_of_getElem? (i := 5) rfl) z.symm
  refine f_ups hF [1] ([aC D 3 e4 (qA 10 (va_up g4 n4 (some a6_))), oC r4 12 [.int (m4 + 1), .ref e4, .int (nI (n4 + 1))], oC r 8 [.ref R, .int (nI (sK t ln sp 1 + nuD t ln (sK t ln sp 1))), .int it, .int (zB ab), .ref x], oC R 3 [.ref rb, .ref r2, .ref r3, .ref r4, .ref r6]]) rfl ?_
  refine f_ups hF [1] ([oC r4 12 [.int (m4 + 1), .ref e4, .int (nI (n4 + 1))], aC D 3 e4 (qA 10 (va_up g4 n4 (some a6_))), oC r 8 [.ref R, .int (nI (sK t ln sp 1 + nuD t ln (sK t ln sp 1))), .int it, .int (zB ab), .ref x], oC R 3 [.ref rb, .ref r2, .ref r3, .ref r4, .ref r6]]) rfl ?_
  refine f_ups hF [3] ([oC R 3 [.ref rb, .ref r2, .ref r3, .ref r4, .ref r6], oC r4 12 [.int (m4 + 1), .ref e4, .int (nI (n4 + 1))], aC D 3 e4 (qA 10 (va_up g4 n4 (some a6_))), oC r 8 [.ref R, .int (nI (sK t ln sp 1 + nuD t ln (sK t ln sp 1))), .int it, .int (zB ab), .ref x]]) rfl ?_
  refine f_ups hF [3] ([oC r 8 [.ref R, .int (nI (sK t ln sp 1 + nuD t ln (sK t ln sp 1))), .int it, .int (zB ab), .ref x], oC R 3 [.ref rb, .ref r2, .ref r3, .ref r4, .ref r6], oC r4 12 [.int (m4 + 1), .ref e4, .int (nI (n4 + 1))], aC D 3 e4 (qA 10 (va_up g4 n4 (some a6_)))]) rfl ?_
  refine f_imsub hF [oC a6_ 10 [.int (nI (nuN t ln sp)), .int (nI (nuN t ln (sK t ln sp 1)))]] (imk [0] rfl) ?_
  exact FR.v hR dX9_charge_50 (Nat.le_of_ble_eq_true rfl) (Nat.le_of_ble_eq_true rfl) ⟨_, rfl, rfl, rfl, hp2, hcx⟩
theorem lf_X12_15_J43_get : GoodIn lw_all (va_wsF RX12 15 "java/util/Collections$UnmodifiableRandomAccessList" ⟨"java/util/List", "get", "(I)Ljava/lang/Object;"⟩ yJ43_get (ws_ yJ43_get cJ43_get 2 (Option.some (ClassFile.FieldType.object "java/lang/Object")))) := lw_F q2291 q1570 q1564 q157 q1566
theorem lk_X12_23 : GoodIn lw_all (wsV RX12 23 yJ28_intValue.cls yJ28_intValue (ws_ yJ28_intValue cJ28_intValue 1 (some .int))) := lw_V q2293 q2256 q2257 q140 q2258
set_option maxHeartbeats 4000000 in
theorem fc_X12_init (D : DD) (l : Launch) {KS : Nat → Prop} {Hb : Heap} (c u l_ e_ i0 i1 i2 i3 kd v0 v1 v2 v3 : Nat) (mc : Int32) (b : Bool) : Fc D l yX12_init cX12_init 4 none 4 0 0 85 KS Hb [.ref c, .int (nI kd), .ref u, .int (zB b)] ([oC c 11 [.int 0, .int 0, .int 0, .int 0, .int 0, .int 0]]) ([oC u 21 [.ref l_, .ref l_], oC l_ 12 [.int mc, .ref e_, .int (nI 4)], aC D 3 e_ (qA 10 (va_up (va_up (va_up (va_up (fun _ => none) 0 (some i0)) 1 (some i1)) 2 (some i2)) 3 (some i3))), oC i0 19 [.int (nI v0)], oC i1 19 [.int (nI v1)], oC i2 19 [.int (nI v2)], oC i3 19 [.int (nI v3)]]) (fun r w i => r = none ∧ w = [oC c 11 [.int (nI kd), .int (nI v0), .int (nI v1), .int (nI v2), .int (nI v3), .int (zB b)]] ∧ i = []) := by
  refine Fc.of (by decide) (Nat.le_of_ble_eq_true rfl) (fun s F hF hR => ?_)
  show F 0 0 ([oC c 11 [.int 0, .int 0, .int 0, .int 0, .int 0, .int 0]]) ([oC u 21 [.ref l_, .ref l_], oC l_ 12 [.int mc, .ref e_, .int (nI 4)], aC D 3 e_ (qA 10 (va_up (va_up (va_up (va_up (fun _ => none) 0 (some i0)) 1 (some i1)) 2 (some i2)) 3 (some i3))), oC i0 19 [.int (nI v0)], oC i1 19 [.int (nI v1)], oC i2 19 [.int (nI v2)], oC i3 19 [.int (nI v3)]]) 0 [] [(0, .ref c), (1, .int (nI kd)), (2, .ref u), (3, .int (zB b))]
  refine r_aload_n 1 0 (hF.pu _ _ _ _) dX12_init_0 rfl rfl ?_
  refine f_objInit 4 hF q2289 q179 q180 ⟨by decide, by decide⟩ dX12_init_1 rfl ?_
  refine r_aload_n 5 0 (hF.pu _ _ _ _) dX12_init_4 rfl rfl ?_
  refine r_iload_n 6 1 (hF.pu _ _ _ _) dX12_init_5 rfl rfl ?_
  refine f_putF 9 hF 0 (T := TX12) (C := RX12) ([oC c 11 [.int (nI kd), .int 0, .int 0, .int 0, .int 0, .int 0]]) okX12 rfl rfl 0 (by decide) q2294 rfl rfl rfl rfl rfl (Nat.le_of_ble_eq_true rfl) rfl dX12_init_6 rfl ?_
  refine r_aload_n 10 0 (hF.pu _ _ _ _) dX12_init_9 rfl rfl ?_
  refine r_aload_n 11 2 (hF.pu _ _ _ _) dX12_init_10 rfl rfl ?_
  refine r_iconst 12 0 (hF.pu _ _ _ _) dX12_init_11 (by decide) rfl ?_
  refine f_callFp 17 hF (fun _ z => cp_J43_get D l u l_ e_ 10 4 0 i0 ((z.mo 0 rfl).fld 1 rfl) ((z.mo 1 rfl).fld 2 rfl) ((z.mo 1 rfl).fld 1 rfl) ⟨_, (z.ma 2 rfl), rfl⟩ (by decide) (by decide) (by decide) (by decide)) lf_X12_15_J43_get fw_18 fo_J43_get_List_get 1 yf_List_get_1 rfl ⟨by decide, by decide⟩ (fun _ z => ((z.mo 0 rfl).fld 0 rfl)) rfl rfl (Nat.le_of_ble_eq_true rfl) dX12_init_12 ⟨Nat.le_of_ble_eq_true rfl, Nat.le_of_ble_eq_true rfl⟩ rfl ?_
  refine f_castf 20 hF (fun _ z => ((z.mo 3 rfl).fld 0 rfl)) rfl q2292 dX12_init_17 rfl ?_
  refine f_callp 23 hF (fun _ z => cp_J28_intValue D l i0 (nI v0) ((z.mo 3 rfl).fld 0 rfl)) lk_X12_23 0 yk_J28_intValue rfl ⟨by decide, by decide⟩ (fun _ z => ((z.mo 3 rfl).fld 0 rfl)) rfl rfl (Nat.le_of_ble_eq_true rfl) dX12_init_20 ⟨Nat.le_of_ble_eq_true rfl, Nat.le_of_ble_eq_true rfl⟩ rfl ?_
  refine f_putF 26 hF 0 (T := TX12) (C := RX12) ([oC c 11 [.int (nI kd), .int (nI v0), .int 0, .int 0, .int 0, .int 0]]) okX12 rfl rfl 1 (by decide) q2296 rfl rfl rfl rfl rfl (Nat.le_of_ble_eq_true rfl) rfl dX12_init_23 rfl ?_
  refine r_aload_n 27 0 (hF.pu _ _ _ _) dX12_init_26 rfl rfl ?_
  refine r_aload_n 28 2 (hF.pu _ _ _ _) dX12_init_27 rfl rfl ?_
  refine r_iconst 29 1 (hF.pu _ _ _ _) dX12_init_28 (by decide) rfl ?_
  refine f_callFp 34 hF (fun _ z => cp_J43_get D l u l_ e_ 10 4 1 i1 ((z.mo 0 rfl).fld 1 rfl) ((z.mo 1 rfl).fld 2 rfl) ((z.mo 1 rfl).fld 1 rfl) ⟨_, (z.ma 2 rfl), rfl⟩ (by decide) (by decide) (by decide) (by decide)) lf_X12_15_J43_get fw_18 fo_J43_get_List_get 1 yf_List_get_1 rfl ⟨by decide, by decide⟩ (fun _ z => ((z.mo 0 rfl).fld 0 rfl)) rfl rfl (Nat.le_of_ble_eq_true rfl) dX12_init_29 ⟨Nat.le_of_ble_eq_true rfl, Nat.le_of_ble_eq_true rfl⟩ rfl ?_
  refine f_castf 37 hF (fun _ z => ((z.mo 4 rfl).fld 0 rfl)) rfl q2292 dX12_init_34 rfl ?_
  refine f_callp 40 hF (fun _ z => cp_J28_intValue D l i1 (nI v1) ((z.mo 4 rfl).fld 0 rfl)) lk_X12_23 0 yk_J28_intValue rfl ⟨by decide, by decide⟩ (fun _ z => ((z.mo 4 rfl).fld 0 rfl)) rfl rfl (Nat.le_of_ble_eq_true rfl) dX12_init_37 ⟨Nat.le_of_ble_eq_true rfl, Nat.le_of_ble_eq_true rfl⟩ rfl ?_
  refine f_putF 43 hF 0 (T := TX12) (C := RX12) ([oC c 11 [.int (nI kd), .int (nI v0), .int (nI v1), .int 0, .int 0, .int 0]]) okX12 rfl rfl 2 (by decide) q2297 rfl rfl rfl rfl rfl (Nat.le_of_ble_eq_true rfl) rfl dX12_init_40 rfl ?_
  refine r_aload_n 44 0 (hF.pu _ _ _ _) dX12_init_43 rfl rfl ?_
  refine r_aload_n 45 2 (hF.pu _ _ _ _) dX12_init_44 rfl rfl ?_
  refine r_iconst 46 2 (hF.pu _ _ _ _) dX12_init_45 (by decide) rfl ?_
  refine f_callFp 51 hF (fun _ z => cp_J43_get D l u l_ e_ 10 4 2 i2 ((z.mo 0 rfl).fld 1 rfl) ((z.mo 1 rfl).fld 2 rfl) ((z.mo 1 rfl).fld 1 rfl) ⟨_, (z.ma 2 rfl), rfl⟩ (by decide) (by decide) (by decide) (by decide)) lf_X12_15_J43_get fw_18 fo_J43_get_List_get 1 yf_List_get_1 rfl ⟨by decide, by decide⟩ (fun _ z => ((z.mo 0 rfl).fld 0 rfl)) rfl rfl (Nat.le_of_ble_eq_true rfl) dX12_init_46 ⟨Nat.le_of_ble_eq_true rfl, Nat.le_of_ble_eq_true rfl⟩ rfl ?_
  refine f_castf 54 hF (fun _ z => ((z.mo 5 rfl).fld 0 rfl)) rfl q2292 dX12_init_51 rfl ?_
  refine f_callp 57 hF (fun _ z => cp_J28_intValue D l i2 (nI v2) ((z.mo 5 rfl).fld 0 rfl)) lk_X12_23 0 yk_J28_intValue rfl ⟨by decide, by decide⟩ (fun _ z => ((z.mo 5 rfl).fld 0 rfl)) rfl rfl (Nat.le_of_ble_eq_true rfl) dX12_init_54 ⟨Nat.le_of_ble_eq_true rfl, Nat.le_of_ble_eq_true rfl⟩ rfl ?_
  refine f_putF 60 hF 0 (T := TX12) (C := RX12) ([oC c 11 [.int (nI kd), .int (nI v0), .int (nI v1), .int (nI v2), .int 0, .int 0]]) okX12 rfl rfl 3 (by decide) q2298 rfl rfl rfl rfl rfl (Nat.le_of_ble_eq_true rfl) rfl dX12_init_57 rfl ?_
  refine r_aload_n 61 0 (hF.pu _ _ _ _) dX12_init_60 rfl rfl ?_
  refine r_aload_n 62 2 (hF.pu _ _ _ _) dX12_init_61 rfl rfl ?_
  refine r_iconst 63 3 (hF.pu _ _ _ _) dX12_init_62 (by decide) rfl ?_
  refine f_callFp 68 hF (fun _ z => cp_J43_get D l u l_ e_ 10 4 3 i3 ((z.mo 0 rfl).fld 1 rfl) ((z.mo 1 rfl).fld 2 rfl) ((z.mo 1 rfl).fld 1 rfl) ⟨_, (z.ma 2 rfl), rfl⟩ (by decide) (by decide) (by decide) (by decide)) lf_X12_15_J43_get fw_18 fo_J43_get_List_get 1 yf_List_get_1 rfl ⟨by decide, by decide⟩ (fun _ z => ((z.mo 0 rfl).fld 0 rfl)) rfl rfl (Nat.le_of_ble_eq_true rfl) dX12_init_63 ⟨Nat.le_of_ble_eq_true rfl, Nat.le_of_ble_eq_true rfl⟩ rfl ?_
  refine f_castf 71 hF (fun _ z => ((z.mo 6 rfl).fld 0 rfl)) rfl q2292 dX12_init_68 rfl ?_
  refine f_callp 74 hF (fun _ z => cp_J28_intValue D l i3 (nI v3) ((z.mo 6 rfl).fld 0 rfl)) lk_X12_23 0 yk_J28_intValue rfl ⟨by decide, by decide⟩ (fun _ z => ((z.mo 6 rfl).fld 0 rfl)) rfl rfl (Nat.le_of_ble_eq_true rfl) dX12_init_71 ⟨Nat.le_of_ble_eq_true rfl, Nat.le_of_ble_eq_true rfl⟩ rfl ?_
  refine f_putF 77 hF 0 (T := TX12) (C := RX12) ([oC c 11 [.int (nI kd), .int (nI v0), .int (nI v1), .int (nI v2), .int (nI v3), .int 0]]) okX12 rfl rfl 4 (by decide) q2299 rfl rfl rfl rfl rfl (Nat.le_of_ble_eq_true rfl) rfl dX12_init_74 rfl ?_
  refine r_aload_n 78 0 (hF.pu _ _ _ _) dX12_init_77 rfl rfl ?_
  refine r_iload_n 79 3 (hF.pu _ _ _ _) dX12_init_78 rfl rfl ?_
  refine f_putF 82 hF 0 (T := TX12) (C := RX12) ([oC c 11 [.int (nI kd), .int (nI v0), .int (nI v1), .int (nI v2), .int (nI v3), .int (zB b)]]) okX12 rfl rfl 5 (by decide) q2300 rfl rfl rfl (zB_narrow _) (zB_fits _) (Nat.le_of_ble_eq_true rfl) rfl dX12_init_79 rfl ?_
  refine f_imsub hF [] (imk [] rfl) ?_
  exact FR.v hR dX12_init_82 (Nat.le_of_ble_eq_true rfl) (Nat.le_of_ble_eq_true rfl) ⟨rfl, rfl, rfl⟩
def zN (b : Bool) : Nat := if b = true then 1 else 0
theorem zN_1 {b : Bool} (h : b = true) : (1 : Int32) = nI (zN b) := by subst h; rfl
theorem zN_0 {b : Bool} (h : b = false) : (0 : Int32) = nI (zN b) := by subst h; rfl
theorem cmR_ge {t : Nat → Int32} {ln : Nat} : ∀ m p q, p ≤ ln → cmR t ln m p = (true, q) → p + 2 * m ≤ q ∧ q ≤ ln := by
  intro m
  induction m with
  | zero => intro p q hp h; rw [cmR] at h; injection h with h1 h2; omega
  | succ m ih =>
    intro p q hp h
    rw [cmR] at h
    split at h
    · rename_i h1
      split at h
      · injection h with h3 _; cases h3
      · have h5 := heC_p (by decide) h1
        have h6 := (nuC_le (t := t) (ln := ln) 4 (p + 1) (by omega)).1
        have h7 := ih _ _ h6 h
        have h8 : nuD t ln (p + 1) = nuC t ln 4 (p + 1) := rfl
        omega
    · injection h with h3 _; cases h3
theorem nbR_ge {t : Nat → Int32} {ln m sp q : Nat} (hs : sp ≤ ln) (h : nbR t ln m sp = (true, q)) : sp + 1 + 2 * (m - 1) ≤ q ∧ q ≤ ln := by
  unfold nbR at h
  split at h
  · injection h with h3 _; cases h3
  · have h6 := (nuC_le (t := t) (ln := ln) 4 sp hs).1
    have h7 := cmR_ge _ _ _ h6 h
    have h8 : nuD t ln sp = nuC t ln 4 sp := rfl
    omega
theorem dvX12 : ∀ j, j < 6 → defaultValue (tyX12 j) = vp_V [.int 0, .int 0, .int 0, .int 0, .int 0, .int 0] j := by
  intro j hj
  rcases (show j = 0 ∨ j = 1 ∨ j = 2 ∨ j = 3 ∨ j = 4 ∨ j = 5 by omega) with rfl | rfl | rfl | rfl | rfl | rfl <;> rfl
theorem yk_X12_init : yOk yX12_init 3 := by decide +kernel
theorem lk_X9_113 : GoodIn lw_all (wsV RX9 113 yJ10_addLast.cls yJ10_addLast (ws_ yJ10_addLast cJ10_addLast 2 none)) := lw_V q2314 q2315 q2316 q116 q2317
theorem yk_J10_addLast : yOk yJ10_addLast 1 := by decide +kernel
set_option maxHeartbeats 4000000 in
theorem fc_X9_credit_0 (D : DD) (l : Launch) (hl : l.stackTraces = false) {KS : Nat → Prop} {Hb : Heap} (r x R tx sp : Nat) (it : Int32) (ab : Bool) (x0 x1 x2 x3 x6 : Value) (t : Nat → Int32) (ln : Nat) (hln : ln ≤ 80) (hch : ∀ i, i < ln → inB (t i) 33 126 = true) (hsp : sp ≤ ln) (rb r2 r3 r4 r6 : Nat) (m6 : Int32) (kd : Nat) : Gc D l yX9_credit cX9_credit 4 none 7 16 77 155 KS Hb [.ref r, .int (nI kd)] ([oC r 8 [.ref R, .int (nI sp), .int it, .int (zB ab), .ref x], oC R 3 [.ref rb, .ref r2, .ref r3, .ref r4, .ref r6], oC r6 13 [.int m6, .int 0, .null, .null]]) ([oC x 1 [x0, x1, x2, x3, .ref tx, .int (nI ln), x6], aC D 2 tx (iA 80 t)]) (fun r_ w i => ∃ c b, r_ = none ∧ w = [oC r 8 [.ref R, .int (nI (sK t ln sp 3 + nuD t ln (sK t ln sp 3) + zN (decide (heC t ln (sK t ln sp 3 + nuD t ln (sK t ln sp 3)) = 42)))), .int it, .int (zB ab), .ref x], oC R 3 [.ref rb, .ref r2, .ref r3, .ref r4, .ref r6], oC r6 13 [.int (m6 + 1), .int 1, .ref b, .ref b], oC b 14 [.ref c, .null, .null]] ∧ i = [oC c 11 [.int (nI kd), .int (nI (nuN t ln sp)), .int (nI (nuN t ln (sK t ln sp 1))), .int (nI (nuN t ln (sK t ln sp 2))), .int (nI (nuN t ln (sK t ln sp 3))), .int (zB (decide (heC t ln (sK t ln sp 3 + nuD t ln (sK t ln sp 3)) = 42)))]] ∧ nbR t ln 4 sp = (true, sK t ln sp 3 + nuD t ln (sK t ln sp 3)) ∧ ¬ c = x) (pxF ((nbR t ln 4 sp).1 = false) (nbR t ln 4 sp).2) := by
  refine Gc.of hl (by decide) (Nat.le_of_ble_eq_true rfl) (fun s F X hG hR hO => ?_)
  have hF := hG.f
  show F 0 0 ([oC r 8 [.ref R, .int (nI sp), .int it, .int (zB ab), .ref x], oC R 3 [.ref rb, .ref r2, .ref r3, .ref r4, .ref r6], oC r6 13 [.int m6, .int 0, .null, .null]]) ([oC x 1 [x0, x1, x2, x3, .ref tx, .int (nI ln), x6], aC D 2 tx (iA 80 t)]) 0 [] [(0, .ref r), (1, .int (nI kd))]
  refine r_aload_n 1 0 (hF.pu _ _ _ _) dX9_credit_0 rfl rfl ?_
  refine r_iconst 2 4 (hF.pu _ _ _ _) dX9_credit_1 (by decide) rfl ?_
  refine g_callV 5 hG (fc_X9_numbers_4 (KS := KS) (Hb := Hb) D l hl r x R tx sp it ab x0 x1 x2 x3 x6 t ln hln hch (by omega)) (wr := ([oC R 3 [.ref rb, .ref r2, .ref r3, .ref r4, .ref r6], oC r6 13 [.int m6, .int 0, .null, .null]])) rfl (imk [0, 1] rfl) lk_X9_100 1 yk_X9_numbers rfl ⟨by decide, by decide⟩ (fun _ z => ((z.o 0 rfl).fld 0 rfl)) rfl rfl (Nat.le_of_ble_eq_true rfl) dX9_credit_2 ⟨Nat.le_of_ble_eq_true rfl, Nat.le_of_ble_eq_true rfl⟩ rfl (fun E a ws' im' hp hx => by obtain ⟨hb, rfl, rfl, rfl⟩ := hp; exact g_out hO 0 rfl (Nat.le_of_ble_eq_true rfl) (Nat.le_of_ble_eq_true rfl) (⟨hb, rfl⟩)) (fun r ws_ im' hp => ?_)
  obtain ⟨a1_, a2_, a3_, a4_, a5_, a6_, a7_, rfl, rfl, rfl, hp2⟩ := hp
  show F 14 68 ([oC r 8 [.ref R, .int (nI (sK t ln sp 3 + nuD t ln (sK t ln sp 3))), .int it, .int (zB ab), .ref x], oC R 3 [.ref rb, .ref r2, .ref r3, .ref r4, .ref r6], oC r6 13 [.int m6, .int 0, .null, .null]]) ([oC a1_ 21 [.ref a2_, .ref a2_], oC a2_ 12 [.int ((((0 + 1) + 1) + 1) + 1), .ref a3_, .int (nI 4)], aC D 3 a3_ (qA 10 (va_up (va_up (va_up (va_up (fun _ => none) 0 (some a4_)) 1 (some a5_)) 2 (some a6_)) 3 (some a7_))), oC a4_ 19 [.int (nI (nuN t ln sp))], oC a5_ 19 [.int (nI (nuN t ln (sK t ln sp 1)))], oC a6_ 19 [.int (nI (nuN t ln (sK t ln sp 2)))], oC a7_ 19 [.int (nI (nuN t ln (sK t ln sp 3)))], oC x 1 [x0, x1, x2, x3, .ref tx, .int (nI ln), x6], aC D 2 tx (iA 80 t)]) 5 [.ref a1_] [(0, .ref r), (1, .int (nI kd))]
  refine r_astore_n 6 [(2, .ref a1_), (0, .ref r), (1, .int (nI kd))] (hF.pu _ _ _ _) dX9_credit_5 rfl (by decide) rfl rfl ?_
  have hge := nbR_ge hsp hp2
  refine r_aload_n 7 1 (hF.pu _ _ _ _) dX9_credit_6 rfl rfl ?_
  refine f_callp 10 hF (fun _ z => cp_X9_here D l r x tx (sK t ln sp 3 + nuD t ln (sK t ln sp 3)) t ln hln hch (by omega) ((z.o 0 rfl).fld 1 rfl) ((z.o 0 rfl).fld 4 rfl) ((z.mo 7 rfl).fld 4 rfl) ((z.mo 7 rfl).fld 5 rfl) (z.ma 8 rfl)) lk_X9_52 0 yk_X9_here rfl ⟨by decide, by decide⟩ (fun _ z => ((z.o 0 rfl).fld 0 rfl)) rfl rfl (Nat.le_of_ble_eq_true rfl) dX9_credit_7 ⟨Nat.le_of_ble_eq_true rfl, Nat.le_of_ble_eq_true rfl⟩ rfl ?_
  refine r_bipush 12 42 (hF.pu _ _ _ _) dX9_credit_10 (by decide) rfl ?_
  have hj_12 : F 14 68 ([oC r 8 [.ref R, .int (nI (sK t ln sp 3 + nuD t ln (sK t ln sp 3))), .int it, .int (zB ab), .ref x], oC R 3 [.ref rb, .ref r2, .ref r3, .ref r4, .ref r6], oC r6 13 [.int m6, .int 0, .null, .null]]) ([oC a1_ 21 [.ref a2_, .ref a2_], oC a2_ 12 [.int ((((0 + 1) + 1) + 1) + 1), .ref a3_, .int (nI 4)], aC D 3 a3_ (qA 10 (va_up (va_up (va_up (va_up (fun _ => none) 0 (some a4_)) 1 (some a5_)) 2 (some a6_)) 3 (some a7_))), oC a4_ 19 [.int (nI (nuN t ln sp))], oC a5_ 19 [.int (nI (nuN t ln (sK t ln sp 1)))], oC a6_ 19 [.int (nI (nuN t ln (sK t ln sp 2)))], oC a7_ 19 [.int (nI (nuN t ln (sK t ln sp 3)))], oC x 1 [x0, x1, x2, x3, .ref tx, .int (nI ln), x6], aC D 2 tx (iA 80 t)]) 20 [.int (zB (decide (heC t ln (sK t ln sp 3 + nuD t ln (sK t ln sp 3)) = 42)))] [(2, .ref a1_), (0, .ref r), (1, .int (nI kd))] := by
    refine r_istore_n 21 [(3, .int (zB (decide (heC t ln (sK t ln sp 3 + nuD t ln (sK t ln sp 3)) = 42)))), (2, .ref a1_), (0, .ref r), (1, .int (nI kd))] (hF.pu _ _ _ _) dX9_credit_20 rfl (by decide) rfl rfl ?_
    refine r_aload_n 22 2 (hF.pu _ _ _ _) dX9_credit_21 rfl rfl ?_
    refine r_dup 23 (hF.pu _ _ _ _) dX9_credit_22 rfl rfl ?_
    refine f_getf 26 hF (T := TX9) (C := RX9) 1 (v := .int (nI (sK t ln sp 3 + nuD t ln (sK t ln sp 3)))) okX9 (fun _ z => ((z.o 0 rfl).fld 1 rfl)) rfl (by decide) (Or.inl q2051) (Or.inl rfl) dX9_credit_23 rfl ?_
    refine r_iload_n 27 0 (hF.pu _ _ _ _) dX9_credit_26 rfl rfl ?_
    have hj_27 : F 14 68 ([oC r 8 [.ref R, .int (nI (sK t ln sp 3 + nuD t ln (sK t ln sp 3))), .int it, .int (zB ab), .ref x], oC R 3 [.ref rb, .ref r2, .ref r3, .ref r4, .ref r6], oC r6 13 [.int m6, .int 0, .null, .null]]) ([oC a1_ 21 [.ref a2_, .ref a2_], oC a2_ 12 [.int ((((0 + 1) + 1) + 1) + 1), .ref a3_, .int (nI 4)], aC D 3 a3_ (qA 10 (va_up (va_up (va_up (va_up (fun _ => none) 0 (some a4_)) 1 (some a5_)) 2 (some a6_)) 3 (some a7_))), oC a4_ 19 [.int (nI (nuN t ln sp))], oC a5_ 19 [.int (nI (nuN t ln (sK t ln sp 1)))], oC a6_ 19 [.int (nI (nuN t ln (sK t ln sp 2)))], oC a7_ 19 [.int (nI (nuN t ln (sK t ln sp 3)))], oC x 1 [x0, x1, x2, x3, .ref tx, .int (nI ln), x6], aC D 2 tx (iA 80 t)]) 35 [.int (nI (zN (decide (heC t ln (sK t ln sp 3 + nuD t ln (sK t ln sp 3)) = 42)))), .int (nI (sK t ln sp 3 + nuD t ln (sK t ln sp 3))), .ref r] [(3, .int (zB (decide (heC t ln (sK t ln sp 3 + nuD t ln (sK t ln sp 3)) = 42)))), (2, .ref a1_), (0, .ref r), (1, .int (nI kd))] := by
      refine r_iaddN (sK t ln sp 3 + nuD t ln (sK t ln sp 3)) (zN (decide (heC t ln (sK t ln sp 3 + nuD t ln (sK t ln sp 3)) = 42))) (sK t ln sp 3 + nuD t ln (sK t ln sp 3) + (zN (decide (heC t ln (sK t ln sp 3 + nuD t ln (sK t ln sp 3)) = 42)))) 36 (hF.pu _ _ _ _) dX9_credit_35 rfl rfl ?_
      refine f_put 39 hF 0 (T := TX9) (C := RX9) ([oC r 8 [.ref R, .int (nI (sK t ln sp 3 + nuD t ln (sK t ln sp 3) + (zN (decide (heC t ln (sK t ln sp 3 + nuD t ln (sK t ln sp 3)) = 42))))), .int it, .int (zB ab), .ref x], oC R 3 [.ref rb, .ref r2, .ref r3, .ref r4, .ref r6], oC r6 13 [.int m6, .int 0, .null, .null]]) okX9 rfl rfl 1 (by decide) (Or.inl q2051) (Or.inl rfl) rfl rfl rfl (Nat.le_of_ble_eq_true rfl) rfl dX9_credit_36 rfl ?_
      refine r_aload_n 40 2 (hF.pu _ _ _ _) dX9_credit_39 rfl rfl ?_
      refine f_getf 43 hF (T := TX9) (C := RX9) 0 (v := .ref R) okX9 (fun _ z => ((z.o 0 rfl).fld 0 rfl)) rfl (by decide) (Or.inl q2049) (Or.inl rfl) dX9_credit_40 rfl ?_
      refine f_getf 46 hF (T := TX3) (C := RX3) 4 (v := .ref r6) okX3 (fun _ z => ((z.o 1 rfl).fld 4 rfl)) rfl (by decide) (Or.inr ⟨_, nw_q319⟩) (Or.inl rfl) dX9_credit_43 rfl ?_
      refine f_new 49 hF (ci := 11) [.int 0, .int 0, .int 0, .int 0, .int 0, .int 0] okX12 rfl q2284 q2285 q160 dvX12 ⟨Nat.le_of_ble_eq_true rfl, Nat.le_of_ble_eq_true rfl⟩ dX9_credit_46 rfl (fun a8_ => ?_)
      refine r_dup 50 (hF.pu _ _ _ _) dX9_credit_49 rfl rfl ?_
      refine r_iload_n 51 3 (hF.pu _ _ _ _) dX9_credit_50 rfl rfl ?_
      refine r_aload_n 52 1 (hF.pu _ _ _ _) dX9_credit_51 rfl rfl ?_
      refine r_iload_n 53 0 (hF.pu _ _ _ _) dX9_credit_52 rfl rfl ?_
      refine f_callI 56 hF (fc_X12_init (KS := KS) (Hb := Hb) D l a8_ a1_ a2_ a3_ a4_ a5_ a6_ a7_ kd (nuN t ln sp) (nuN t ln (sK t ln sp 1)) (nuN t ln (sK t ln sp 2)) (nuN t ln (sK t ln sp 3)) ((((0 + 1) + 1) + 1) + 1) (decide (heC t ln (sK t ln sp 3 + nuD t ln (sK t ln sp 3)) = 42))) (wr := ([oC r 8 [.ref R, .int (nI (sK t ln sp 3 + nuD t ln (sK t ln sp 3) + (zN (decide (heC t ln (sK t ln sp 3 + nuD t ln (sK t ln sp 3)) = 42))))), .int it, .int (zB ab), .ref x], oC R 3 [.ref rb, .ref r2, .ref r3, .ref r4, .ref r6], oC r6 13 [.int m6, .int 0, .null, .null]])) rfl (imk [0, 1, 2, 3, 4, 5, 6] rfl) q2288 q160 q2286 q2287 rfl 3 yk_X12_init rfl ⟨by decide, by decide⟩ rfl (Nat.le_of_ble_eq_true rfl) dX9_credit_53 ⟨Nat.le_of_ble_eq_true rfl, Nat.le_of_ble_eq_true rfl⟩ rfl (fun r ws_ im' hp => ?_)
      obtain ⟨rfl, rfl, rfl⟩ := hp
      show F 15 74 ([oC a8_ 11 [.int (nI kd), .int (nI (nuN t ln sp)), .int (nI (nuN t ln (sK t ln sp 1))), .int (nI (nuN t ln (sK t ln sp 2))), .int (nI (nuN t ln (sK t ln sp 3))), .int (zB (decide (heC t ln (sK t ln sp 3 + nuD t ln (sK t ln sp 3)) = 42)))], oC r 8 [.ref R, .int (nI (sK t ln sp 3 + nuD t ln (sK t ln sp 3) + (zN (decide (heC t ln (sK t ln sp 3 + nuD t ln (sK t ln sp 3)) = 42))))), .int it, .int (zB ab), .ref x], oC R 3 [.ref rb, .ref r2, .ref r3, .ref r4, .ref r6], oC r6 13 [.int m6, .int 0, .null, .null]]) ([oC a1_ 21 [.ref a2_, .ref a2_], oC a2_ 12 [.int ((((0 + 1) + 1) + 1) + 1), .ref a3_, .int (nI 4)], aC D 3 a3_ (qA 10 (va_up (va_up (va_up (va_up (fun _ => none) 0 (some a4_)) 1 (some a5_)) 2 (some a6_)) 3 (some a7_))), oC a4_ 19 [.int (nI (nuN t ln sp))], oC a5_ 19 [.int (nI (nuN t ln (sK t ln sp 1)))], oC a6_ 19 [.int (nI (nuN t ln (sK t ln sp 2)))], oC a7_ 19 [.int (nI (nuN t ln (sK t ln sp 3)))], oC x 1 [x0, x1, x2, x3, .ref tx, .int (nI ln), x6], aC D 2 tx (iA 80 t)]) 56 [.ref a8_, .ref r6] [(3, .int (zB (decide (heC t ln (sK t ln sp 3 + nuD t ln (sK t ln sp 3)) = 42)))), (2, .ref a1_), (0, .ref r), (1, .int (nI kd))]
      refine f_ups hF [3] ([oC r6 13 [.int m6, .int 0, .null, .null], oC a8_ 11 [.int (nI kd), .int (nI (nuN t ln sp)), .int (nI (nuN t ln (sK t ln sp 1))), .int (nI (nuN t ln (sK t ln sp 2))), .int (nI (nuN t ln (sK t ln sp 3))), .int (zB (decide (heC t ln (sK t ln sp 3 + nuD t ln (sK t ln sp 3)) = 42)))], oC r 8 [.ref R, .int (nI (sK t ln sp 3 + nuD t ln (sK t ln sp 3) + (zN (decide (heC t ln (sK t ln sp 3 + nuD t ln (sK t ln sp 3)) = 42))))), .int it, .int (zB ab), .ref x], oC R 3 [.ref rb, .ref r2, .ref r3, .ref r4, .ref r6]]) rfl ?_
      refine f_callV 59 hF (fc_J10_addLast_0 (KS := KS) (Hb := Hb) D l r6 a8_ m6) (wr := ([oC a8_ 11 [.int (nI kd), .int (nI (nuN t ln sp)), .int (nI (nuN t ln (sK t ln sp 1))), .int (nI (nuN t ln (sK t ln sp 2))), .int (nI (nuN t ln (sK t ln sp 3))), .int (zB (decide (heC t ln (sK t ln sp 3 + nuD t ln (sK t ln sp 3)) = 42)))], oC r 8 [.ref R, .int (nI (sK t ln sp 3 + nuD t ln (sK t ln sp 3) + (zN (decide (heC t ln (sK t ln sp 3 + nuD t ln (sK t ln sp 3)) = 42))))), .int it, .int (zB ab), .ref x], oC R 3 [.ref rb, .ref r2, .ref r3, .ref r4, .ref r6]])) rfl (imk [] rfl) lk_X9_113 1 yk_J10_addLast rfl ⟨by decide, by decide⟩ (fun _ z => ((z.o 0 rfl).fld 0 rfl)) rfl rfl (Nat.le_of_ble_eq_true rfl) dX9_credit_56 ⟨Nat.le_of_ble_eq_true rfl, Nat.le_of_ble_eq_true rfl⟩ rfl (fun r ws_ im' hp => ?_)
      obtain ⟨a9_, rfl, rfl, rfl⟩ := hp
      show F 16 77 ([oC r6 13 [.int (m6 + 1), .int 1, .ref a9_, .ref a9_], oC a9_ 14 [.ref a8_, .null, .null], oC a8_ 11 [.int (nI kd), .int (nI (nuN t ln sp)), .int (nI (nuN t ln (sK t ln sp 1))), .int (nI (nuN t ln (sK t ln sp 2))), .int (nI (nuN t ln (sK t ln sp 3))), .int (zB (decide (heC t ln (sK t ln sp 3 + nuD t ln (sK t ln sp 3)) = 42)))], oC r 8 [.ref R, .int (nI (sK t ln sp 3 + nuD t ln (sK t ln sp 3) + (zN (decide (heC t ln (sK t ln sp 3 + nuD t ln (sK t ln sp 3)) = 42))))), .int it, .int (zB ab), .ref x], oC R 3 [.ref rb, .ref r2, .ref r3, .ref r4, .ref r6]]) ([oC a1_ 21 [.ref a2_, .ref a2_], oC a2_ 12 [.int ((((0 + 1) + 1) + 1) + 1), .ref a3_, .int (nI 4)], aC D 3 a3_ (qA 10 (va_up (va_up (va_up (va_up (fun _ => none) 0 (some a4_)) 1 (some a5_)) 2 (some a6_)) 3 (some a7_))), oC a4_ 19 [.int (nI (nuN t ln sp))], oC a5_ 19 [.int (nI (nuN t ln (sK t ln sp 1)))], oC a6_ 19 [.int (nI (nuN t ln (sK t ln sp 2)))], oC a7_ 19 [.int (nI (nuN t ln (sK t ln sp 3)))], oC x 1 [x0, x1, x2, x3, .ref tx, .int (nI ln), x6], aC D 2 tx (iA 80 t)]) 59 [] [(3, .int (zB (decide (heC t ln (sK t ln sp 3 + nuD t ln (sK t ln sp 3)) = 42)))), (2, .ref a1_), (0, .ref r), (1, .int (nI kd))]
      refine f_ups hF [2] ([oC a8_ 11 [.int (nI kd), .int (nI (nuN t ln sp)), .int (nI (nuN t ln (sK t ln sp 1))), .int (nI (nuN t ln (sK t ln sp 2))), .int (nI (nuN t ln (sK t ln sp 3))), .int (zB (decide (heC t ln (sK t ln sp 3 + nuD t ln (sK t ln sp 3)) = 42)))], oC r6 13 [.int (m6 + 1), .int 1, .ref a9_, .ref a9_], oC a9_ 14 [.ref a8_, .null, .null], oC r 8 [.ref R, .int (nI (sK t ln sp 3 + nuD t ln (sK t ln sp 3) + (zN (decide (heC t ln (sK t ln sp 3 + nuD t ln (sK t ln sp 3)) = 42))))), .int it, .int (zB ab), .ref x], oC R 3 [.ref rb, .ref r2, .ref r3, .ref r4, .ref r6]]) rfl ?_
      refine f_frzx hF (fun hzx_ => ?_)
      have hcx : ¬ a8_ = x := fun z => hzx_ _ (List.mem_of_getElem? (i := 7) rfl) z.symm
      refine f_ups hF [1] ([oC a9_ 14 [.ref a8_, .null, .null], oC r6 13 [.int (m6 + 1), .int 1, .ref a9_, .ref a9_], oC r 8 [.ref R, .int (nI (sK t ln sp 3 + nuD t ln (sK t ln sp 3) + (zN (decide (heC t ln (sK t ln sp 3 + nuD t ln (sK t ln sp 3)) = 42))))), .int it, .int (zB ab), .ref x], oC R 3 [.ref rb, .ref r2, .ref r3, .ref r4, .ref r6]]) rfl ?_
      refine f_ups hF [1] ([oC r6 13 [.int (m6 + 1), .int 1, .ref a9_, .ref a9_], oC a9_ 14 [.ref a8_, .null, .null], oC r 8 [.ref R, .int (nI (sK t ln sp 3 + nuD t ln (sK t ln sp 3) + (zN (decide (heC t ln (sK t ln sp 3 + nuD t ln (sK t ln sp 3)) = 42))))), .int it, .int (zB ab), .ref x], oC R 3 [.ref rb, .ref r2, .ref r3, .ref r4, .ref r6]]) rfl ?_
      refine f_ups hF [3] ([oC R 3 [.ref rb, .ref r2, .ref r3, .ref r4, .ref r6], oC r6 13 [.int (m6 + 1), .int 1, .ref a9_, .ref a9_], oC a9_ 14 [.ref a8_, .null, .null], oC r 8 [.ref R, .int (nI (sK t ln sp 3 + nuD t ln (sK t ln sp 3) + (zN (decide (heC t ln (sK t ln sp 3 + nuD t ln (sK t ln sp 3)) = 42))))), .int it, .int (zB ab), .ref x]]) rfl ?_
      refine f_ups hF [3] ([oC r 8 [.ref R, .int (nI (sK t ln sp 3 + nuD t ln (sK t ln sp 3) + (zN (decide (heC t ln (sK t ln sp 3 + nuD t ln (sK t ln sp 3)) = 42))))), .int it, .int (zB ab), .ref x], oC R 3 [.ref rb, .ref r2, .ref r3, .ref r4, .ref r6], oC r6 13 [.int (m6 + 1), .int 1, .ref a9_, .ref a9_], oC a9_ 14 [.ref a8_, .null, .null]]) rfl ?_
      refine f_imsub hF [oC a8_ 11 [.int (nI kd), .int (nI (nuN t ln sp)), .int (nI (nuN t ln (sK t ln sp 1))), .int (nI (nuN t ln (sK t ln sp 2))), .int (nI (nuN t ln (sK t ln sp 3))), .int (zB (decide (heC t ln (sK t ln sp 3 + nuD t ln (sK t ln sp 3)) = 42)))]] (imk [0] rfl) ?_
      exact FR.v hR dX9_credit_59 (Nat.le_of_ble_eq_true rfl) (Nat.le_of_ble_eq_true rfl) ⟨_, _, rfl, rfl, rfl, hp2, hcx⟩
    refine r_if_eqZ (decide (heC t ln (sK t ln sp 3 + nuD t ln (sK t ln sp 3)) = 42)) 30 34 (hF.pu _ _ _ _) dX9_credit_27 (by decide) (fun c27 => ?_) rfl (fun c27 => ?_)
    · refine r_iconst 35 0 (hF.pu _ _ _ _) dX9_credit_34 (by decide) rfl ?_
      refine r_eqi (nI (zN (decide (heC t ln (sK t ln sp 3 + nuD t ln (sK t ln sp 3)) = 42)))) (by first | exact zN_1 c27 | exact zN_0 c27) ?_
      exact hj_27
    · refine r_iconst 31 1 (hF.pu _ _ _ _) dX9_credit_30 (by decide) rfl ?_
      refine r_goto 35 (hF.pu _ _ _ _) dX9_credit_31 (by decide) ?_
      refine r_eqi (nI (zN (decide (heC t ln (sK t ln sp 3 + nuD t ln (sK t ln sp 3)) = 42)))) (by first | exact zN_1 c27 | exact zN_0 c27) ?_
      exact hj_27
  refine r_icmp_ne 15 19 (hF.pu _ _ _ _) dX9_credit_12 (by decide) (fun c12 => ?_) rfl (fun c12 => ?_)
  · refine r_iconst 20 0 (hF.pu _ _ _ _) dX9_credit_19 (by decide) rfl ?_
    refine r_eqi (zB (decide (heC t ln (sK t ln sp 3 + nuD t ln (sK t ln sp 3)) = 42))) (by simp [*, zB]) ?_
    exact hj_12
  · refine r_iconst 16 1 (hF.pu _ _ _ _) dX9_credit_15 (by decide) rfl ?_
    refine r_goto 20 (hF.pu _ _ _ _) dX9_credit_16 (by decide) ?_
    refine r_eqi (zB (decide (heC t ln (sK t ln sp 3 + nuD t ln (sK t ln sp 3)) = 42))) (by simp [*, zB]) ?_
    exact hj_12
set_option maxHeartbeats 4000000 in
theorem fc_X9_credit_1 (D : DD) (l : Launch) (hl : l.stackTraces = false) {KS : Nat → Prop} {Hb : Heap} (r x R tx sp : Nat) (it : Int32) (ab : Bool) (x0 x1 x2 x3 x6 : Value) (t : Nat → Int32) (ln : Nat) (hln : ln ≤ 80) (hch : ∀ i, i < ln → inB (t i) 33 126 = true) (hsp : sp ≤ ln) (rb r2 r3 r4 r6 : Nat) (m6 : Int32) (kd : Nat) (b6 y6 : Nat) : Gc D l yX9_credit cX9_credit 4 none 7 16 77 155 KS Hb [.ref r, .int (nI kd)] ([oC r 8 [.ref R, .int (nI sp), .int it, .int (zB ab), .ref x], oC R 3 [.ref rb, .ref r2, .ref r3, .ref r4, .ref r6], oC r6 13 [.int m6, .int 1, .ref b6, .ref b6], oC b6 14 [.ref y6, .null, .null]]) ([oC x 1 [x0, x1, x2, x3, .ref tx, .int (nI ln), x6], aC D 2 tx (iA 80 t)]) (fun r_ w i => ∃ c b, r_ = none ∧ w = [oC r 8 [.ref R, .int (nI (sK t ln sp 3 + nuD t ln (sK t ln sp 3) + zN (decide (heC t ln (sK t ln sp 3 + nuD t ln (sK t ln sp 3)) = 42)))), .int it, .int (zB ab), .ref x], oC R 3 [.ref rb, .ref r2, .ref r3, .ref r4, .ref r6], oC r6 13 [.int (m6 + 1), .int 2, .ref b6, .ref b], oC b6 14 [.ref y6, .ref b, .null], oC b 14 [.ref c, .null, .ref b6]] ∧ i = [oC c 11 [.int (nI kd), .int (nI (nuN t ln sp)), .int (nI (nuN t ln (sK t ln sp 1))), .int (nI (nuN t ln (sK t ln sp 2))), .int (nI (nuN t ln (sK t ln sp 3))), .int (zB (decide (heC t ln (sK t ln sp 3 + nuD t ln (sK t ln sp 3)) = 42)))]] ∧ nbR t ln 4 sp = (true, sK t ln sp 3 + nuD t ln (sK t ln sp 3)) ∧ ¬ c = x) (pxF ((nbR t ln 4 sp).1 = false) (nbR t ln 4 sp).2) := by
  refine Gc.of hl (by decide) (Nat.le_of_ble_eq_true rfl) (fun s F X hG hR hO => ?_)
  have hF := hG.f
  show F 0 0 ([oC r 8 [.ref R, .int (nI sp), .int it, .int (zB ab), .ref x], oC R 3 [.ref rb, .ref r2, .ref r3, .ref r4, .ref r6], oC r6 13 [.int m6, .int 1, .ref b6, .ref b6], oC b6 14 [.ref y6, .null, .null]]) ([oC x 1 [x0, x1, x2, x3, .ref tx, .int (nI ln), x6], aC D 2 tx (iA 80 t)]) 0 [] [(0, .ref r), (1, .int (nI kd))]
  refine r_aload_n 1 0 (hF.pu _ _ _ _) dX9_credit_0 rfl rfl ?_
  refine r_iconst 2 4 (hF.pu _ _ _ _) dX9_credit_1 (by decide) rfl ?_
  refine g_callV 5 hG (fc_X9_numbers_4 (KS := KS) (Hb := Hb) D l hl r x R tx sp it ab x0 x1 x2 x3 x6 t ln hln hch (by omega)) (wr := ([oC R 3 [.ref rb, .ref r2, .ref r3, .ref r4, .ref r6], oC r6 13 [.int m6, .int 1, .ref b6, .ref b6], oC b6 14 [.ref y6, .null, .null]])) rfl (imk [0, 1] rfl) lk_X9_100 1 yk_X9_numbers rfl ⟨by decide, by decide⟩ (fun _ z => ((z.o 0 rfl).fld 0 rfl)) rfl rfl (Nat.le_of_ble_eq_true rfl) dX9_credit_2 ⟨Nat.le_of_ble_eq_true rfl, Nat.le_of_ble_eq_true rfl⟩ rfl (fun E a ws' im' hp hx => by obtain ⟨hb, rfl, rfl, rfl⟩ := hp; exact g_out hO 0 rfl (Nat.le_of_ble_eq_true rfl) (Nat.le_of_ble_eq_true rfl) (⟨hb, rfl⟩)) (fun r ws_ im' hp => ?_)
  obtain ⟨a1_, a2_, a3_, a4_, a5_, a6_, a7_, rfl, rfl, rfl, hp2⟩ := hp
  show F 14 68 ([oC r 8 [.ref R, .int (nI (sK t ln sp 3 + nuD t ln (sK t ln sp 3))), .int it, .int (zB ab), .ref x], oC R 3 [.ref rb, .ref r2, .ref r3, .ref r4, .ref r6], oC r6 13 [.int m6, .int 1, .ref b6, .ref b6], oC b6 14 [.ref y6, .null, .null]]) ([oC a1_ 21 [.ref a2_, .ref a2_], oC a2_ 12 [.int ((((0 + 1) + 1) + 1) + 1), .ref a3_, .int (nI 4)], aC D 3 a3_ (qA 10 (va_up (va_up (va_up (va_up (fun _ => none) 0 (some a4_)) 1 (some a5_)) 2 (some a6_)) 3 (some a7_))), oC a4_ 19 [.int (nI (nuN t ln sp))], oC a5_ 19 [.int (nI (nuN t ln (sK t ln sp 1)))], oC a6_ 19 [.int (nI (nuN t ln (sK t ln sp 2)))], oC a7_ 19 [.int (nI (nuN t ln (sK t ln sp 3)))], oC x 1 [x0, x1, x2, x3, .ref tx, .int (nI ln), x6], aC D 2 tx (iA 80 t)]) 5 [.ref a1_] [(0, .ref r), (1, .int (nI kd))]
  refine r_astore_n 6 [(2, .ref a1_), (0, .ref r), (1, .int (nI kd))] (hF.pu _ _ _ _) dX9_credit_5 rfl (by decide) rfl rfl ?_
  have hge := nbR_ge hsp hp2
  refine r_aload_n 7 1 (hF.pu _ _ _ _) dX9_credit_6 rfl rfl ?_
  refine f_callp 10 hF (fun _ z => cp_X9_here D l r x tx (sK t ln sp 3 + nuD t ln (sK t ln sp 3)) t ln hln hch (by omega) ((z.o 0 rfl).fld 1 rfl) ((z.o 0 rfl).fld 4 rfl) ((z.mo 7 rfl).fld 4 rfl) ((z.mo 7 rfl).fld 5 rfl) (z.ma 8 rfl)) lk_X9_52 0 yk_X9_here rfl ⟨by decide, by decide⟩ (fun _ z => ((z.o 0 rfl).fld 0 rfl)) rfl rfl (Nat.le_of_ble_eq_true rfl) dX9_credit_7 ⟨Nat.le_of_ble_eq_true rfl, Nat.le_of_ble_eq_true rfl⟩ rfl ?_
  refine r_bipush 12 42 (hF.pu _ _ _ _) dX9_credit_10 (by decide) rfl ?_
  have hj_12 : F 14 68 ([oC r 8 [.ref R, .int (nI (sK t ln sp 3 + nuD t ln (sK t ln sp 3))), .int it, .int (zB ab), .ref x], oC R 3 [.ref rb, .ref r2, .ref r3, .ref r4, .ref r6], oC r6 13 [.int m6, .int 1, .ref b6, .ref b6], oC b6 14 [.ref y6, .null, .null]]) ([oC a1_ 21 [.ref a2_, .ref a2_], oC a2_ 12 [.int ((((0 + 1) + 1) + 1) + 1), .ref a3_, .int (nI 4)], aC D 3 a3_ (qA 10 (va_up (va_up (va_up (va_up (fun _ => none) 0 (some a4_)) 1 (some a5_)) 2 (some a6_)) 3 (some a7_))), oC a4_ 19 [.int (nI (nuN t ln sp))], oC a5_ 19 [.int (nI (nuN t ln (sK t ln sp 1)))], oC a6_ 19 [.int (nI (nuN t ln (sK t ln sp 2)))], oC a7_ 19 [.int (nI (nuN t ln (sK t ln sp 3)))], oC x 1 [x0, x1, x2, x3, .ref tx, .int (nI ln), x6], aC D 2 tx (iA 80 t)]) 20 [.int (zB (decide (heC t ln (sK t ln sp 3 + nuD t ln (sK t ln sp 3)) = 42)))] [(2, .ref a1_), (0, .ref r), (1, .int (nI kd))] := by
    refine r_istore_n 21 [(3, .int (zB (decide (heC t ln (sK t ln sp 3 + nuD t ln (sK t ln sp 3)) = 42)))), (2, .ref a1_), (0, .ref r), (1, .int (nI kd))] (hF.pu _ _ _ _) dX9_credit_20 rfl (by decide) rfl rfl ?_
    refine r_aload_n 22 2 (hF.pu _ _ _ _) dX9_credit_21 rfl rfl ?_
    refine r_dup 23 (hF.pu _ _ _ _) dX9_credit_22 rfl rfl ?_
    refine f_getf 26 hF (T := TX9) (C := RX9) 1 (v := .int (nI (sK t ln sp 3 + nuD t ln (sK t ln sp 3)))) okX9 (fun _ z => ((z.o 0 rfl).fld 1 rfl)) rfl (by decide) (Or.inl q2051) (Or.inl rfl) dX9_credit_23 rfl ?_
    refine r_iload_n 27 0 (hF.pu _ _ _ _) dX9_credit_26 rfl rfl ?_
    have hj_27 : F 14 68 ([oC r 8 [.ref R, .int (nI (sK t ln sp 3 + nuD t ln (sK t ln sp 3))), .int it, .int (zB ab), .ref x], oC R 3 [.ref rb, .ref r2, .ref r3, .ref r4, .ref r6], oC r6 13 [.int m6, .int 1, .ref b6, .ref b6], oC b6 14 [.ref y6, .null, .null]]) ([oC a1_ 21 [.ref a2_, .ref a2_], oC a2_ 12 [.int ((((0 + 1) + 1) + 1) + 1), .ref a3_, .int (nI 4)], aC D 3 a3_ (qA 10 (va_up (va_up (va_up (va_up (fun _ => none) 0 (some a4_)) 1 (some a5_)) 2 (some a6_)) 3 (some a7_))), oC a4_ 19 [.int (nI (nuN t ln sp))], oC a5_ 19 [.int (nI (nuN t ln (sK t ln sp 1)))], oC a6_ 19 [.int (nI (nuN t ln (sK t ln sp 2)))], oC a7_ 19 [.int (nI (nuN t ln (sK t ln sp 3)))], oC x 1 [x0, x1, x2, x3, .ref tx, .int (nI ln), x6], aC D 2 tx (iA 80 t)]) 35 [.int (nI (zN (decide (heC t ln (sK t ln sp 3 + nuD t ln (sK t ln sp 3)) = 42)))), .int (nI (sK t ln sp 3 + nuD t ln (sK t ln sp 3))), .ref r] [(3, .int (zB (decide (heC t ln (sK t ln sp 3 + nuD t ln (sK t ln sp 3)) = 42)))), (2, .ref a1_), (0, .ref r), (1, .int (nI kd))] := by
      refine r_iaddN (sK t ln sp 3 + nuD t ln (sK t ln sp 3)) (zN (decide (heC t ln (sK t ln sp 3 + nuD t ln (sK t ln sp 3)) = 42))) (sK t ln sp 3 + nuD t ln (sK t ln sp 3) + (zN (decide (heC t ln (sK t ln sp 3 + nuD t ln (sK t ln sp 3)) = 42)))) 36 (hF.pu _ _ _ _) dX9_credit_35 rfl rfl ?_
      refine f_put 39 hF 0 (T := TX9) (C := RX9) ([oC r 8 [.ref R, .int (nI (sK t ln sp 3 + nuD t ln (sK t ln sp 3) + (zN (decide (heC t ln (sK t ln sp 3 + nuD t ln (sK t ln sp 3)) = 42))))), .int it, .int (zB ab), .ref x], oC R 3 [.ref rb, .ref r2, .ref r3, .ref r4, .ref r6], oC r6 13 [.int m6, .int 1, .ref b6, .ref b6], oC b6 14 [.ref y6, .null, .null]]) okX9 rfl rfl 1 (by decide) (Or.inl q2051) (Or.inl rfl) rfl rfl rfl (Nat.le_of_ble_eq_true rfl) rfl dX9_credit_36 rfl ?_
      refine r_aload_n 40 2 (hF.pu _ _ _ _) dX9_credit_39 rfl rfl ?_
      refine f_getf 43 hF (T := TX9) (C := RX9) 0 (v := .ref R) okX9 (fun _ z => ((z.o 0 rfl).fld 0 rfl)) rfl (by decide) (Or.inl q2049) (Or.inl rfl) dX9_credit_40 rfl ?_
      refine f_getf 46 hF (T := TX3) (C := RX3) 4 (v := .ref r6) okX3 (fun _ z => ((z.o 1 rfl).fld 4 rfl)) rfl (by decide) (Or.inr ⟨_, nw_q319⟩) (Or.inl rfl) dX9_credit_43 rfl ?_
      refine f_new 49 hF (ci := 11) [.int 0, .int 0, .int 0, .int 0, .int 0, .int 0] okX12 rfl q2284 q2285 q160 dvX12 ⟨Nat.le_of_ble_eq_true rfl, Nat.le_of_ble_eq_true rfl⟩ dX9_credit_46 rfl (fun a8_ => ?_)
      refine r_dup 50 (hF.pu _ _ _ _) dX9_credit_49 rfl rfl ?_
      refine r_iload_n 51 3 (hF.pu _ _ _ _) dX9_credit_50 rfl rfl ?_
      refine r_aload_n 52 1 (hF.pu _ _ _ _) dX9_credit_51 rfl rfl ?_
      refine r_iload_n 53 0 (hF.pu _ _ _ _) dX9_credit_52 rfl rfl ?_
      refine f_callI 56 hF (fc_X12_init (KS := KS) (Hb := Hb) D l a8_ a1_ a2_ a3_ a4_ a5_ a6_ a7_ kd (nuN t ln sp) (nuN t ln (sK t ln sp 1)) (nuN t ln (sK t ln sp 2)) (nuN t ln (sK t ln sp 3)) ((((0 + 1) + 1) + 1) + 1) (decide (heC t ln (sK t ln sp 3 + nuD t ln (sK t ln sp 3)) = 42))) (wr := ([oC r 8 [.ref R, .int (nI (sK t ln sp 3 + nuD t ln (sK t ln sp 3) + (zN (decide (heC t ln (sK t ln sp 3 + nuD t ln (sK t ln sp 3)) = 42))))), .int it, .int (zB ab), .ref x], oC R 3 [.ref rb, .ref r2, .ref r3, .ref r4, .ref r6], oC r6 13 [.int m6, .int 1, .ref b6, .ref b6], oC b6 14 [.ref y6, .null, .null]])) rfl (imk [0, 1, 2, 3, 4, 5, 6] rfl) q2288 q160 q2286 q2287 rfl 3 yk_X12_init rfl ⟨by decide, by decide⟩ rfl (Nat.le_of_ble_eq_true rfl) dX9_credit_53 ⟨Nat.le_of_ble_eq_true rfl, Nat.le_of_ble_eq_true rfl⟩ rfl (fun r ws_ im' hp => ?_)
      obtain ⟨rfl, rfl, rfl⟩ := hp
      show F 15 74 ([oC a8_ 11 [.int (nI kd), .int (nI (nuN t ln sp)), .int (nI (nuN t ln (sK t ln sp 1))), .int (nI (nuN t ln (sK t ln sp 2))), .int (nI (nuN t ln (sK t ln sp 3))), .int (zB (decide (heC t ln (sK t ln sp 3 + nuD t ln (sK t ln sp 3)) = 42)))], oC r 8 [.ref R, .int (nI (sK t ln sp 3 + nuD t ln (sK t ln sp 3) + (zN (decide (heC t ln (sK t ln sp 3 + nuD t ln (sK t ln sp 3)) = 42))))), .int it, .int (zB ab), .ref x], oC R 3 [.ref rb, .ref r2, .ref r3, .ref r4, .ref r6], oC r6 13 [.int m6, .int 1, .ref b6, .ref b6], oC b6 14 [.ref y6, .null, .null]]) ([oC a1_ 21 [.ref a2_, .ref a2_], oC a2_ 12 [.int ((((0 + 1) + 1) + 1) + 1), .ref a3_, .int (nI 4)], aC D 3 a3_ (qA 10 (va_up (va_up (va_up (va_up (fun _ => none) 0 (some a4_)) 1 (some a5_)) 2 (some a6_)) 3 (some a7_))), oC a4_ 19 [.int (nI (nuN t ln sp))], oC a5_ 19 [.int (nI (nuN t ln (sK t ln sp 1)))], oC a6_ 19 [.int (nI (nuN t ln (sK t ln sp 2)))], oC a7_ 19 [.int (nI (nuN t ln (sK t ln sp 3)))], oC x 1 [x0, x1, x2, x3, .ref tx, .int (nI ln), x6], aC D 2 tx (iA 80 t)]) 56 [.ref a8_, .ref r6] [(3, .int (zB (decide (heC t ln (sK t ln sp 3 + nuD t ln (sK t ln sp 3)) = 42)))), (2, .ref a1_), (0, .ref r), (1, .int (nI kd))]
      refine f_ups hF [4] ([oC b6 14 [.ref y6, .null, .null], oC a8_ 11 [.int (nI kd), .int (nI (nuN t ln sp)), .int (nI (nuN t ln (sK t ln sp 1))), .int (nI (nuN t ln (sK t ln sp 2))), .int (nI (nuN t ln (sK t ln sp 3))), .int (zB (decide (heC t ln (sK t ln sp 3 + nuD t ln (sK t ln sp 3)) = 42)))], oC r 8 [.ref R, .int (nI (sK t ln sp 3 + nuD t ln (sK t ln sp 3) + (zN (decide (heC t ln (sK t ln sp 3 + nuD t ln (sK t ln sp 3)) = 42))))), .int it, .int (zB ab), .ref x], oC R 3 [.ref rb, .ref r2, .ref r3, .ref r4, .ref r6], oC r6 13 [.int m6, .int 1, .ref b6, .ref b6]]) rfl ?_
      refine f_ups hF [4] ([oC r6 13 [.int m6, .int 1, .ref b6, .ref b6], oC b6 14 [.ref y6, .null, .null], oC a8_ 11 [.int (nI kd), .int (nI (nuN t ln sp)), .int (nI (nuN t ln (sK t ln sp 1))), .int (nI (nuN t ln (sK t ln sp 2))), .int (nI (nuN t ln (sK t ln sp 3))), .int (zB (decide (heC t ln (sK t ln sp 3 + nuD t ln (sK t ln sp 3)) = 42)))], oC r 8 [.ref R, .int (nI (sK t ln sp 3 + nuD t ln (sK t ln sp 3) + (zN (decide (heC t ln (sK t ln sp 3 + nuD t ln (sK t ln sp 3)) = 42))))), .int it, .int (zB ab), .ref x], oC R 3 [.ref rb, .ref r2, .ref r3, .ref r4, .ref r6]]) rfl ?_
      refine f_callV 59 hF (fc_J10_addLast_1 (KS := KS) (Hb := Hb) D l r6 a8_ m6 b6 y6) (wr := ([oC a8_ 11 [.int (nI kd), .int (nI (nuN t ln sp)), .int (nI (nuN t ln (sK t ln sp 1))), .int (nI (nuN t ln (sK t ln sp 2))), .int (nI (nuN t ln (sK t ln sp 3))), .int (zB (decide (heC t ln (sK t ln sp 3 + nuD t ln (sK t ln sp 3)) = 42)))], oC r 8 [.ref R, .int (nI (sK t ln sp 3 + nuD t ln (sK t ln sp 3) + (zN (decide (heC t ln (sK t ln sp 3 + nuD t ln (sK t ln sp 3)) = 42))))), .int it, .int (zB ab), .ref x], oC R 3 [.ref rb, .ref r2, .ref r3, .ref r4, .ref r6]])) rfl (imk [] rfl) lk_X9_113 1 yk_J10_addLast rfl ⟨by decide, by decide⟩ (fun _ z => ((z.o 0 rfl).fld 0 rfl)) rfl rfl (Nat.le_of_ble_eq_true rfl) dX9_credit_56 ⟨Nat.le_of_ble_eq_true rfl, Nat.le_of_ble_eq_true rfl⟩ rfl (fun r ws_ im' hp => ?_)
      obtain ⟨a9_, rfl, rfl, rfl⟩ := hp
      show F 16 77 ([oC r6 13 [.int (m6 + 1), .int 2, .ref b6, .ref a9_], oC b6 14 [.ref y6, .ref a9_, .null], oC a9_ 14 [.ref a8_, .null, .ref b6], oC a8_ 11 [.int (nI kd), .int (nI (nuN t ln sp)), .int (nI (nuN t ln (sK t ln sp 1))), .int (nI (nuN t ln (sK t ln sp 2))), .int (nI (nuN t ln (sK t ln sp 3))), .int (zB (decide (heC t ln (sK t ln sp 3 + nuD t ln (sK t ln sp 3)) = 42)))], oC r 8 [.ref R, .int (nI (sK t ln sp 3 + nuD t ln (sK t ln sp 3) + (zN (decide (heC t ln (sK t ln sp 3 + nuD t ln (sK t ln sp 3)) = 42))))), .int it, .int (zB ab), .ref x], oC R 3 [.ref rb, .ref r2, .ref r3, .ref r4, .ref r6]]) ([oC a1_ 21 [.ref a2_, .ref a2_], oC a2_ 12 [.int ((((0 + 1) + 1) + 1) + 1), .ref a3_, .int (nI 4)], aC D 3 a3_ (qA 10 (va_up (va_up (va_up (va_up (fun _ => none) 0 (some a4_)) 1 (some a5_)) 2 (some a6_)) 3 (some a7_))), oC a4_ 19 [.int (nI (nuN t ln sp))], oC a5_ 19 [.int (nI (nuN t ln (sK t ln sp 1)))], oC a6_ 19 [.int (nI (nuN t ln (sK t ln sp 2)))], oC a7_ 19 [.int (nI (nuN t ln (sK t ln sp 3)))], oC x 1 [x0, x1, x2, x3, .ref tx, .int (nI ln), x6], aC D 2 tx (iA 80 t)]) 59 [] [(3, .int (zB (decide (heC t ln (sK t ln sp 3 + nuD t ln (sK t ln sp 3)) = 42)))), (2, .ref a1_), (0, .ref r), (1, .int (nI kd))]
      refine f_ups hF [3] ([oC a8_ 11 [.int (nI kd), .int (nI (nuN t ln sp)), .int (nI (nuN t ln (sK t ln sp 1))), .int (nI (nuN t ln (sK t ln sp 2))), .int (nI (nuN t ln (sK t ln sp 3))), .int (zB (decide (heC t ln (sK t ln sp 3 + nuD t ln (sK t ln sp 3)) = 42)))], oC r6 13 [.int (m6 + 1), .int 2, .ref b6, .ref a9_], oC b6 14 [.ref y6, .ref a9_, .null], oC a9_ 14 [.ref a8_, .null, .ref b6], oC r 8 [.ref R, .int (nI (sK t ln sp 3 + nuD t ln (sK t ln sp 3) + (zN (decide (heC t ln (sK t ln sp 3 + nuD t ln (sK t ln sp 3)) = 42))))), .int it, .int (zB ab), .ref x], oC R 3 [.ref rb, .ref r2, .ref r3, .ref r4, .ref r6]]) rfl ?_
      refine f_frzx hF (fun hzx_ => ?_)
      have hcx : ¬ a8_ = x := fun z => hzx_ _ (List.mem_of_getElem? (i := 7) rfl) z.symm
      refine f_ups hF [2] ([oC a9_ 14 [.ref a8_, .null, .ref b6], oC r6 13 [.int (m6 + 1), .int 2, .ref b6, .ref a9_], oC b6 14 [.ref y6, .ref a9_, .null], oC r 8 [.ref R, .int (nI (sK t ln sp 3 + nuD t ln (sK t ln sp 3) + (zN (decide (heC t ln (sK t ln sp 3 + nuD t ln (sK t ln sp 3)) = 42))))), .int it, .int (zB ab), .ref x], oC R 3 [.ref rb, .ref r2, .ref r3, .ref r4, .ref r6]]) rfl ?_
      refine f_ups hF [2] ([oC b6 14 [.ref y6, .ref a9_, .null], oC a9_ 14 [.ref a8_, .null, .ref b6], oC r6 13 [.int (m6 + 1), .int 2, .ref b6, .ref a9_], oC r 8 [.ref R, .int (nI (sK t ln sp 3 + nuD t ln (sK t ln sp 3) + (zN (decide (heC t ln (sK t ln sp 3 + nuD t ln (sK t ln sp 3)) = 42))))), .int it, .int (zB ab), .ref x], oC R 3 [.ref rb, .ref r2, .ref r3, .ref r4, .ref r6]]) rfl ?_
      refine f_ups hF [2] ([oC r6 13 [.int (m6 + 1), .int 2, .ref b6, .ref a9_], oC b6 14 [.ref y6, .ref a9_, .null], oC a9_ 14 [.ref a8_, .null, .ref b6], oC r 8 [.ref R, .int (nI (sK t ln sp 3 + nuD t ln (sK t ln sp 3) + (zN (decide (heC t ln (sK t ln sp 3 + nuD t ln (sK t ln sp 3)) = 42))))), .int it, .int (zB ab), .ref x], oC R 3 [.ref rb, .ref r2, .ref r3, .ref r4, .ref r6]]) rfl ?_
      refine f_ups hF [4] ([oC R 3 [.ref rb, .ref r2, .ref r3, .ref r4, .ref r6], oC r6 13 [.int (m6 + 1), .int 2, .ref b6, .ref a9_], oC b6 14 [.ref y6, .ref a9_, .null], oC a9_ 14 [.ref a8_, .null, .ref b6], oC r 8 [.ref R, .int (nI (sK t ln sp 3 + nuD t ln (sK t ln sp 3) + (zN (decide (heC t ln (sK t ln sp 3 + nuD t ln (sK t ln sp 3)) = 42))))), .int it, .int (zB ab), .ref x]]) rfl ?_
      refine f_ups hF [4] ([oC r 8 [.ref R, .int (nI (sK t ln sp 3 + nuD t ln (sK t ln sp 3) + (zN (decide (heC t ln (sK t ln sp 3 + nuD t ln (sK t ln sp 3)) = 42))))), .int it, .int (zB ab), .ref x], oC R 3 [.ref rb, .ref r2, .ref r3, .ref r4, .ref r6], oC r6 13 [.int (m6 + 1), .int 2, .ref b6, .ref a9_], oC b6 14 [.ref y6, .ref a9_, .null], oC a9_ 14 [.ref a8_, .null, .ref b6]]) rfl ?_
      refine f_imsub hF [oC a8_ 11 [.int (nI kd), .int (nI (nuN t ln sp)), .int (nI (nuN t ln (sK t ln sp 1))), .int (nI (nuN t ln (sK t ln sp 2))), .int (nI (nuN t ln (sK t ln sp 3))), .int (zB (decide (heC t ln (sK t ln sp 3 + nuD t ln (sK t ln sp 3)) = 42)))]] (imk [0] rfl) ?_
      exact FR.v hR dX9_credit_59 (Nat.le_of_ble_eq_true rfl) (Nat.le_of_ble_eq_true rfl) ⟨_, _, rfl, rfl, rfl, hp2, hcx⟩
    refine r_if_eqZ (decide (heC t ln (sK t ln sp 3 + nuD t ln (sK t ln sp 3)) = 42)) 30 34 (hF.pu _ _ _ _) dX9_credit_27 (by decide) (fun c27 => ?_) rfl (fun c27 => ?_)
    · refine r_iconst 35 0 (hF.pu _ _ _ _) dX9_credit_34 (by decide) rfl ?_
      refine r_eqi (nI (zN (decide (heC t ln (sK t ln sp 3 + nuD t ln (sK t ln sp 3)) = 42)))) (by first | exact zN_1 c27 | exact zN_0 c27) ?_
      exact hj_27
    · refine r_iconst 31 1 (hF.pu _ _ _ _) dX9_credit_30 (by decide) rfl ?_
      refine r_goto 35 (hF.pu _ _ _ _) dX9_credit_31 (by decide) ?_
      refine r_eqi (nI (zN (decide (heC t ln (sK t ln sp 3 + nuD t ln (sK t ln sp 3)) = 42)))) (by first | exact zN_1 c27 | exact zN_0 c27) ?_
      exact hj_27
  refine r_icmp_ne 15 19 (hF.pu _ _ _ _) dX9_credit_12 (by decide) (fun c12 => ?_) rfl (fun c12 => ?_)
  · refine r_iconst 20 0 (hF.pu _ _ _ _) dX9_credit_19 (by decide) rfl ?_
    refine r_eqi (zB (decide (heC t ln (sK t ln sp 3 + nuD t ln (sK t ln sp 3)) = 42))) (by simp [*, zB]) ?_
    exact hj_12
  · refine r_iconst 16 1 (hF.pu _ _ _ _) dX9_credit_15 (by decide) rfl ?_
    refine r_goto 20 (hF.pu _ _ _ _) dX9_credit_16 (by decide) ?_
    refine r_eqi (zB (decide (heC t ln (sK t ln sp 3 + nuD t ln (sK t ln sp 3)) = 42))) (by simp [*, zB]) ?_
    exact hj_12
set_option maxHeartbeats 4000000 in
theorem fc_X9_credit_2 (D : DD) (l : Launch) (hl : l.stackTraces = false) {KS : Nat → Prop} {Hb : Heap} (r x R tx sp : Nat) (it : Int32) (ab : Bool) (x0 x1 x2 x3 x6 : Value) (t : Nat → Int32) (ln : Nat) (hln : ln ≤ 80) (hch : ∀ i, i < ln → inB (t i) 33 126 = true) (hsp : sp ≤ ln) (rb r2 r3 r4 r6 : Nat) (m6 : Int32) (kd : Nat) (b6 y6 c6 w6 : Nat) (hbud : sp + 7 ≤ ln → False) : Gc D l yX9_credit cX9_credit 4 none 7 14 68 155 KS Hb [.ref r, .int (nI kd)] ([oC r 8 [.ref R, .int (nI sp), .int it, .int (zB ab), .ref x], oC R 3 [.ref rb, .ref r2, .ref r3, .ref r4, .ref r6], oC r6 13 [.int m6, .int 2, .ref b6, .ref c6], oC b6 14 [.ref y6, .ref c6, .null], oC c6 14 [.ref w6, .null, .ref b6]]) ([oC x 1 [x0, x1, x2, x3, .ref tx, .int (nI ln), x6], aC D 2 tx (iA 80 t)]) (fun r_ w i => False) (pxF ((nbR t ln 4 sp).1 = false) (nbR t ln 4 sp).2) := by
  refine Gc.of hl (by decide) (Nat.le_of_ble_eq_true rfl) (fun s F X hG hR hO => ?_)
  have hF := hG.f
  show F 0 0 ([oC r 8 [.ref R, .int (nI sp), .int it, .int (zB ab), .ref x], oC R 3 [.ref rb, .ref r2, .ref r3, .ref r4, .ref r6], oC r6 13 [.int m6, .int 2, .ref b6, .ref c6], oC b6 14 [.ref y6, .ref c6, .null], oC c6 14 [.ref w6, .null, .ref b6]]) ([oC x 1 [x0, x1, x2, x3, .ref tx, .int (nI ln), x6], aC D 2 tx (iA 80 t)]) 0 [] [(0, .ref r), (1, .int (nI kd))]
  refine r_aload_n 1 0 (hF.pu _ _ _ _) dX9_credit_0 rfl rfl ?_
  refine r_iconst 2 4 (hF.pu _ _ _ _) dX9_credit_1 (by decide) rfl ?_
  refine g_callV 5 hG (fc_X9_numbers_4 (KS := KS) (Hb := Hb) D l hl r x R tx sp it ab x0 x1 x2 x3 x6 t ln hln hch (by omega)) (wr := ([oC R 3 [.ref rb, .ref r2, .ref r3, .ref r4, .ref r6], oC r6 13 [.int m6, .int 2, .ref b6, .ref c6], oC b6 14 [.ref y6, .ref c6, .null], oC c6 14 [.ref w6, .null, .ref b6]])) rfl (imk [0, 1] rfl) lk_X9_100 1 yk_X9_numbers rfl ⟨by decide, by decide⟩ (fun _ z => ((z.o 0 rfl).fld 0 rfl)) rfl rfl (Nat.le_of_ble_eq_true rfl) dX9_credit_2 ⟨Nat.le_of_ble_eq_true rfl, Nat.le_of_ble_eq_true rfl⟩ rfl (fun E a ws' im' hp hx => by obtain ⟨hb, rfl, rfl, rfl⟩ := hp; exact g_out hO 0 rfl (Nat.le_of_ble_eq_true rfl) (Nat.le_of_ble_eq_true rfl) (⟨hb, rfl⟩)) (fun r ws_ im' hp => ?_)
  obtain ⟨a1_, a2_, a3_, a4_, a5_, a6_, a7_, rfl, rfl, rfl, hp2⟩ := hp
  show F 14 68 ([oC r 8 [.ref R, .int (nI (sK t ln sp 3 + nuD t ln (sK t ln sp 3))), .int it, .int (zB ab), .ref x], oC R 3 [.ref rb, .ref r2, .ref r3, .ref r4, .ref r6], oC r6 13 [.int m6, .int 2, .ref b6, .ref c6], oC b6 14 [.ref y6, .ref c6, .null], oC c6 14 [.ref w6, .null, .ref b6]]) ([oC a1_ 21 [.ref a2_, .ref a2_], oC a2_ 12 [.int ((((0 + 1) + 1) + 1) + 1), .ref a3_, .int (nI 4)], aC D 3 a3_ (qA 10 (va_up (va_up (va_up (va_up (fun _ => none) 0 (some a4_)) 1 (some a5_)) 2 (some a6_)) 3 (some a7_))), oC a4_ 19 [.int (nI (nuN t ln sp))], oC a5_ 19 [.int (nI (nuN t ln (sK t ln sp 1)))], oC a6_ 19 [.int (nI (nuN t ln (sK t ln sp 2)))], oC a7_ 19 [.int (nI (nuN t ln (sK t ln sp 3)))], oC x 1 [x0, x1, x2, x3, .ref tx, .int (nI ln), x6], aC D 2 tx (iA 80 t)]) 5 [.ref a1_] [(0, .ref r), (1, .int (nI kd))]
  refine r_astore_n 6 [(2, .ref a1_), (0, .ref r), (1, .int (nI kd))] (hF.pu _ _ _ _) dX9_credit_5 rfl (by decide) rfl rfl ?_
  exact absurd (hbud (by have := (nbR_ge hsp hp2); omega)) id
