set_option maxHeartbeats 2000000 in
theorem cp_J28_intValue (D : DD) (l : Launch) {H0 : Heap} (a : Nat) (v : Int32) (h : fld D 19 a 0 (.int v) H0) : Cp D l yJ28_intValue cJ28_intValue 1 (some .int) 0 0 [.ref a] H0 (some (.int v)) := by
  refine Cp.of (by decide) (Nat.le_of_ble_eq_true rfl) (fun s A J hJ hR => ?_)
  show J H0 0 0 0 [] [(0, .ref a)]
  refine r_aload_n 1 0 (hJ.pu _ _ _) dJ28_intValue_0 rfl rfl ?_
  refine j_getf 4 hJ (T := TJ28) (C := RJ28) 0 (v := .int v) okJ28 h rfl (by decide) (Or.inl q2200) (Or.inl rfl) dJ28_intValue_1 rfl ?_
  exact Rt.i hR rfl dJ28_intValue_4 (Nat.zero_le _) (Nat.zero_le _) ⟨rfl, rfl⟩
theorem lf_J43_23_J8_get : GoodIn lw_all (va_wsF RJ43 23 "java/util/ArrayList" ⟨"java/util/List", "get", "(I)Ljava/lang/Object;"⟩ yJ8_get (ws_ yJ8_get cJ8_get 2 (Option.some (ClassFile.FieldType.object "java/lang/Object")))) := lw_F q1568 q1554 q1391 q114 q1392
theorem fo_J8_get_List_get : fwOk ("java/util/ArrayList", ⟨"java/util/List", "get", "(I)Ljava/lang/Object;"⟩, yJ8_get) = true := by decide +kernel
set_option maxHeartbeats 2000000 in
theorem cp_J43_get (D : DD) (l : Launch) {H0 : Heap} (u l_ e_ cap n i x : Nat) (h0 : fld D 21 u 1 (.ref l_) H0) (h1 : fld D 12 l_ 2 (.int (nI n)) H0) (h2 : fld D 12 l_ 1 (.ref e_) H0) (h3 : elr D 3 cap e_ i (some x) H0) (hi : i < n) (hn : n < 2 ^ 31) (hic : i < cap) (hc : cap < 2 ^ 31) : Cp D l yJ43_get cJ43_get 2 (Option.some (ClassFile.FieldType.object "java/lang/Object")) 3 64 [.ref u, .int (nI i)] H0 (some (.ref x)) := by
  refine Cp.of (by decide) (Nat.le_of_ble_eq_true rfl) (fun s A J hJ hR => ?_)
  show J H0 0 0 0 [] [(0, .ref u), (1, .int (nI i))]
  refine r_aload_n 1 0 (hJ.pu _ _ _) dJ43_get_0 rfl rfl ?_
  refine j_getf 4 hJ (T := TJ44) (C := RJ44) 1 (v := .ref l_) okJ44 h0 rfl (by decide) (Or.inl q2237) (Or.inl rfl) dJ43_get_1 rfl ?_
  refine r_iload_n 5 1 (hJ.pu _ _ _) dJ43_get_4 rfl rfl ?_
  refine j_callFp 10 hJ (cp_J8_get2 D l l_ e_ cap n i x h1 h2 h3 hi hn hic hc) lf_J43_23_J8_get fw_2 fo_J8_get_List_get 1 yf_List_get_1 rfl ⟨by decide, by decide⟩ h1 rfl rfl (Nat.le_of_ble_eq_true rfl) dJ43_get_5 ⟨Nat.zero_le _, Nat.zero_le _⟩ rfl ?_
  exact Rt.a hR (Or.inl ⟨_, rfl⟩) dJ43_get_10 (Nat.zero_le _) (Nat.zero_le _) ⟨rfl, rfl⟩
theorem lk_X9_100 : GoodIn lw_all (wsV RX9 100 yX9_numbers.cls yX9_numbers (ws_ yX9_numbers cX9_numbers 4 (Option.some (ClassFile.FieldType.object "java/util/List")))) := lw_V q2180 q2182 qs41 q131 q2183
theorem yk_X9_numbers : yOk yX9_numbers 1 := by decide +kernel
theorem lf_X9_119_J43_get : GoodIn lw_all (va_wsF RX9 119 "java/util/Collections$UnmodifiableRandomAccessList" ⟨"java/util/List", "get", "(I)Ljava/lang/Object;"⟩ yJ43_get (ws_ yJ43_get cJ43_get 2 (Option.some (ClassFile.FieldType.object "java/lang/Object")))) := lw_F q2253 q1570 q1564 q157 q1566
theorem fo_J43_get_List_get : fwOk ("java/util/Collections$UnmodifiableRandomAccessList", ⟨"java/util/List", "get", "(I)Ljava/lang/Object;"⟩, yJ43_get) = true := by decide +kernel
theorem lk_X9_125 : GoodIn lw_all (wsV RX9 125 yJ28_intValue.cls yJ28_intValue (ws_ yJ28_intValue cJ28_intValue 1 (some .int))) := lw_V q2255 q2256 q2257 q140 q2258
theorem yk_J28_intValue : yOk yJ28_intValue 0 := by decide +kernel
set_option maxHeartbeats 4000000 in
theorem fc_X9_fill_2 (D : DD) (l : Launch) (hl : l.stackTraces = false) {KS : Nat → Prop} {Hb : Heap} (r x R tx sp : Nat) (it : Int32) (ab : Bool) (x0 x1 x2 x3 x6 : Value) (t : Nat → Int32) (ln : Nat) (hln : ln ≤ 80) (hch : ∀ i, i < ln → inB (t i) 33 126 = true) (hsp : sp ≤ ln) (ar : Nat) (al : Nat → Int32) : Gc D l yX9_fill cX9_fill 4 none 7 8 38 155 KS Hb [.ref r, .ref ar] ([oC r 8 [.ref R, .int (nI sp), .int it, .int (zB ab), .ref x], aC D 0 ar (iA 2 al)]) ([oC x 1 [x0, x1, x2, x3, .ref tx, .int (nI ln), x6], aC D 2 tx (iA 80 t)]) (fun r_ w i => r_ = none ∧ w = [oC r 8 [.ref R, .int (nI (sK t ln sp 1 + nuD t ln (sK t ln sp 1))), .int it, .int (zB ab), .ref x], aC D 0 ar (iA 2 (upd (upd al 0 (nI (nuN t ln sp))) 1 (nI (nuN t ln (sK t ln sp 1)))))] ∧ i = [] ∧ nbR t ln 2 sp = (true, sK t ln sp 1 + nuD t ln (sK t ln sp 1))) (pxF ((nbR t ln 2 sp).1 = false) (nbR t ln 2 sp).2) := by
  refine Gc.of hl (by decide) (Nat.le_of_ble_eq_true rfl) (fun s F X hG hR hO => ?_)
  have hF := hG.f
  show F 0 0 ([oC r 8 [.ref R, .int (nI sp), .int it, .int (zB ab), .ref x], aC D 0 ar (iA 2 al)]) ([oC x 1 [x0, x1, x2, x3, .ref tx, .int (nI ln), x6], aC D 2 tx (iA 80 t)]) 0 [] [(0, .ref r), (1, .ref ar)]
  refine r_aload_n 1 0 (hF.pu _ _ _ _) dX9_fill_0 rfl rfl ?_
  refine r_aload_n 2 1 (hF.pu _ _ _ _) dX9_fill_1 rfl rfl ?_
  refine f_alen 3 hF (fun _ z => (z.a 1 rfl)) rfl dX9_fill_2 rfl ?_
  refine g_callV 6 hG (fc_X9_numbers_2 (KS := KS) (Hb := Hb) D l hl r x R tx sp it ab x0 x1 x2 x3 x6 t ln hln hch (by omega)) (wr := ([aC D 0 ar (iA 2 al)])) rfl (imk [0, 1] rfl) lk_X9_100 1 yk_X9_numbers rfl ⟨by decide, by decide⟩ (fun _ z => ((z.o 0 rfl).fld 0 rfl)) rfl rfl (Nat.le_of_ble_eq_true rfl) dX9_fill_3 ⟨Nat.le_of_ble_eq_true rfl, Nat.le_of_ble_eq_true rfl⟩ rfl (fun E a ws' im' hp hx => by obtain ⟨hb, rfl, rfl, rfl⟩ := hp; exact g_out hO 0 rfl (Nat.le_of_ble_eq_true rfl) (Nat.le_of_ble_eq_true rfl) (⟨hb, rfl⟩)) (fun r ws_ im' hp => ?_)
  obtain ⟨a1_, a2_, a3_, a4_, a5_, rfl, rfl, rfl, hp3⟩ := hp
  show F 8 38 ([oC r 8 [.ref R, .int (nI (sK t ln sp 1 + nuD t ln (sK t ln sp 1))), .int it, .int (zB ab), .ref x], aC D 0 ar (iA 2 al)]) ([oC a1_ 21 [.ref a2_, .ref a2_], oC a2_ 12 [.int ((0 + 1) + 1), .ref a3_, .int (nI 2)], aC D 3 a3_ (qA 10 (va_up (va_up (fun _ => none) 0 (some a4_)) 1 (some a5_))), oC a4_ 19 [.int (nI (nuN t ln sp))], oC a5_ 19 [.int (nI (nuN t ln (sK t ln sp 1)))], oC x 1 [x0, x1, x2, x3, .ref tx, .int (nI ln), x6], aC D 2 tx (iA 80 t)]) 6 [.ref a1_] [(0, .ref r), (1, .ref ar)]
  refine r_astore_n 7 [(2, .ref a1_), (0, .ref r), (1, .ref ar)] (hF.pu _ _ _ _) dX9_fill_6 rfl (by decide) rfl rfl ?_
  refine r_iconst 8 0 (hF.pu _ _ _ _) dX9_fill_7 (by decide) rfl ?_
  refine r_istore_n 9 [(3, .int 0), (2, .ref a1_), (0, .ref r), (1, .ref ar)] (hF.pu _ _ _ _) dX9_fill_8 rfl (by decide) rfl rfl ?_
  refine r_iload_n 10 0 (hF.pu _ _ _ _) dX9_fill_9 rfl rfl ?_
  refine r_aload_n 11 3 (hF.pu _ _ _ _) dX9_fill_10 rfl rfl ?_
  refine f_alen 12 hF (fun _ z => (z.a 1 rfl)) rfl dX9_fill_11 rfl ?_
  refine r_icmp_geN 0 2 15 37 (hF.pu _ _ _ _) dX9_fill_12 (by omega) (by omega) (by decide) (fun c12 => absurd c12 (by decide)) rfl (fun c12 => ?_)
  refine r_aload_n 16 3 (hF.pu _ _ _ _) dX9_fill_15 rfl rfl ?_
  refine r_iload_n 17 0 (hF.pu _ _ _ _) dX9_fill_16 rfl rfl ?_
  refine r_aload_n 18 1 (hF.pu _ _ _ _) dX9_fill_17 rfl rfl ?_
  refine r_iload_n 19 0 (hF.pu _ _ _ _) dX9_fill_18 rfl rfl ?_
  refine f_callFp 24 hF (fun _ z => cp_J43_get D l a1_ a2_ a3_ 10 2 0 a4_ ((z.mo 0 rfl).fld 1 rfl) ((z.mo 1 rfl).fld 2 rfl) ((z.mo 1 rfl).fld 1 rfl) ⟨_, (z.ma 2 rfl), rfl⟩ (by decide) (by decide) (by decide) (by decide)) lf_X9_119_J43_get fw_18 fo_J43_get_List_get 1 yf_List_get_1 rfl ⟨by decide, by decide⟩ (fun _ z => ((z.mo 0 rfl).fld 0 rfl)) rfl rfl (Nat.le_of_ble_eq_true rfl) dX9_fill_19 ⟨Nat.le_of_ble_eq_true rfl, Nat.le_of_ble_eq_true rfl⟩ rfl ?_
  refine f_castf 27 hF (fun _ z => ((z.mo 3 rfl).fld 0 rfl)) rfl q2254 dX9_fill_24 rfl ?_
  refine f_callp 30 hF (fun _ z => cp_J28_intValue D l a4_ (nI (nuN t ln sp)) ((z.mo 3 rfl).fld 0 rfl)) lk_X9_125 0 yk_J28_intValue rfl ⟨by decide, by decide⟩ (fun _ z => ((z.mo 3 rfl).fld 0 rfl)) rfl rfl (Nat.le_of_ble_eq_true rfl) dX9_fill_27 ⟨Nat.le_of_ble_eq_true rfl, Nat.le_of_ble_eq_true rfl⟩ rfl ?_
  refine f_iast 31 hF 1 ([oC r 8 [.ref R, .int (nI (sK t ln sp 1 + nuD t ln (sK t ln sp 1))), .int it, .int (zB ab), .ref x], aC D 0 ar (iA 2 (upd al 0 (nI (nuN t ln sp))))]) rfl 0 rfl (by decide) (by decide) rfl dX9_fill_30 rfl ?_
  refine r_iinc 34 (nI (0 + 1)) 0 [(3, .int (nI (0 + 1))), (2, .ref a1_), (0, .ref r), (1, .ref ar)] (hF.pu _ _ _ _) dX9_fill_31 rfl (nI_1 0) (by decide) rfl rfl ?_
  refine r_goto 9 (hF.pu _ _ _ _) dX9_fill_34 (by decide) ?_
  refine r_iload_n 10 0 (hF.pu _ _ _ _) dX9_fill_9 rfl rfl ?_
  refine r_aload_n 11 3 (hF.pu _ _ _ _) dX9_fill_10 rfl rfl ?_
  refine f_alen 12 hF (fun _ z => (z.a 1 rfl)) rfl dX9_fill_11 rfl ?_
  refine r_icmp_geN 1 2 15 37 (hF.pu _ _ _ _) dX9_fill_12 (by omega) (by omega) (by decide) (fun c12 => absurd c12 (by decide)) rfl (fun c12 => ?_)
  refine r_aload_n 16 3 (hF.pu _ _ _ _) dX9_fill_15 rfl rfl ?_
  refine r_iload_n 17 0 (hF.pu _ _ _ _) dX9_fill_16 rfl rfl ?_
  refine r_aload_n 18 1 (hF.pu _ _ _ _) dX9_fill_17 rfl rfl ?_
  refine r_iload_n 19 0 (hF.pu _ _ _ _) dX9_fill_18 rfl rfl ?_
  refine f_callFp 24 hF (fun _ z => cp_J43_get D l a1_ a2_ a3_ 10 2 1 a5_ ((z.mo 0 rfl).fld 1 rfl) ((z.mo 1 rfl).fld 2 rfl) ((z.mo 1 rfl).fld 1 rfl) ⟨_, (z.ma 2 rfl), rfl⟩ (by decide) (by decide) (by decide) (by decide)) lf_X9_119_J43_get fw_18 fo_J43_get_List_get 1 yf_List_get_1 rfl ⟨by decide, by decide⟩ (fun _ z => ((z.mo 0 rfl).fld 0 rfl)) rfl rfl (Nat.le_of_ble_eq_true rfl) dX9_fill_19 ⟨Nat.le_of_ble_eq_true rfl, Nat.le_of_ble_eq_true rfl⟩ rfl ?_
  refine f_castf 27 hF (fun _ z => ((z.mo 4 rfl).fld 0 rfl)) rfl q2254 dX9_fill_24 rfl ?_
  refine f_callp 30 hF (fun _ z => cp_J28_intValue D l a5_ (nI (nuN t ln (sK t ln sp 1))) ((z.mo 4 rfl).fld 0 rfl)) lk_X9_125 0 yk_J28_intValue rfl ⟨by decide, by decide⟩ (fun _ z => ((z.mo 4 rfl).fld 0 rfl)) rfl rfl (Nat.le_of_ble_eq_true rfl) dX9_fill_27 ⟨Nat.le_of_ble_eq_true rfl, Nat.le_of_ble_eq_true rfl⟩ rfl ?_
  refine f_iast 31 hF 1 ([oC r 8 [.ref R, .int (nI (sK t ln sp 1 + nuD t ln (sK t ln sp 1))), .int it, .int (zB ab), .ref x], aC D 0 ar (iA 2 (upd (upd al 0 (nI (nuN t ln sp))) 1 (nI (nuN t ln (sK t ln sp 1)))))]) rfl 1 rfl (by decide) (by decide) rfl dX9_fill_30 rfl ?_
  refine r_iinc 34 (nI (1 + 1)) 0 [(3, .int (nI (1 + 1))), (2, .ref a1_), (0, .ref r), (1, .ref ar)] (hF.pu _ _ _ _) dX9_fill_31 rfl (nI_1 1) (by decide) rfl rfl ?_
  refine r_goto 9 (hF.pu _ _ _ _) dX9_fill_34 (by decide) ?_
  refine r_iload_n 10 0 (hF.pu _ _ _ _) dX9_fill_9 rfl rfl ?_
  refine r_aload_n 11 3 (hF.pu _ _ _ _) dX9_fill_10 rfl rfl ?_
  refine f_alen 12 hF (fun _ z => (z.a 1 rfl)) rfl dX9_fill_11 rfl ?_
  refine r_icmp_geN 2 2 15 37 (hF.pu _ _ _ _) dX9_fill_12 (by omega) (by omega) (by decide) (fun c12 => ?_) rfl (fun c12 => absurd c12 (by decide))
  refine f_imsub hF [] (imk [] rfl) ?_
  exact FR.v hR dX9_fill_37 (Nat.le_of_ble_eq_true rfl) (Nat.le_of_ble_eq_true rfl) ⟨rfl, rfl, rfl, hp3⟩
set_option maxHeartbeats 4000000 in
theorem fc_X9_fill_3 (D : DD) (l : Launch) (hl : l.stackTraces = false) {KS : Nat → Prop} {Hb : Heap} (r x R tx sp : Nat) (it : Int32) (ab : Bool) (x0 x1 x2 x3 x6 : Value) (t : Nat → Int32) (ln : Nat) (hln : ln ≤ 80) (hch : ∀ i, i < ln → inB (t i) 33 126 = true) (hsp : sp ≤ ln) (ar : Nat) (al : Nat → Int32) : Gc D l yX9_fill cX9_fill 4 none 7 11 53 155 KS Hb [.ref r, .ref ar] ([oC r 8 [.ref R, .int (nI sp), .int it, .int (zB ab), .ref x], aC D 0 ar (iA 3 al)]) ([oC x 1 [x0, x1, x2, x3, .ref tx, .int (nI ln), x6], aC D 2 tx (iA 80 t)]) (fun r_ w i => r_ = none ∧ w = [oC r 8 [.ref R, .int (nI (sK t ln sp 2 + nuD t ln (sK t ln sp 2))), .int it, .int (zB ab), .ref x], aC D 0 ar (iA 3 (upd (upd (upd al 0 (nI (nuN t ln sp))) 1 (nI (nuN t ln (sK t ln sp 1)))) 2 (nI (nuN t ln (sK t ln sp 2)))))] ∧ i = [] ∧ nbR t ln 3 sp = (true, sK t ln sp 2 + nuD t ln (sK t ln sp 2))) (pxF ((nbR t ln 3 sp).1 = false) (nbR t ln 3 sp).2) := by
  refine Gc.of hl (by decide) (Nat.le_of_ble_eq_true rfl) (fun s F X hG hR hO => ?_)
  have hF := hG.f
  show F 0 0 ([oC r 8 [.ref R, .int (nI sp), .int it, .int (zB ab), .ref x], aC D 0 ar (iA 3 al)]) ([oC x 1 [x0, x1, x2, x3, .ref tx, .int (nI ln), x6], aC D 2 tx (iA 80 t)]) 0 [] [(0, .ref r), (1, .ref ar)]
  refine r_aload_n 1 0 (hF.pu _ _ _ _) dX9_fill_0 rfl rfl ?_
  refine r_aload_n 2 1 (hF.pu _ _ _ _) dX9_fill_1 rfl rfl ?_
  refine f_alen 3 hF (fun _ z => (z.a 1 rfl)) rfl dX9_fill_2 rfl ?_
  refine g_callV 6 hG (fc_X9_numbers_3 (KS := KS) (Hb := Hb) D l hl r x R tx sp it ab x0 x1 x2 x3 x6 t ln hln hch (by omega)) (wr := ([aC D 0 ar (iA 3 al)])) rfl (imk [0, 1] rfl) lk_X9_100 1 yk_X9_numbers rfl ⟨by decide, by decide⟩ (fun _ z => ((z.o 0 rfl).fld 0 rfl)) rfl rfl (Nat.le_of_ble_eq_true rfl) dX9_fill_3 ⟨Nat.le_of_ble_eq_true rfl, Nat.le_of_ble_eq_true rfl⟩ rfl (fun E a ws' im' hp hx => by obtain ⟨hb, rfl, rfl, rfl⟩ := hp; exact g_out hO 0 rfl (Nat.le_of_ble_eq_true rfl) (Nat.le_of_ble_eq_true rfl) (⟨hb, rfl⟩)) (fun r ws_ im' hp => ?_)
  obtain ⟨a1_, a2_, a3_, a4_, a5_, a6_, rfl, rfl, rfl, hp3⟩ := hp
  show F 11 53 ([oC r 8 [.ref R, .int (nI (sK t ln sp 2 + nuD t ln (sK t ln sp 2))), .int it, .int (zB ab), .ref x], aC D 0 ar (iA 3 al)]) ([oC a1_ 21 [.ref a2_, .ref a2_], oC a2_ 12 [.int (((0 + 1) + 1) + 1), .ref a3_, .int (nI 3)], aC D 3 a3_ (qA 10 (va_up (va_up (va_up (fun _ => none) 0 (some a4_)) 1 (some a5_)) 2 (some a6_))), oC a4_ 19 [.int (nI (nuN t ln sp))], oC a5_ 19 [.int (nI (nuN t ln (sK t ln sp 1)))], oC a6_ 19 [.int (nI (nuN t ln (sK t ln sp 2)))], oC x 1 [x0, x1, x2, x3, .ref tx, .int (nI ln), x6], aC D 2 tx (iA 80 t)]) 6 [.ref a1_] [(0, .ref r), (1, .ref ar)]
  refine r_astore_n 7 [(2, .ref a1_), (0, .ref r), (1, .ref ar)] (hF.pu _ _ _ _) dX9_fill_6 rfl (by decide) rfl rfl ?_
  refine r_iconst 8 0 (hF.pu _ _ _ _) dX9_fill_7 (by decide) rfl ?_
  refine r_istore_n 9 [(3, .int 0), (2, .ref a1_), (0, .ref r), (1, .ref ar)] (hF.pu _ _ _ _) dX9_fill_8 rfl (by decide) rfl rfl ?_
  refine r_iload_n 10 0 (hF.pu _ _ _ _) dX9_fill_9 rfl rfl ?_
  refine r_aload_n 11 3 (hF.pu _ _ _ _) dX9_fill_10 rfl rfl ?_
  refine f_alen 12 hF (fun _ z => (z.a 1 rfl)) rfl dX9_fill_11 rfl ?_
  refine r_icmp_geN 0 3 15 37 (hF.pu _ _ _ _) dX9_fill_12 (by omega) (by omega) (by decide) (fun c12 => absurd c12 (by decide)) rfl (fun c12 => ?_)
  refine r_aload_n 16 3 (hF.pu _ _ _ _) dX9_fill_15 rfl rfl ?_
  refine r_iload_n 17 0 (hF.pu _ _ _ _) dX9_fill_16 rfl rfl ?_
  refine r_aload_n 18 1 (hF.pu _ _ _ _) dX9_fill_17 rfl rfl ?_
  refine r_iload_n 19 0 (hF.pu _ _ _ _) dX9_fill_18 rfl rfl ?_
  refine f_callFp 24 hF (fun _ z => cp_J43_get D l a1_ a2_ a3_ 10 3 0 a4_ ((z.mo 0 rfl).fld 1 rfl) ((z.mo 1 rfl).fld 2 rfl) ((z.mo 1 rfl).fld 1 rfl) ⟨_, (z.ma 2 rfl), rfl⟩ (by decide) (by decide) (by decide) (by decide)) lf_X9_119_J43_get fw_18 fo_J43_get_List_get 1 yf_List_get_1 rfl ⟨by decide, by decide⟩ (fun _ z => ((z.mo 0 rfl).fld 0 rfl)) rfl rfl (Nat.le_of_ble_eq_true rfl) dX9_fill_19 ⟨Nat.le_of_ble_eq_true rfl, Nat.le_of_ble_eq_true rfl⟩ rfl ?_
  refine f_castf 27 hF (fun _ z => ((z.mo 3 rfl).fld 0 rfl)) rfl q2254 dX9_fill_24 rfl ?_
  refine f_callp 30 hF (fun _ z => cp_J28_intValue D l a4_ (nI (nuN t ln sp)) ((z.mo 3 rfl).fld 0 rfl)) lk_X9_125 0 yk_J28_intValue rfl ⟨by decide, by decide⟩ (fun _ z => ((z.mo 3 rfl).fld 0 rfl)) rfl rfl (Nat.le_of_ble_eq_true rfl) dX9_fill_27 ⟨Nat.le_of_ble_eq_true rfl, Nat.le_of_ble_eq_true rfl⟩ rfl ?_
  refine f_iast 31 hF 1 ([oC r 8 [.ref R, .int (nI (sK t ln sp 2 + nuD t ln (sK t ln sp 2))), .int it, .int (zB ab), .ref x], aC D 0 ar (iA 3 (upd al 0 (nI (nuN t ln sp))))]) rfl 0 rfl (by decide) (by decide) rfl dX9_fill_30 rfl ?_
  refine r_iinc 34 (nI (0 + 1)) 0 [(3, .int (nI (0 + 1))), (2, .ref a1_), (0, .ref r), (1, .ref ar)] (hF.pu _ _ _ _) dX9_fill_31 rfl (nI_1 0) (by decide) rfl rfl ?_
  refine r_goto 9 (hF.pu _ _ _ _) dX9_fill_34 (by decide) ?_
  refine r_iload_n 10 0 (hF.pu _ _ _ _) dX9_fill_9 rfl rfl ?_
  refine r_aload_n 11 3 (hF.pu _ _ _ _) dX9_fill_10 rfl rfl ?_
  refine f_alen 12 hF (fun _ z => (z.a 1 rfl)) rfl dX9_fill_11 rfl ?_
  refine r_icmp_geN 1 3 15 37 (hF.pu _ _ _ _) dX9_fill_12 (by omega) (by omega) (by decide) (fun c12 => absurd c12 (by decide)) rfl (fun c12 => ?_)
  refine r_aload_n 16 3 (hF.pu _ _ _ _) dX9_fill_15 rfl rfl ?_
  refine r_iload_n 17 0 (hF.pu _ _ _ _) dX9_fill_16 rfl rfl ?_
  refine r_aload_n 18 1 (hF.pu _ _ _ _) dX9_fill_17 rfl rfl ?_
  refine r_iload_n 19 0 (hF.pu _ _ _ _) dX9_fill_18 rfl rfl ?_
  refine f_callFp 24 hF (fun _ z => cp_J43_get D l a1_ a2_ a3_ 10 3 1 a5_ ((z.mo 0 rfl).fld 1 rfl) ((z.mo 1 rfl).fld 2 rfl) ((z.mo 1 rfl).fld 1 rfl) ⟨_, (z.ma 2 rfl), rfl⟩ (by decide) (by decide) (by decide) (by decide)) lf_X9_119_J43_get fw_18 fo_J43_get_List_get 1 yf_List_get_1 rfl ⟨by decide, by decide⟩ (fun _ z => ((z.mo 0 rfl).fld 0 rfl)) rfl rfl (Nat.le_of_ble_eq_true rfl) dX9_fill_19 ⟨Nat.le_of_ble_eq_true rfl, Nat.le_of_ble_eq_true rfl⟩ rfl ?_
  refine f_castf 27 hF (fun _ z => ((z.mo 4 rfl).fld 0 rfl)) rfl q2254 dX9_fill_24 rfl ?_
  refine f_callp 30 hF (fun _ z => cp_J28_intValue D l a5_ (nI (nuN t ln (sK t ln sp 1))) ((z.mo 4 rfl).fld 0 rfl)) lk_X9_125 0 yk_J28_intValue rfl ⟨by decide, by decide⟩ (fun _ z => ((z.mo 4 rfl).fld 0 rfl)) rfl rfl (Nat.le_of_ble_eq_true rfl) dX9_fill_27 ⟨Nat.le_of_ble_eq_true rfl, Nat.le_of_ble_eq_true rfl⟩ rfl ?_
  refine f_iast 31 hF 1 ([oC r 8 [.ref R, .int (nI (sK t ln sp 2 + nuD t ln (sK t ln sp 2))), .int it, .int (zB ab), .ref x], aC D 0 ar (iA 3 (upd (upd al 0 (nI (nuN t ln sp))) 1 (nI (nuN t ln (sK t ln sp 1)))))]) rfl 1 rfl (by decide) (by decide) rfl dX9_fill_30 rfl ?_
  refine r_iinc 34 (nI (1 + 1)) 0 [(3, .int (nI (1 + 1))), (2, .ref a1_), (0, .ref r), (1, .ref ar)] (hF.pu _ _ _ _) dX9_fill_31 rfl (nI_1 1) (by decide) rfl rfl ?_
  refine r_goto 9 (hF.pu _ _ _ _) dX9_fill_34 (by decide) ?_
  refine r_iload_n 10 0 (hF.pu _ _ _ _) dX9_fill_9 rfl rfl ?_
  refine r_aload_n 11 3 (hF.pu _ _ _ _) dX9_fill_10 rfl rfl ?_
  refine f_alen 12 hF (fun _ z => (z.a 1 rfl)) rfl dX9_fill_11 rfl ?_
  refine r_icmp_geN 2 3 15 37 (hF.pu _ _ _ _) dX9_fill_12 (by omega) (by omega) (by decide) (fun c12 => absurd c12 (by decide)) rfl (fun c12 => ?_)
  refine r_aload_n 16 3 (hF.pu _ _ _ _) dX9_fill_15 rfl rfl ?_
  refine r_iload_n 17 0 (hF.pu _ _ _ _) dX9_fill_16 rfl rfl ?_
  refine r_aload_n 18 1 (hF.pu _ _ _ _) dX9_fill_17 rfl rfl ?_
  refine r_iload_n 19 0 (hF.pu _ _ _ _) dX9_fill_18 rfl rfl ?_
  refine f_callFp 24 hF (fun _ z => cp_J43_get D l a1_ a2_ a3_ 10 3 2 a6_ ((z.mo 0 rfl).fld 1 rfl) ((z.mo 1 rfl).fld 2 rfl) ((z.mo 1 rfl).fld 1 rfl) ⟨_, (z.ma 2 rfl), rfl⟩ (by decide) (by decide) (by decide) (by decide)) lf_X9_119_J43_get fw_18 fo_J43_get_List_get 1 yf_List_get_1 rfl ⟨by decide, by decide⟩ (fun _ z => ((z.mo 0 rfl).fld 0 rfl)) rfl rfl (Nat.le_of_ble_eq_true rfl) dX9_fill_19 ⟨Nat.le_of_ble_eq_true rfl, Nat.le_of_ble_eq_true rfl⟩ rfl ?_
  refine f_castf 27 hF (fun _ z => ((z.mo 5 rfl).fld 0 rfl)) rfl q2254 dX9_fill_24 rfl ?_
  refine f_callp 30 hF (fun _ z => cp_J28_intValue D l a6_ (nI (nuN t ln (sK t ln sp 2))) ((z.mo 5 rfl).fld 0 rfl)) lk_X9_125 0 yk_J28_intValue rfl ⟨by decide, by decide⟩ (fun _ z => ((z.mo 5 rfl).fld 0 rfl)) rfl rfl (Nat.le_of_ble_eq_true rfl) dX9_fill_27 ⟨Nat.le_of_ble_eq_true rfl, Nat.le_of_ble_eq_true rfl⟩ rfl ?_
  refine f_iast 31 hF 1 ([oC r 8 [.ref R, .int (nI (sK t ln sp 2 + nuD t ln (sK t ln sp 2))), .int it, .int (zB ab), .ref x], aC D 0 ar (iA 3 (upd (upd (upd al 0 (nI (nuN t ln sp))) 1 (nI (nuN t ln (sK t ln sp 1)))) 2 (nI (nuN t ln (sK t ln sp 2)))))]) rfl 2 rfl (by decide) (by decide) rfl dX9_fill_30 rfl ?_
  refine r_iinc 34 (nI (2 + 1)) 0 [(3, .int (nI (2 + 1))), (2, .ref a1_), (0, .ref r), (1, .ref ar)] (hF.pu _ _ _ _) dX9_fill_31 rfl (nI_1 2) (by decide) rfl rfl ?_
  refine r_goto 9 (hF.pu _ _ _ _) dX9_fill_34 (by decide) ?_
  refine r_iload_n 10 0 (hF.pu _ _ _ _) dX9_fill_9 rfl rfl ?_
  refine r_aload_n 11 3 (hF.pu _ _ _ _) dX9_fill_10 rfl rfl ?_
  refine f_alen 12 hF (fun _ z => (z.a 1 rfl)) rfl dX9_fill_11 rfl ?_
  refine r_icmp_geN 3 3 15 37 (hF.pu _ _ _ _) dX9_fill_12 (by omega) (by omega) (by decide) (fun c12 => ?_) rfl (fun c12 => absurd c12 (by decide))
  refine f_imsub hF [] (imk [] rfl) ?_
  exact FR.v hR dX9_fill_37 (Nat.le_of_ble_eq_true rfl) (Nat.le_of_ble_eq_true rfl) ⟨rfl, rfl, rfl, hp3⟩
