set_option maxHeartbeats 2000000 in
theorem cp_X1_allowance (D : DD) (l : Launch) {H0 : Heap} {K0 : Nat → Prop} (x : Nat) (wd rd : Nat → Nat) (g : Nat → Int32) (h : Nat → Int64) (nb nch ncr : Nat) (hx0 : fld D 1 x 0 (.ref (wd 0)) H0) (hw : woK K0 D wd rd g h nb nch ncr H0) (hnb : nb ≤ 6) (hch : nch ≤ 4) (hcr : ncr ≤ 6) (q : Nat) (hq : q < 5) (hqb : inB (nI q) 0 4 = true) : Cp D l yX1_allowance cX1_allowance 2 (some .int) 1 22 [.ref x, .int (nI q)] H0 (some (.int (g (13 + q)))) := by
  refine Cp.of (by decide) (Nat.le_of_ble_eq_true rfl) (fun s A J hJ hR => ?_)
  show J H0 0 0 0 [] [(0, .ref x), (1, .int (nI q))]
  refine r_iload_n 1 1 (hJ.pu _ _ _) dX1_allowance_0 rfl rfl ?_
  refine r_iconst 2 0 (hJ.pu _ _ _) dX1_allowance_1 (by decide) rfl ?_
  refine r_iconst 3 4 (hJ.pu _ _ _) dX1_allowance_2 (by decide) rfl ?_
  refine cs_row 6 hJ (ts_X1_isBetween D l (nI q) 0 4) lk_X1_70 3 yk_X1_isBetween rfl ⟨by decide, by decide⟩ rfl (Nat.le_of_ble_eq_true rfl) dX1_allowance_3 ⟨Nat.zero_le _, Nat.zero_le _⟩ rfl ?_
  refine r_eqi 1 (by simp [zB, *]) ?_
  refine j_callps 9 hJ (cp_X1_requireArgument_k D l) lk_X1_74 1 yk_X1_requireArgument rfl ⟨by decide, by decide⟩ rfl (Nat.le_of_ble_eq_true rfl) dX1_allowance_6 ⟨Nat.zero_le _, Nat.zero_le _⟩ rfl ?_
  rcases (show q = 0 ∨ q = 1 ∨ q = 2 ∨ q = 3 ∨ q = 4 by omega) with rfl | rfl | rfl | rfl | rfl
  · refine r_iload_n 10 1 (hJ.pu _ _ _) dX1_allowance_9 rfl rfl ?_
    refine r_iconst 11 3 (hJ.pu _ _ _) dX1_allowance_10 (by decide) rfl ?_
    refine r_icmp_geN 0 3 14 29 (hJ.pu _ _ _) dX1_allowance_11 (by omega) (by omega) (by decide) (fun c11 => absurd c11 (by decide)) rfl (fun c11 => ?_)
    refine r_aload_n 15 0 (hJ.pu _ _ _) dX1_allowance_14 rfl rfl ?_
    refine j_getf 18 hJ (T := TX1) (C := RX1) 0 (v := .ref (wd 0)) okX1 hx0 rfl (by decide) (Or.inl q550) (Or.inl rfl) dX1_allowance_15 rfl ?_
    refine j_getf 21 hJ (T := TX2) (C := RX2) 0 (v := .ref (rd 0)) okX2 (hw.o.fld 0 rfl) rfl (by decide) (Or.inr ⟨_, nw_q448⟩) (Or.inl rfl) dX1_allowance_18 rfl ?_
    refine j_getf 24 hJ (T := TX3) (C := RX3) 1 (v := .ref (rd 2)) okX3 (hw.ru.o.fld 1 rfl) rfl (by decide) (Or.inr ⟨_, nw_q310⟩) (Or.inl rfl) dX1_allowance_21 rfl ?_
    refine r_iload_n 25 1 (hJ.pu _ _ _) dX1_allowance_24 rfl rfl ?_
    refine j_ialde 26 hJ 0 (hw.ru.al.el (j := 0) (by decide)) rfl (by decide) (by decide) dX1_allowance_25 rfl ?_
    refine r_goto 43 (hJ.pu _ _ _) dX1_allowance_26 (by decide) ?_
    exact Rt.i hR rfl dX1_allowance_43 (Nat.zero_le _) (Nat.zero_le _) ⟨rfl, rfl⟩
  · refine r_iload_n 10 1 (hJ.pu _ _ _) dX1_allowance_9 rfl rfl ?_
    refine r_iconst 11 3 (hJ.pu _ _ _) dX1_allowance_10 (by decide) rfl ?_
    refine r_icmp_geN 1 3 14 29 (hJ.pu _ _ _) dX1_allowance_11 (by omega) (by omega) (by decide) (fun c11 => absurd c11 (by decide)) rfl (fun c11 => ?_)
    refine r_aload_n 15 0 (hJ.pu _ _ _) dX1_allowance_14 rfl rfl ?_
    refine j_getf 18 hJ (T := TX1) (C := RX1) 0 (v := .ref (wd 0)) okX1 hx0 rfl (by decide) (Or.inl q550) (Or.inl rfl) dX1_allowance_15 rfl ?_
    refine j_getf 21 hJ (T := TX2) (C := RX2) 0 (v := .ref (rd 0)) okX2 (hw.o.fld 0 rfl) rfl (by decide) (Or.inr ⟨_, nw_q448⟩) (Or.inl rfl) dX1_allowance_18 rfl ?_
    refine j_getf 24 hJ (T := TX3) (C := RX3) 1 (v := .ref (rd 2)) okX3 (hw.ru.o.fld 1 rfl) rfl (by decide) (Or.inr ⟨_, nw_q310⟩) (Or.inl rfl) dX1_allowance_21 rfl ?_
    refine r_iload_n 25 1 (hJ.pu _ _ _) dX1_allowance_24 rfl rfl ?_
    refine j_ialde 26 hJ 1 (hw.ru.al.el (j := 1) (by decide)) rfl (by decide) (by decide) dX1_allowance_25 rfl ?_
    refine r_goto 43 (hJ.pu _ _ _) dX1_allowance_26 (by decide) ?_
    exact Rt.i hR rfl dX1_allowance_43 (Nat.zero_le _) (Nat.zero_le _) ⟨rfl, rfl⟩
  · refine r_iload_n 10 1 (hJ.pu _ _ _) dX1_allowance_9 rfl rfl ?_
    refine r_iconst 11 3 (hJ.pu _ _ _) dX1_allowance_10 (by decide) rfl ?_
    refine r_icmp_geN 2 3 14 29 (hJ.pu _ _ _) dX1_allowance_11 (by omega) (by omega) (by decide) (fun c11 => absurd c11 (by decide)) rfl (fun c11 => ?_)
    refine r_aload_n 15 0 (hJ.pu _ _ _) dX1_allowance_14 rfl rfl ?_
    refine j_getf 18 hJ (T := TX1) (C := RX1) 0 (v := .ref (wd 0)) okX1 hx0 rfl (by decide) (Or.inl q550) (Or.inl rfl) dX1_allowance_15 rfl ?_
    refine j_getf 21 hJ (T := TX2) (C := RX2) 0 (v := .ref (rd 0)) okX2 (hw.o.fld 0 rfl) rfl (by decide) (Or.inr ⟨_, nw_q448⟩) (Or.inl rfl) dX1_allowance_18 rfl ?_
    refine j_getf 24 hJ (T := TX3) (C := RX3) 1 (v := .ref (rd 2)) okX3 (hw.ru.o.fld 1 rfl) rfl (by decide) (Or.inr ⟨_, nw_q310⟩) (Or.inl rfl) dX1_allowance_21 rfl ?_
    refine r_iload_n 25 1 (hJ.pu _ _ _) dX1_allowance_24 rfl rfl ?_
    refine j_ialde 26 hJ 2 (hw.ru.al.el (j := 2) (by decide)) rfl (by decide) (by decide) dX1_allowance_25 rfl ?_
    refine r_goto 43 (hJ.pu _ _ _) dX1_allowance_26 (by decide) ?_
    exact Rt.i hR rfl dX1_allowance_43 (Nat.zero_le _) (Nat.zero_le _) ⟨rfl, rfl⟩
  · refine r_iload_n 10 1 (hJ.pu _ _ _) dX1_allowance_9 rfl rfl ?_
    refine r_iconst 11 3 (hJ.pu _ _ _) dX1_allowance_10 (by decide) rfl ?_
    refine r_icmp_geN 3 3 14 29 (hJ.pu _ _ _) dX1_allowance_11 (by omega) (by omega) (by decide) (fun c11 => ?_) rfl (fun c11 => absurd c11 (by decide))
    refine r_aload_n 30 0 (hJ.pu _ _ _) dX1_allowance_29 rfl rfl ?_
    refine j_getf 33 hJ (T := TX1) (C := RX1) 0 (v := .ref (wd 0)) okX1 hx0 rfl (by decide) (Or.inl q550) (Or.inl rfl) dX1_allowance_30 rfl ?_
    refine j_getf 36 hJ (T := TX2) (C := RX2) 0 (v := .ref (rd 0)) okX2 (hw.o.fld 0 rfl) rfl (by decide) (Or.inr ⟨_, nw_q448⟩) (Or.inl rfl) dX1_allowance_33 rfl ?_
    refine j_getf 39 hJ (T := TX3) (C := RX3) 2 (v := .ref (rd 3)) okX3 (hw.ru.o.fld 2 rfl) rfl (by decide) (Or.inr ⟨_, nw_q313⟩) (Or.inl rfl) dX1_allowance_36 rfl ?_
    refine r_iload_n 40 1 (hJ.pu _ _ _) dX1_allowance_39 rfl rfl ?_
    refine r_iconst 41 3 (hJ.pu _ _ _) dX1_allowance_40 (by decide) rfl ?_
    refine r_isubN 3 3 0 42 (hJ.pu _ _ _) dX1_allowance_41 (by omega) (by omega) rfl ?_
    refine j_ialde 43 hJ 0 (hw.ru.mi.el (j := 0) (by decide)) rfl (by decide) (by decide) dX1_allowance_42 rfl ?_
    exact Rt.i hR rfl dX1_allowance_43 (Nat.zero_le _) (Nat.zero_le _) ⟨rfl, rfl⟩
  · refine r_iload_n 10 1 (hJ.pu _ _ _) dX1_allowance_9 rfl rfl ?_
    refine r_iconst 11 3 (hJ.pu _ _ _) dX1_allowance_10 (by decide) rfl ?_
    refine r_icmp_geN 4 3 14 29 (hJ.pu _ _ _) dX1_allowance_11 (by omega) (by omega) (by decide) (fun c11 => ?_) rfl (fun c11 => absurd c11 (by decide))
    refine r_aload_n 30 0 (hJ.pu _ _ _) dX1_allowance_29 rfl rfl ?_
    refine j_getf 33 hJ (T := TX1) (C := RX1) 0 (v := .ref (wd 0)) okX1 hx0 rfl (by decide) (Or.inl q550) (Or.inl rfl) dX1_allowance_30 rfl ?_
    refine j_getf 36 hJ (T := TX2) (C := RX2) 0 (v := .ref (rd 0)) okX2 (hw.o.fld 0 rfl) rfl (by decide) (Or.inr ⟨_, nw_q448⟩) (Or.inl rfl) dX1_allowance_33 rfl ?_
    refine j_getf 39 hJ (T := TX3) (C := RX3) 2 (v := .ref (rd 3)) okX3 (hw.ru.o.fld 2 rfl) rfl (by decide) (Or.inr ⟨_, nw_q313⟩) (Or.inl rfl) dX1_allowance_36 rfl ?_
    refine r_iload_n 40 1 (hJ.pu _ _ _) dX1_allowance_39 rfl rfl ?_
    refine r_iconst 41 3 (hJ.pu _ _ _) dX1_allowance_40 (by decide) rfl ?_
    refine r_isubN 4 3 1 42 (hJ.pu _ _ _) dX1_allowance_41 (by omega) (by omega) rfl ?_
    refine j_ialde 43 hJ 1 (hw.ru.mi.el (j := 1) (by decide)) rfl (by decide) (by decide) dX1_allowance_42 rfl ?_
    exact Rt.i hR rfl dX1_allowance_43 (Nat.zero_le _) (Nat.zero_le _) ⟨rfl, rfl⟩
theorem lk_X1_175 : GoodIn lw_all (wsV RX1 175 yJ10_get.cls yJ10_get (ws_ yJ10_get cJ10_get 2 (Option.some (ClassFile.FieldType.object "java/lang/Object")))) := lw_V q2429 q1402 q3930 q116 q1403
theorem lk_X1_178 : GoodIn lw_all (wsV RX1 178 yX12_part.cls yX12_part (ws_ yX12_part cX12_part 2 (some .int))) := lw_V q2431 q2432 q2433 q160 q2434
theorem yk_X12_part : yOk yX12_part 1 := by decide +kernel
set_option maxHeartbeats 2000000 in
theorem cp_X1_credit (D : DD) (l : Launch) {H0 : Heap} {K0 : Nat → Prop} (x : Nat) (wd rd : Nat → Nat) (g : Nat → Int32) (h : Nat → Int64) (nb nch ncr : Nat) (hx0 : fld D 1 x 0 (.ref (wd 0)) H0) (hw : woK K0 D wd rd g h nb nch ncr H0) (hnb : nb ≤ 6) (hch : nch ≤ 4) (hcr : ncr ≤ 6) (k q : Nat) (hk : k < ncr) (hq : q < 6) (hcb : inB (nI k) 0 ((nI ncr) - 1) = true) (hqb : inB (nI q) 0 5 = true) (hb5 : g (28 + 6 * k + 5) = 0 ∨ g (28 + 6 * k + 5) = 1) : Cp D l yX1_credit cX1_credit 3 (some .int) 3 63 [.ref x, .int (nI k), .int (nI q)] H0 (some (.int (g (28 + 6 * k + q)))) := by
  refine Cp.of (by decide) (Nat.le_of_ble_eq_true rfl) (fun s A J hJ hR => ?_)
  show J H0 0 0 0 [] [(0, .ref x), (1, .int (nI k)), (2, .int (nI q))]
  refine r_aload_n 1 0 (hJ.pu _ _ _) dX1_credit_0 rfl rfl ?_
  refine r_iload_n 2 1 (hJ.pu _ _ _) dX1_credit_1 rfl rfl ?_
  refine j_callp 5 hJ (cp_X1_requireCredit D l x wd rd g h nb nch ncr hx0 hw hnb hch hcr (nI k) hcb) lk_X1_171 1 yk_X1_requireCredit rfl ⟨by decide, by decide⟩ hx0 rfl rfl (Nat.le_of_ble_eq_true rfl) dX1_credit_2 ⟨Nat.zero_le _, Nat.zero_le _⟩ rfl ?_
  refine r_iload_n 6 2 (hJ.pu _ _ _) dX1_credit_5 rfl rfl ?_
  refine r_iconst 7 0 (hJ.pu _ _ _) dX1_credit_6 (by decide) rfl ?_
  refine r_iconst 8 5 (hJ.pu _ _ _) dX1_credit_7 (by decide) rfl ?_
  refine cs_row 11 hJ (ts_X1_isBetween D l (nI q) 0 5) lk_X1_70 3 yk_X1_isBetween rfl ⟨by decide, by decide⟩ rfl (Nat.le_of_ble_eq_true rfl) dX1_credit_8 ⟨Nat.zero_le _, Nat.zero_le _⟩ rfl ?_
  refine r_eqi 1 (by simp [zB, *]) ?_
  refine j_callps 14 hJ (cp_X1_requireArgument_k D l) lk_X1_74 1 yk_X1_requireArgument rfl ⟨by decide, by decide⟩ rfl (Nat.le_of_ble_eq_true rfl) dX1_credit_11 ⟨Nat.zero_le _, Nat.zero_le _⟩ rfl ?_
  refine r_aload_n 15 0 (hJ.pu _ _ _) dX1_credit_14 rfl rfl ?_
  refine j_getf 18 hJ (T := TX1) (C := RX1) 0 (v := .ref (wd 0)) okX1 hx0 rfl (by decide) (Or.inl q550) (Or.inl rfl) dX1_credit_15 rfl ?_
  refine j_getf 21 hJ (T := TX2) (C := RX2) 0 (v := .ref (rd 0)) okX2 (hw.o.fld 0 rfl) rfl (by decide) (Or.inr ⟨_, nw_q448⟩) (Or.inl rfl) dX1_credit_18 rfl ?_
  refine j_getf 24 hJ (T := TX3) (C := RX3) 4 (v := .ref (rd 6)) okX3 (hw.ru.o.fld 4 rfl) rfl (by decide) (Or.inr ⟨_, nw_q320⟩) (Or.inl rfl) dX1_credit_21 rfl ?_
  refine r_iload_n 25 1 (hJ.pu _ _ _) dX1_credit_24 rfl rfl ?_
  refine j_callp 28 hJ (cp_J10_get D l (rd 6) ncr k (fun k => rd (400 + k)) (fun k => rd (300 + k)) hw.ru.rl (by omega) (by omega)) lk_X1_175 1 yk_J10_get rfl ⟨by decide, by decide⟩ hw.ru.rl.sz rfl rfl (Nat.le_of_ble_eq_true rfl) dX1_credit_25 ⟨Nat.zero_le _, Nat.zero_le _⟩ rfl ?_
  refine j_castf 31 hJ ((hw.ru.r (k := k) (by omega)).fld 0 rfl) rfl q2430 dX1_credit_28 rfl ?_
  refine r_iload_n 32 2 (hJ.pu _ _ _) dX1_credit_31 rfl rfl ?_
  refine j_callp 35 hJ (cp_X12_part D l (rd (300 + k)) (crK g k) (hw.ru.r (by omega)) q (by omega) hb5) lk_X1_178 1 yk_X12_part rfl ⟨by decide, by decide⟩ ((hw.ru.r (k := k) (by omega)).fld 0 rfl) rfl rfl (Nat.le_of_ble_eq_true rfl) dX1_credit_32 ⟨Nat.zero_le _, Nat.zero_le _⟩ rfl ?_
  exact Rt.i hR rfl dX1_credit_35 (Nat.zero_le _) (Nat.zero_le _) ⟨rfl, rfl⟩
set_option maxHeartbeats 4000000 in
theorem kc_X6_creditPart (D : DD) (l : Launch) (kd : Nat → Nat) (hN : kwN kd) {Q : Heap → Prop} (hQ : kQ kd Q) (k pt : Nat) (hk : k < 6) (hp : pt < 5) (L : TL) (C : TC) : Kc D l yX6_creditPart cX6_creditPart 3 (some .long) 0 0 kd Q [.ref (kd 0), .int (nI k), .int (nI pt)] L C (fun r L' C' => r = some (.long (L (2 + pt) k)) ∧ L' = L ∧ C' = C) := by
  refine Kc.of hN hQ (by decide) (Nat.le_of_ble_eq_true rfl) (fun s K hK hR => ?_)
  show K L C 0 [] [(0, .ref (kd 0)), (1, .int (nI k)), (2, .int (nI pt))]
  refine r_iload_n 1 2 (hK.pu _ _) dX6_creditPart_0 rfl rfl ?_
  rcases (show pt = 0 ∨ pt = 1 ∨ pt = 2 ∨ pt = 3 ∨ pt = 4 by omega) with rfl | rfl | rfl | rfl | rfl
  · refine r_tableIn 32 (hK.pu _ _) dX6_creditPart_1 (by decide) (by decide) rfl (by decide) ?_
    refine r_aload_n 33 0 (hK.pu _ _) dX6_creditPart_32 rfl rfl ?_
    refine k_getc 36 hK 2 (.ref (kd 4)) (by decide) (Or.inl q528) (Or.inl rfl) rfl dX6_creditPart_33 rfl ?_
    refine r_iload_n 37 1 (hK.pu _ _) dX6_creditPart_36 rfl rfl ?_
    refine k_lald 38 hK 2 k (by decide) rfl (by show k < 6; omega) dX6_creditPart_37 rfl ?_
    exact KR.lg hR dX6_creditPart_38 ⟨rfl, rfl, rfl⟩
  · refine r_tableIn 39 (hK.pu _ _) dX6_creditPart_1 (by decide) (by decide) rfl (by decide) ?_
    refine r_aload_n 40 0 (hK.pu _ _) dX6_creditPart_39 rfl rfl ?_
    refine k_getc 43 hK 3 (.ref (kd 5)) (by decide) (Or.inl q529) (Or.inl rfl) rfl dX6_creditPart_40 rfl ?_
    refine r_iload_n 44 1 (hK.pu _ _) dX6_creditPart_43 rfl rfl ?_
    refine k_lald 45 hK 3 k (by decide) rfl (by show k < 6; omega) dX6_creditPart_44 rfl ?_
    exact KR.lg hR dX6_creditPart_45 ⟨rfl, rfl, rfl⟩
  · refine r_tableIn 46 (hK.pu _ _) dX6_creditPart_1 (by decide) (by decide) rfl (by decide) ?_
    refine r_aload_n 47 0 (hK.pu _ _) dX6_creditPart_46 rfl rfl ?_
    refine k_getc 50 hK 4 (.ref (kd 6)) (by decide) (Or.inl q530) (Or.inl rfl) rfl dX6_creditPart_47 rfl ?_
    refine r_iload_n 51 1 (hK.pu _ _) dX6_creditPart_50 rfl rfl ?_
    refine k_lald 52 hK 4 k (by decide) rfl (by show k < 6; omega) dX6_creditPart_51 rfl ?_
    exact KR.lg hR dX6_creditPart_52 ⟨rfl, rfl, rfl⟩
  · refine r_tableIn 53 (hK.pu _ _) dX6_creditPart_1 (by decide) (by decide) rfl (by decide) ?_
    refine r_aload_n 54 0 (hK.pu _ _) dX6_creditPart_53 rfl rfl ?_
    refine k_getc 57 hK 5 (.ref (kd 7)) (by decide) (Or.inl q531) (Or.inl rfl) rfl dX6_creditPart_54 rfl ?_
    refine r_iload_n 58 1 (hK.pu _ _) dX6_creditPart_57 rfl rfl ?_
    refine k_lald 59 hK 5 k (by decide) rfl (by show k < 6; omega) dX6_creditPart_58 rfl ?_
    exact KR.lg hR dX6_creditPart_59 ⟨rfl, rfl, rfl⟩
  · refine r_tableOut 60 (hK.pu _ _) dX6_creditPart_1 (by decide) (by decide) ?_
    refine r_aload_n 61 0 (hK.pu _ _) dX6_creditPart_60 rfl rfl ?_
    refine k_getc 64 hK 6 (.ref (kd 8)) (by decide) (Or.inl q533) (Or.inl rfl) rfl dX6_creditPart_61 rfl ?_
    refine r_iload_n 65 1 (hK.pu _ _) dX6_creditPart_64 rfl rfl ?_
    refine k_lald 66 hK 6 k (by decide) rfl (by show k < 6; omega) dX6_creditPart_65 rfl ?_
    exact KR.lg hR dX6_creditPart_66 ⟨rfl, rfl, rfl⟩
set_option maxHeartbeats 4000000 in
theorem kc_X6_curvePart (D : DD) (l : Launch) (kd : Nat → Nat) (hN : kwN kd) {Q : Heap → Prop} (hQ : kQ kd Q) (pt : Nat) (hp : pt < 10) (L : TL) (C : TC) : Kc D l yX6_curvePart cX6_curvePart 2 (some .long) 0 0 kd Q [.ref (kd 0), .int (nI pt)] L C (fun r L' C' => r = some (.long (if pt < 4 then L 1 (pt + 2) else L 6 (pt - 4))) ∧ L' = L ∧ C' = C) := by
  refine Kc.of hN hQ (by decide) (Nat.le_of_ble_eq_true rfl) (fun s K hK hR => ?_)
  show K L C 0 [] [(0, .ref (kd 0)), (1, .int (nI pt))]
  refine r_iload_n 1 1 (hK.pu _ _) dX6_curvePart_0 rfl rfl ?_
  refine r_iconst 2 4 (hK.pu _ _) dX6_curvePart_1 (by decide) rfl ?_
  refine r_icmp_geN pt 4 5 16 (hK.pu _ _) dX6_curvePart_2 (by omega) (by omega) (by decide) (fun c2 => ?_) rfl (fun c2 => ?_)
  · refine r_aload_n 17 0 (hK.pu _ _) dX6_curvePart_16 rfl rfl ?_
    refine k_getc 20 hK 6 (.ref (kd 8)) (by decide) (Or.inl q533) (Or.inl rfl) rfl dX6_curvePart_17 rfl ?_
    refine r_iload_n 21 1 (hK.pu _ _) dX6_curvePart_20 rfl rfl ?_
    refine r_iconst 22 4 (hK.pu _ _) dX6_curvePart_21 (by decide) rfl ?_
    refine r_isubN pt 4 (pt - 4) 23 (hK.pu _ _) dX6_curvePart_22 (by omega) (by omega) rfl ?_
    refine k_lald 24 hK 6 (pt - 4) (by decide) rfl (by show pt - 4 < 6; omega) dX6_curvePart_23 rfl ?_
    exact KR.lg hR dX6_curvePart_24 ⟨by first | rw [if_pos (by omega)] | rw [if_neg (by omega)], rfl, rfl⟩
  · refine r_aload_n 6 0 (hK.pu _ _) dX6_curvePart_5 rfl rfl ?_
    refine k_getc 9 hK 1 (.ref (kd 3)) (by decide) (Or.inl q526) (Or.inl rfl) rfl dX6_curvePart_6 rfl ?_
    refine r_iload_n 10 1 (hK.pu _ _) dX6_curvePart_9 rfl rfl ?_
    refine r_iconst 11 2 (hK.pu _ _) dX6_curvePart_10 (by decide) rfl ?_
    refine r_iaddN pt 2 (pt + 2) 12 (hK.pu _ _) dX6_curvePart_11 rfl rfl ?_
    refine k_lald 13 hK 1 (pt + 2) (by decide) rfl (by show pt + 2 < 6; omega) dX6_curvePart_12 rfl ?_
    refine r_goto 24 (hK.pu _ _) dX6_curvePart_13 (by decide) ?_
    exact KR.lg hR dX6_curvePart_24 ⟨by first | rw [if_pos (by omega)] | rw [if_neg (by omega)], rfl, rfl⟩
set_option maxHeartbeats 4000000 in
theorem kc_X1_tax (D : DD) (l : Launch) (kd : Nat → Nat) (hN : kwN kd) {Q : Heap → Prop} (hQ : kQ kd Q) {K0 : Nat → Prop} (x : Nat) (wd rd : Nat → Nat) (g : Nat → Int32) (h : Nat → Int64) (nb nch ncr : Nat) (hx0 : ∀ {H : Heap}, Q H → fld D 1 x 0 (.ref (wd 0)) H) (hx3 : ∀ {H : Heap}, Q H → fld D 1 x 3 (.ref (kd 0)) H) (hw : ∀ {H : Heap}, Q H → woK K0 D wd rd g h nb nch ncr H) (hnb : nb ≤ 6) (hch : nch ≤ 4) (hcr : ncr ≤ 6) (p : Nat) (hp : p < 6) (L : TL) (C : TC) : Kc D l yX1_tax cX1_tax 2 (some .long) 8 218 kd Q [.ref x, .int (nI p)] L C (fun r L' C' => r = some (.long (owT g h nb nch ncr p))) := by
  refine Kc.of hN hQ (by decide) (Nat.le_of_ble_eq_true rfl) (fun s K hK hR => ?_)
  show K L C 0 [] [(0, .ref x), (1, .int (nI p))]
  refine r_aload_n 1 0 (hK.pu _ _) dX1_tax_0 rfl rfl ?_
  refine r_iload_n 2 1 (hK.pu _ _) dX1_tax_1 rfl rfl ?_
  refine k_callp 5 hK (fun _ hh z => cp_X1_person D l x wd rd g h nb nch ncr (hx0 z) (hw z) hnb hch hcr p (by omega) (per_in (by omega))) lk_X1_211 1 yk_X1_person rfl ⟨by decide, by decide⟩ (fun _ hh z => (hx0 z)) rfl rfl (Nat.le_of_ble_eq_true rfl) dX1_tax_2 rfl ?_
  refine r_pop 6 (hK.pu _ _) dX1_tax_5 rfl rfl ?_
  refine r_aload_n 7 0 (hK.pu _ _) dX1_tax_6 rfl rfl ?_
  refine r_iload_n 8 1 (hK.pu _ _) dX1_tax_7 rfl rfl ?_
  refine k_call 11 hK (kc_X1_alone D l kd hN hQ x wd rd g h nb nch ncr hx0 hx3 hw hnb hch hcr p (by omega) L C) lk_X1_264 1 yk_X1_alone rfl ⟨by decide, by decide⟩ (fun _ hh z => (hx0 z)) rfl rfl (Nat.le_of_ble_eq_true rfl) dX1_tax_8 rfl (fun r L1 C1 h1 => ?_)
  obtain ⟨rfl, p1⟩ := h1
  exact KR.lg hR dX1_tax_11 rfl
theorem lk_X1_323 : GoodIn lw_all (wsV RX1 323 yX1_curveAt.cls yX1_curveAt (ws_ yX1_curveAt cX1_curveAt 3 (some .long))) := lw_V q3291 q3293 qs53 q102 q3294
theorem yk_X1_curveAt : yOk yX1_curveAt 2 := by decide +kernel
set_option maxHeartbeats 4000000 in
theorem kc_X1_curve (D : DD) (l : Launch) (kd : Nat → Nat) (hN : kwN kd) {Q : Heap → Prop} (hQ : kQ kd Q) {K0 : Nat → Prop} (x : Nat) (wd rd : Nat → Nat) (g : Nat → Int32) (h : Nat → Int64) (nb nch ncr : Nat) (hx0 : ∀ {H : Heap}, Q H → fld D 1 x 0 (.ref (wd 0)) H) (hx3 : ∀ {H : Heap}, Q H → fld D 1 x 3 (.ref (kd 0)) H) (hw : ∀ {H : Heap}, Q H → woK K0 D wd rd g h nb nch ncr H) (hnb : nb ≤ 6) (hch : nch ≤ 4) (hcr : ncr ≤ 6) (p : Nat) (hp : p < 6) (e : Int32) (hb : inB e 0 9999 = true) (L : TL) (C : TC) : Kc D l yX1_curve cX1_curve 3 (some .long) 8 219 kd Q [.ref x, .int (nI p), .int e] L C (fun r L' C' => r = some (.long (aloT g h nb nch ncr p e (g (64 + 3 * p + 2))))) := by
  refine Kc.of hN hQ (by decide) (Nat.le_of_ble_eq_true rfl) (fun s K hK hR => ?_)
  show K L C 0 [] [(0, .ref x), (1, .int (nI p)), (2, .int e)]
  refine r_aload_n 1 0 (hK.pu _ _) dX1_curve_0 rfl rfl ?_
  refine r_iload_n 2 1 (hK.pu _ _) dX1_curve_1 rfl rfl ?_
  refine k_callp 5 hK (fun _ hh z => cp_X1_person D l x wd rd g h nb nch ncr (hx0 z) (hw z) hnb hch hcr p (by omega) (per_in (by omega))) lk_X1_211 1 yk_X1_person rfl ⟨by decide, by decide⟩ (fun _ hh z => (hx0 z)) rfl rfl (Nat.le_of_ble_eq_true rfl) dX1_curve_2 rfl ?_
  refine r_pop 6 (hK.pu _ _) dX1_curve_5 rfl rfl ?_
  refine r_iload_n 7 2 (hK.pu _ _) dX1_curve_6 rfl rfl ?_
  refine r_iconst 8 0 (hK.pu _ _) dX1_curve_7 (by decide) rfl ?_
  refine r_sipush 11 9999 (hK.pu _ _) dX1_curve_8 (by decide) rfl ?_
  refine k_callS 14 hK (ts_X1_isBetween D l e 0 9999) lk_X1_70 3 yk_X1_isBetween rfl ⟨by decide, by decide⟩ rfl (Nat.le_of_ble_eq_true rfl) dX1_curve_11 rfl ?_
  refine r_eqi 1 (by simp [zB, *]) ?_
  refine k_callps 17 hK (fun _ _ _ => cp_X1_requireArgument_k D l) lk_X1_74 1 yk_X1_requireArgument rfl ⟨by decide, by decide⟩ rfl (Nat.le_of_ble_eq_true rfl) dX1_curve_14 rfl ?_
  refine r_aload_n 18 0 (hK.pu _ _) dX1_curve_17 rfl rfl ?_
  refine r_iload_n 19 1 (hK.pu _ _) dX1_curve_18 rfl rfl ?_
  refine r_iload_n 20 2 (hK.pu _ _) dX1_curve_19 rfl rfl ?_
  refine k_call 23 hK (kc_X1_curveAt D l kd hN hQ x wd rd g h nb nch ncr hx0 hx3 hw hnb hch hcr p (by omega) e L C) lk_X1_323 2 yk_X1_curveAt rfl ⟨by decide, by decide⟩ (fun _ hh z => (hx0 z)) rfl rfl (Nat.le_of_ble_eq_true rfl) dX1_curve_20 rfl (fun r L1 C1 h1 => ?_)
  obtain ⟨rfl, p1⟩ := h1
  exact KR.lg hR dX1_curve_23 rfl
set_option maxHeartbeats 4000000 in
theorem kc_X1_marginalRate (D : DD) (l : Launch) (kd : Nat → Nat) (hN : kwN kd) {Q : Heap → Prop} (hQ : kQ kd Q) {K0 : Nat → Prop} (x : Nat) (wd rd : Nat → Nat) (g : Nat → Int32) (h : Nat → Int64) (nb nch ncr : Nat) (hx0 : ∀ {H : Heap}, Q H → fld D 1 x 0 (.ref (wd 0)) H) (hx3 : ∀ {H : Heap}, Q H → fld D 1 x 3 (.ref (kd 0)) H) (hw : ∀ {H : Heap}, Q H → woK K0 D wd rd g h nb nch ncr H) (hnb : nb ≤ 6) (hch : nch ≤ 4) (hcr : ncr ≤ 6) (p : Nat) (hp : p < 6) (e : Int32) (hb : inB e 0 9998 = true) (L : TL) (C : TC) : Kc D l yX1_marginalRate cX1_marginalRate 3 (some .long) 8 219 kd Q [.ref x, .int (nI p), .int e] L C (fun r L' C' => r = some (.long (aloT g h nb nch ncr p (e + 1) (g (64 + 3 * p + 2)) - aloT g h nb nch ncr p e (g (64 + 3 * p + 2))))) := by
  refine Kc.of hN hQ (by decide) (Nat.le_of_ble_eq_true rfl) (fun s K hK hR => ?_)
  show K L C 0 [] [(0, .ref x), (1, .int (nI p)), (2, .int e)]
  refine r_aload_n 1 0 (hK.pu _ _) dX1_marginalRate_0 rfl rfl ?_
  refine r_iload_n 2 1 (hK.pu _ _) dX1_marginalRate_1 rfl rfl ?_
  refine k_callp 5 hK (fun _ hh z => cp_X1_person D l x wd rd g h nb nch ncr (hx0 z) (hw z) hnb hch hcr p (by omega) (per_in (by omega))) lk_X1_211 1 yk_X1_person rfl ⟨by decide, by decide⟩ (fun _ hh z => (hx0 z)) rfl rfl (Nat.le_of_ble_eq_true rfl) dX1_marginalRate_2 rfl ?_
  refine r_pop 6 (hK.pu _ _) dX1_marginalRate_5 rfl rfl ?_
  refine r_iload_n 7 2 (hK.pu _ _) dX1_marginalRate_6 rfl rfl ?_
  refine r_iconst 8 0 (hK.pu _ _) dX1_marginalRate_7 (by decide) rfl ?_
  refine r_sipush 11 9998 (hK.pu _ _) dX1_marginalRate_8 (by decide) rfl ?_
  refine k_callS 14 hK (ts_X1_isBetween D l e 0 9998) lk_X1_70 3 yk_X1_isBetween rfl ⟨by decide, by decide⟩ rfl (Nat.le_of_ble_eq_true rfl) dX1_marginalRate_11 rfl ?_
  refine r_eqi 1 (by simp [zB, *]) ?_
  refine k_callps 17 hK (fun _ _ _ => cp_X1_requireArgument_k D l) lk_X1_74 1 yk_X1_requireArgument rfl ⟨by decide, by decide⟩ rfl (Nat.le_of_ble_eq_true rfl) dX1_marginalRate_14 rfl ?_
  refine r_aload_n 18 0 (hK.pu _ _) dX1_marginalRate_17 rfl rfl ?_
  refine r_iload_n 19 1 (hK.pu _ _) dX1_marginalRate_18 rfl rfl ?_
  refine r_iload_n 20 2 (hK.pu _ _) dX1_marginalRate_19 rfl rfl ?_
  refine r_iconst 21 1 (hK.pu _ _) dX1_marginalRate_20 (by decide) rfl ?_
  refine r_iadd 22 (hK.pu _ _) dX1_marginalRate_21 rfl ?_
  refine k_call 25 hK (kc_X1_curveAt D l kd hN hQ x wd rd g h nb nch ncr hx0 hx3 hw hnb hch hcr p (by omega) (e + 1) L C) lk_X1_323 2 yk_X1_curveAt rfl ⟨by decide, by decide⟩ (fun _ hh z => (hx0 z)) rfl rfl (Nat.le_of_ble_eq_true rfl) dX1_marginalRate_22 rfl (fun r L1 C1 h1 => ?_)
  obtain ⟨rfl, p1⟩ := h1
  refine r_aload_n 26 0 (hK.pu _ _) dX1_marginalRate_25 rfl rfl ?_
  refine r_iload_n 27 1 (hK.pu _ _) dX1_marginalRate_26 rfl rfl ?_
  refine r_iload_n 28 2 (hK.pu _ _) dX1_marginalRate_27 rfl rfl ?_
  refine k_call 31 hK (kc_X1_curveAt D l kd hN hQ x wd rd g h nb nch ncr hx0 hx3 hw hnb hch hcr p (by omega) e L1 C1) lk_X1_323 2 yk_X1_curveAt rfl ⟨by decide, by decide⟩ (fun _ hh z => (hx0 z)) rfl rfl (Nat.le_of_ble_eq_true rfl) dX1_marginalRate_28 rfl (fun r L2 C2 h2 => ?_)
  obtain ⟨rfl, p2⟩ := h2
  refine r_lsub 32 (hK.pu _ _) dX1_marginalRate_31 rfl ?_
  exact KR.lg hR dX1_marginalRate_32 rfl
set_option maxHeartbeats 4000000 in
theorem kc_X1_taxPart (D : DD) (l : Launch) (kd : Nat → Nat) (hN : kwN kd) {Q : Heap → Prop} (hQ : kQ kd Q) {K0 : Nat → Prop} (x : Nat) (wd rd : Nat → Nat) (g : Nat → Int32) (h : Nat → Int64) (nb nch ncr : Nat) (hx0 : ∀ {H : Heap}, Q H → fld D 1 x 0 (.ref (wd 0)) H) (hx3 : ∀ {H : Heap}, Q H → fld D 1 x 3 (.ref (kd 0)) H) (hw : ∀ {H : Heap}, Q H → woK K0 D wd rd g h nb nch ncr H) (hnb : nb ≤ 6) (hch : nch ≤ 4) (hcr : ncr ≤ 6) (p : Nat) (hp : p < 6) (q : Nat) (hq : q < 6) (hqb : inB (nI q) 0 5 = true) (L : TL) (C : TC) : Kc D l yX1_taxPart cX1_taxPart 3 (some .long) 8 218 kd Q [.ref x, .int (nI p), .int (nI q)] L C (fun r L' C' => ∃ L1, owP g h nb nch ncr p L1 ∧ r = some (.long (L1 1 q))) := by
  refine Kc.of hN hQ (by decide) (Nat.le_of_ble_eq_true rfl) (fun s K hK hR => ?_)
  show K L C 0 [] [(0, .ref x), (1, .int (nI p)), (2, .int (nI q))]
  refine r_aload_n 1 0 (hK.pu _ _) dX1_taxPart_0 rfl rfl ?_
  refine r_iload_n 2 1 (hK.pu _ _) dX1_taxPart_1 rfl rfl ?_
  refine k_callp 5 hK (fun _ hh z => cp_X1_person D l x wd rd g h nb nch ncr (hx0 z) (hw z) hnb hch hcr p (by omega) (per_in (by omega))) lk_X1_211 1 yk_X1_person rfl ⟨by decide, by decide⟩ (fun _ hh z => (hx0 z)) rfl rfl (Nat.le_of_ble_eq_true rfl) dX1_taxPart_2 rfl ?_
  refine r_pop 6 (hK.pu _ _) dX1_taxPart_5 rfl rfl ?_
  refine r_iload_n 7 2 (hK.pu _ _) dX1_taxPart_6 rfl rfl ?_
  refine r_iconst 8 0 (hK.pu _ _) dX1_taxPart_7 (by decide) rfl ?_
  refine r_iconst 9 5 (hK.pu _ _) dX1_taxPart_8 (by decide) rfl ?_
  refine k_callS 12 hK (ts_X1_isBetween D l (nI q) 0 5) lk_X1_70 3 yk_X1_isBetween rfl ⟨by decide, by decide⟩ rfl (Nat.le_of_ble_eq_true rfl) dX1_taxPart_9 rfl ?_
  refine r_eqi 1 (by simp [zB, *]) ?_
  refine k_callps 15 hK (fun _ _ _ => cp_X1_requireArgument_k D l) lk_X1_74 1 yk_X1_requireArgument rfl ⟨by decide, by decide⟩ rfl (Nat.le_of_ble_eq_true rfl) dX1_taxPart_12 rfl ?_
  refine r_aload_n 16 0 (hK.pu _ _) dX1_taxPart_15 rfl rfl ?_
  refine r_iload_n 17 1 (hK.pu _ _) dX1_taxPart_16 rfl rfl ?_
  refine k_call 20 hK (kc_X1_alone D l kd hN hQ x wd rd g h nb nch ncr hx0 hx3 hw hnb hch hcr p (by omega) L C) lk_X1_264 1 yk_X1_alone rfl ⟨by decide, by decide⟩ (fun _ hh z => (hx0 z)) rfl rfl (Nat.le_of_ble_eq_true rfl) dX1_taxPart_17 rfl (fun r L1 C1 h1 => ?_)
  obtain ⟨rfl, p1⟩ := h1
  refine r_pop2 21 (hK.pu _ _) dX1_taxPart_20 rfl rfl ?_
  refine r_aload_n 22 0 (hK.pu _ _) dX1_taxPart_21 rfl rfl ?_
  refine k_getq 25 hK (T := TX1) (C' := RX1) 3 (v := .ref (kd 0)) okX1 (fun _ z => (hx3 z)) rfl (by decide) (Or.inl q553) (Or.inl rfl) dX1_taxPart_22 rfl ?_
  refine k_getc 28 hK 1 (.ref (kd 3)) (by decide) (Or.inr ⟨_, nw_q527⟩) (Or.inl rfl) rfl dX1_taxPart_25 rfl ?_
  refine r_iload_n 29 2 (hK.pu _ _) dX1_taxPart_28 rfl rfl ?_
  refine k_lald 30 hK 1 q (by decide) rfl (by show q < 6; omega) dX1_taxPart_29 rfl ?_
  exact KR.lg hR dX1_taxPart_30 ⟨L1, p1, rfl⟩
theorem lk_X1_270 : GoodIn lw_all (wsV RX1 270 yX6_creditPart.cls yX6_creditPart (ws_ yX6_creditPart cX6_creditPart 3 (some .long))) := lw_V q3238 q3239 q3240 q123 q3241
theorem yk_X6_creditPart : yOk yX6_creditPart 2 := by decide +kernel
set_option maxHeartbeats 4000000 in
theorem kc_X1_creditPart (D : DD) (l : Launch) (kd : Nat → Nat) (hN : kwN kd) {Q : Heap → Prop} (hQ : kQ kd Q) {K0 : Nat → Prop} (x : Nat) (wd rd : Nat → Nat) (g : Nat → Int32) (h : Nat → Int64) (nb nch ncr : Nat) (hx0 : ∀ {H : Heap}, Q H → fld D 1 x 0 (.ref (wd 0)) H) (hx3 : ∀ {H : Heap}, Q H → fld D 1 x 3 (.ref (kd 0)) H) (hw : ∀ {H : Heap}, Q H → woK K0 D wd rd g h nb nch ncr H) (hnb : nb ≤ 6) (hch : nch ≤ 4) (hcr : ncr ≤ 6) (p : Nat) (hp : p < 6) (k q : Nat) (hk : k < ncr) (hq : q < 5) (hcb : inB (nI k) 0 ((nI ncr) - 1) = true) (hqb : inB (nI q) 0 4 = true) (L : TL) (C : TC) : Kc D l yX1_creditPart cX1_creditPart 4 (some .long) 8 218 kd Q [.ref x, .int (nI p), .int (nI k), .int (nI q)] L C (fun r L' C' => ∃ L1, owP g h nb nch ncr p L1 ∧ r = some (.long (L1 (2 + q) k))) := by
  refine Kc.of hN hQ (by decide) (Nat.le_of_ble_eq_true rfl) (fun s K hK hR => ?_)
  show K L C 0 [] [(0, .ref x), (1, .int (nI p)), (2, .int (nI k)), (3, .int (nI q))]
  refine r_aload_n 1 0 (hK.pu _ _) dX1_creditPart_0 rfl rfl ?_
  refine r_iload_n 2 1 (hK.pu _ _) dX1_creditPart_1 rfl rfl ?_
  refine k_callp 5 hK (fun _ hh z => cp_X1_person D l x wd rd g h nb nch ncr (hx0 z) (hw z) hnb hch hcr p (by omega) (per_in (by omega))) lk_X1_211 1 yk_X1_person rfl ⟨by decide, by decide⟩ (fun _ hh z => (hx0 z)) rfl rfl (Nat.le_of_ble_eq_true rfl) dX1_creditPart_2 rfl ?_
  refine r_pop 6 (hK.pu _ _) dX1_creditPart_5 rfl rfl ?_
  refine r_aload_n 7 0 (hK.pu _ _) dX1_creditPart_6 rfl rfl ?_
  refine r_iload_n 8 2 (hK.pu _ _) dX1_creditPart_7 rfl rfl ?_
  refine k_callp 11 hK (fun _ hh z => cp_X1_requireCredit D l x wd rd g h nb nch ncr (hx0 z) (hw z) hnb hch hcr (nI k) hcb) lk_X1_171 1 yk_X1_requireCredit rfl ⟨by decide, by decide⟩ (fun _ hh z => (hx0 z)) rfl rfl (Nat.le_of_ble_eq_true rfl) dX1_creditPart_8 rfl ?_
  refine r_iload_n 12 3 (hK.pu _ _) dX1_creditPart_11 rfl rfl ?_
  refine r_iconst 13 0 (hK.pu _ _) dX1_creditPart_12 (by decide) rfl ?_
  refine r_iconst 14 4 (hK.pu _ _) dX1_creditPart_13 (by decide) rfl ?_
  refine k_callS 17 hK (ts_X1_isBetween D l (nI q) 0 4) lk_X1_70 3 yk_X1_isBetween rfl ⟨by decide, by decide⟩ rfl (Nat.le_of_ble_eq_true rfl) dX1_creditPart_14 rfl ?_
  refine r_eqi 1 (by simp [zB, *]) ?_
  refine k_callps 20 hK (fun _ _ _ => cp_X1_requireArgument_k D l) lk_X1_74 1 yk_X1_requireArgument rfl ⟨by decide, by decide⟩ rfl (Nat.le_of_ble_eq_true rfl) dX1_creditPart_17 rfl ?_
  refine r_aload_n 21 0 (hK.pu _ _) dX1_creditPart_20 rfl rfl ?_
  refine r_iload_n 22 1 (hK.pu _ _) dX1_creditPart_21 rfl rfl ?_
  refine k_call 25 hK (kc_X1_alone D l kd hN hQ x wd rd g h nb nch ncr hx0 hx3 hw hnb hch hcr p (by omega) L C) lk_X1_264 1 yk_X1_alone rfl ⟨by decide, by decide⟩ (fun _ hh z => (hx0 z)) rfl rfl (Nat.le_of_ble_eq_true rfl) dX1_creditPart_22 rfl (fun r L1 C1 h1 => ?_)
  obtain ⟨rfl, p1⟩ := h1
  refine r_pop2 26 (hK.pu _ _) dX1_creditPart_25 rfl rfl ?_
  refine r_aload_n 27 0 (hK.pu _ _) dX1_creditPart_26 rfl rfl ?_
  refine k_getq 30 hK (T := TX1) (C' := RX1) 3 (v := .ref (kd 0)) okX1 (fun _ z => (hx3 z)) rfl (by decide) (Or.inl q553) (Or.inl rfl) dX1_creditPart_27 rfl ?_
  refine r_iload_n 31 2 (hK.pu _ _) dX1_creditPart_30 rfl rfl ?_
  refine r_iload_n 32 3 (hK.pu _ _) dX1_creditPart_31 rfl rfl ?_
  refine k_d1 35 hK (kc_X6_creditPart D l kd hN hQ k q (by omega) (by omega) L1 C1) lk_X1_270 2 yk_X6_creditPart rfl ⟨by decide, by decide⟩ (fun _ hh z => (hh.1.fld 0 rfl)) rfl rfl (Nat.le_of_ble_eq_true rfl) dX1_creditPart_32 rfl ?_
  exact KR.lg hR dX1_creditPart_35 ⟨L1, p1, rfl⟩
set_option maxHeartbeats 4000000 in
theorem kc_X1_carried (D : DD) (l : Launch) (kd : Nat → Nat) (hN : kwN kd) {Q : Heap → Prop} (hQ : kQ kd Q) {K0 : Nat → Prop} (x : Nat) (wd rd : Nat → Nat) (g : Nat → Int32) (h : Nat → Int64) (nb nch ncr : Nat) (hx0 : ∀ {H : Heap}, Q H → fld D 1 x 0 (.ref (wd 0)) H) (hx3 : ∀ {H : Heap}, Q H → fld D 1 x 3 (.ref (kd 0)) H) (hw : ∀ {H : Heap}, Q H → woK K0 D wd rd g h nb nch ncr H) (hnb : nb ≤ 6) (hch : nch ≤ 4) (hcr : ncr ≤ 6) (p : Nat) (hp : p < 6) (k : Nat) (hk : k < ncr) (hcb : inB (nI k) 0 ((nI ncr) - 1) = true) (L : TL) (C : TC) : Kc D l yX1_carried cX1_carried 3 (some .long) 3 64 kd Q [.ref x, .int (nI p), .int (nI k)] L C (fun r L' C' => r = some (.long (h (6 * p + k)))) := by
  refine Kc.of hN hQ (by decide) (Nat.le_of_ble_eq_true rfl) (fun s K hK hR => ?_)
  show K L C 0 [] [(0, .ref x), (1, .int (nI p)), (2, .int (nI k))]
  refine r_aload_n 1 0 (hK.pu _ _) dX1_carried_0 rfl rfl ?_
  refine r_iload_n 2 1 (hK.pu _ _) dX1_carried_1 rfl rfl ?_
  refine k_callp 5 hK (fun _ hh z => cp_X1_person D l x wd rd g h nb nch ncr (hx0 z) (hw z) hnb hch hcr p (by omega) (per_in (by omega))) lk_X1_211 1 yk_X1_person rfl ⟨by decide, by decide⟩ (fun _ hh z => (hx0 z)) rfl rfl (Nat.le_of_ble_eq_true rfl) dX1_carried_2 rfl ?_
  refine r_pop 6 (hK.pu _ _) dX1_carried_5 rfl rfl ?_
  refine r_aload_n 7 0 (hK.pu _ _) dX1_carried_6 rfl rfl ?_
  refine r_iload_n 8 2 (hK.pu _ _) dX1_carried_7 rfl rfl ?_
  refine k_callp 11 hK (fun _ hh z => cp_X1_requireCredit D l x wd rd g h nb nch ncr (hx0 z) (hw z) hnb hch hcr (nI k) hcb) lk_X1_171 1 yk_X1_requireCredit rfl ⟨by decide, by decide⟩ (fun _ hh z => (hx0 z)) rfl rfl (Nat.le_of_ble_eq_true rfl) dX1_carried_8 rfl ?_
  refine r_aload_n 12 0 (hK.pu _ _) dX1_carried_11 rfl rfl ?_
  refine k_getq 15 hK (T := TX1) (C' := RX1) 0 (v := .ref (wd 0)) okX1 (fun _ z => (hx0 z)) rfl (by decide) (Or.inl q550) (Or.inl rfl) dX1_carried_12 rfl ?_
  refine k_getq 18 hK (T := TX2) (C' := RX2) 3 (v := .ref (wd 3)) okX2 (fun _ z => ((hw z).o.fld 3 rfl)) rfl (by decide) (Or.inr ⟨_, nw_q454⟩) (Or.inl rfl) dX1_carried_15 rfl ?_
  refine r_iload_n 19 1 (hK.pu _ _) dX1_carried_18 rfl rfl ?_
  refine k_callp 22 hK (fun _ hh z => cp_J8_get D l (wd 3) (wd 4) 6 p (fun p => wd (20 + p)) (hw z).ca (by omega)) lk_X1_164 1 yk_J8_get rfl ⟨by decide, by decide⟩ (fun _ hh z => (hw z).ca.sz) rfl rfl (Nat.le_of_ble_eq_true rfl) dX1_carried_19 rfl ?_
  refine k_casta 25 hK (fun _ z => (hw z).c (p := p) (by omega)) q1958 dX1_carried_22 rfl ?_
  refine r_iload_n 26 2 (hK.pu _ _) dX1_carried_25 rfl rfl ?_
  refine k_laldq 27 hK k (fun _ z => (((hw z).c (p := p) (by omega)).el (j := k) (by omega))) rfl (by omega) (by omega) dX1_carried_26 rfl ?_
  exact KR.lg hR dX1_carried_27 rfl
set_option maxHeartbeats 4000000 in
theorem kc_X1_jointTax (D : DD) (l : Launch) (kd : Nat → Nat) (hN : kwN kd) {Q : Heap → Prop} (hQ : kQ kd Q) {K0 : Nat → Prop} (x : Nat) (wd rd : Nat → Nat) (g : Nat → Int32) (h : Nat → Int64) (nb nch ncr : Nat) (hx0 : ∀ {H : Heap}, Q H → fld D 1 x 0 (.ref (wd 0)) H) (hx3 : ∀ {H : Heap}, Q H → fld D 1 x 3 (.ref (kd 0)) H) (hw : ∀ {H : Heap}, Q H → woK K0 D wd rd g h nb nch ncr H) (hnb : nb ≤ 6) (hch : nch ≤ 4) (hcr : ncr ≤ 6) (p q a b n : Nat) (hc : cpl g p q a b n) (hno : ¬ g (82 + p) = -1) (L : TL) (C : TC) : Kc D l yX1_jointTax cX1_jointTax 2 (some .long) 7 199 kd Q [.ref x, .int (nI p)] L C (fun r L' C' => r = some (.long (joT g h nb nch ncr p q))) := by
  have hc := hc
  obtain ⟨hp, hq, ha, hb, hn, hpq, hf, hab, hall⟩ := id hc
  refine Kc.of hN hQ (by decide) (Nat.le_of_ble_eq_true rfl) (fun s K hK hR => ?_)
  show K L C 0 [] [(0, .ref x), (1, .int (nI p))]
  refine r_aload_n 1 0 (hK.pu _ _) dX1_jointTax_0 rfl rfl ?_
  refine r_iload_n 2 1 (hK.pu _ _) dX1_jointTax_1 rfl rfl ?_
  refine k_callp 5 hK (fun _ hh z => cp_X1_requirePartner D l x wd rd g h nb nch ncr (hx0 z) (hw z) hnb hch hcr p (by omega) hno) lk_X1_235 1 yk_X1_requirePartner rfl ⟨by decide, by decide⟩ (fun _ hh z => (hx0 z)) rfl rfl (Nat.le_of_ble_eq_true rfl) dX1_jointTax_2 rfl ?_
  refine r_pop 6 (hK.pu _ _) dX1_jointTax_5 rfl rfl ?_
  refine r_aload_n 7 0 (hK.pu _ _) dX1_jointTax_6 rfl rfl ?_
  refine r_iload_n 8 1 (hK.pu _ _) dX1_jointTax_7 rfl rfl ?_
  refine k_call 11 hK (kc_X1_joint D l kd hN hQ x wd rd g h nb nch ncr hx0 hx3 hw hnb hch hcr p q a b n hc  L C) lk_X1_290 1 yk_X1_joint rfl ⟨by decide, by decide⟩ (fun _ hh z => (hx0 z)) rfl rfl (Nat.le_of_ble_eq_true rfl) dX1_jointTax_8 rfl (fun r L1 C1 h1 => ?_)
  obtain ⟨rfl, p1⟩ := h1
  exact KR.lg hR dX1_jointTax_11 rfl
set_option maxHeartbeats 4000000 in
theorem kc_X1_separateTax (D : DD) (l : Launch) (kd : Nat → Nat) (hN : kwN kd) {Q : Heap → Prop} (hQ : kQ kd Q) {K0 : Nat → Prop} (x : Nat) (wd rd : Nat → Nat) (g : Nat → Int32) (h : Nat → Int64) (nb nch ncr : Nat) (hx0 : ∀ {H : Heap}, Q H → fld D 1 x 0 (.ref (wd 0)) H) (hx3 : ∀ {H : Heap}, Q H → fld D 1 x 3 (.ref (kd 0)) H) (hw : ∀ {H : Heap}, Q H → woK K0 D wd rd g h nb nch ncr H) (hnb : nb ≤ 6) (hch : nch ≤ 4) (hcr : ncr ≤ 6) (p q a b n : Nat) (hc : cpl g p q a b n) (hno : ¬ g (82 + p) = -1) (L : TL) (C : TC) : Kc D l yX1_separateTax cX1_separateTax 2 (some .long) 10 267 kd Q [.ref x, .int (nI p)] L C (fun r L' C' => r = some (.long (seT g h nb nch ncr a b n))) := by
  have hc := hc
  obtain ⟨hp, hq, ha, hb, hn, hpq, hf, hab, hall⟩ := id hc
  refine Kc.of hN hQ (by decide) (Nat.le_of_ble_eq_true rfl) (fun s K hK hR => ?_)
  show K L C 0 [] [(0, .ref x), (1, .int (nI p))]
  refine r_aload_n 1 0 (hK.pu _ _) dX1_separateTax_0 rfl rfl ?_
  refine r_iload_n 2 1 (hK.pu _ _) dX1_separateTax_1 rfl rfl ?_
  refine k_callp 5 hK (fun _ hh z => cp_X1_requirePartner D l x wd rd g h nb nch ncr (hx0 z) (hw z) hnb hch hcr p (by omega) hno) lk_X1_235 1 yk_X1_requirePartner rfl ⟨by decide, by decide⟩ (fun _ hh z => (hx0 z)) rfl rfl (Nat.le_of_ble_eq_true rfl) dX1_separateTax_2 rfl ?_
  refine r_pop 6 (hK.pu _ _) dX1_separateTax_5 rfl rfl ?_
  refine r_aload_n 7 0 (hK.pu _ _) dX1_separateTax_6 rfl rfl ?_
  refine r_iload_n 8 1 (hK.pu _ _) dX1_separateTax_7 rfl rfl ?_
  refine k_call 11 hK (kc_X1_separate D l kd hN hQ x wd rd g h nb nch ncr hx0 hx3 hw hnb hch hcr p q a b n hc  L C) lk_X1_293 1 yk_X1_separate rfl ⟨by decide, by decide⟩ (fun _ hh z => (hx0 z)) rfl rfl (Nat.le_of_ble_eq_true rfl) dX1_separateTax_8 rfl (fun r L1 C1 h1 => ?_)
  subst h1
  exact KR.lg hR dX1_separateTax_11 rfl
set_option maxHeartbeats 4000000 in
theorem kc_X1_division (D : DD) (l : Launch) (kd : Nat → Nat) (hN : kwN kd) {Q : Heap → Prop} (hQ : kQ kd Q) {K0 : Nat → Prop} (x : Nat) (wd rd : Nat → Nat) (g : Nat → Int32) (h : Nat → Int64) (nb nch ncr : Nat) (hx0 : ∀ {H : Heap}, Q H → fld D 1 x 0 (.ref (wd 0)) H) (hx3 : ∀ {H : Heap}, Q H → fld D 1 x 3 (.ref (kd 0)) H) (hw : ∀ {H : Heap}, Q H → woK K0 D wd rd g h nb nch ncr H) (hnb : nb ≤ 6) (hch : nch ≤ 4) (hcr : ncr ≤ 6) (p q a b n : Nat) (hc : cpl g p q a b n) (hno : ¬ g (82 + p) = -1) (L : TL) (C : TC) : Kc D l yX1_division cX1_division 2 (some .int) 9 246 kd Q [.ref x, .int (nI p)] L C (fun r L' C' => r = some (.int (nI (beT g h nb nch ncr a b n)))) := by
  have hc := hc
  obtain ⟨hp, hq, ha, hb, hn, hpq, hf, hab, hall⟩ := id hc
  refine Kc.of hN hQ (by decide) (Nat.le_of_ble_eq_true rfl) (fun s K hK hR => ?_)
  show K L C 0 [] [(0, .ref x), (1, .int (nI p))]
  refine r_aload_n 1 0 (hK.pu _ _) dX1_division_0 rfl rfl ?_
  refine r_iload_n 2 1 (hK.pu _ _) dX1_division_1 rfl rfl ?_
  refine k_callp 5 hK (fun _ hh z => cp_X1_requirePartner D l x wd rd g h nb nch ncr (hx0 z) (hw z) hnb hch hcr p (by omega) hno) lk_X1_235 1 yk_X1_requirePartner rfl ⟨by decide, by decide⟩ (fun _ hh z => (hx0 z)) rfl rfl (Nat.le_of_ble_eq_true rfl) dX1_division_2 rfl ?_
  refine r_pop 6 (hK.pu _ _) dX1_division_5 rfl rfl ?_
  refine r_aload_n 7 0 (hK.pu _ _) dX1_division_6 rfl rfl ?_
  refine r_iload_n 8 1 (hK.pu _ _) dX1_division_7 rfl rfl ?_
  refine k_call 11 hK (kc_X1_bestDivision D l kd hN hQ x wd rd g h nb nch ncr hx0 hx3 hw hnb hch hcr p q a b n hc  L C) lk_X1_287 1 yk_X1_bestDivision rfl ⟨by decide, by decide⟩ (fun _ hh z => (hx0 z)) rfl rfl (Nat.le_of_ble_eq_true rfl) dX1_division_8 rfl (fun r L1 C1 h1 => ?_)
  subst h1
  exact KR.i hR rfl dX1_division_11 rfl
theorem lk_X1_299 : GoodIn lw_all (wsV RX1 299 yX1_isJoint.cls yX1_isJoint (ws_ yX1_isJoint cX1_isJoint 2 (some .boolean))) := lw_V q1989 q1991 qs33 q102 q1992
theorem yk_X1_isJoint : yOk yX1_isJoint 1 := by decide +kernel
set_option maxHeartbeats 4000000 in
theorem kc_X1_choosesJoint (D : DD) (l : Launch) (kd : Nat → Nat) (hN : kwN kd) {Q : Heap → Prop} (hQ : kQ kd Q) {K0 : Nat → Prop} (x : Nat) (wd rd : Nat → Nat) (g : Nat → Int32) (h : Nat → Int64) (nb nch ncr : Nat) (hx0 : ∀ {H : Heap}, Q H → fld D 1 x 0 (.ref (wd 0)) H) (hx3 : ∀ {H : Heap}, Q H → fld D 1 x 3 (.ref (kd 0)) H) (hw : ∀ {H : Heap}, Q H → woK K0 D wd rd g h nb nch ncr H) (hnb : nb ≤ 6) (hch : nch ≤ 4) (hcr : ncr ≤ 6) (p q a b n : Nat) (hc : cpl g p q a b n) (hno : ¬ g (82 + p) = -1) (L : TL) (C : TC) : Kc D l yX1_choosesJoint cX1_choosesJoint 2 (some .boolean) 11 288 kd Q [.ref x, .int (nI p)] L C (fun r L' C' => r = some (.int (zB (decide (joT g h nb nch ncr p q < seT g h nb nch ncr a b n))))) := by
  have hc := hc
  obtain ⟨hp, hq, ha, hb, hn, hpq, hf, hab, hall⟩ := id hc
  refine Kc.of hN hQ (by decide) (Nat.le_of_ble_eq_true rfl) (fun s K hK hR => ?_)
  show K L C 0 [] [(0, .ref x), (1, .int (nI p))]
  refine r_aload_n 1 0 (hK.pu _ _) dX1_choosesJoint_0 rfl rfl ?_
  refine r_iload_n 2 1 (hK.pu _ _) dX1_choosesJoint_1 rfl rfl ?_
  refine k_callp 5 hK (fun _ hh z => cp_X1_requirePartner D l x wd rd g h nb nch ncr (hx0 z) (hw z) hnb hch hcr p (by omega) hno) lk_X1_235 1 yk_X1_requirePartner rfl ⟨by decide, by decide⟩ (fun _ hh z => (hx0 z)) rfl rfl (Nat.le_of_ble_eq_true rfl) dX1_choosesJoint_2 rfl ?_
  refine r_pop 6 (hK.pu _ _) dX1_choosesJoint_5 rfl rfl ?_
  refine r_aload_n 7 0 (hK.pu _ _) dX1_choosesJoint_6 rfl rfl ?_
  refine r_iload_n 8 1 (hK.pu _ _) dX1_choosesJoint_7 rfl rfl ?_
  refine k_call 11 hK (kc_X1_isJoint D l kd hN hQ x wd rd g h nb nch ncr hx0 hx3 hw hnb hch hcr p q a b n hc  L C) lk_X1_299 1 yk_X1_isJoint rfl ⟨by decide, by decide⟩ (fun _ hh z => (hx0 z)) rfl rfl (Nat.le_of_ble_eq_true rfl) dX1_choosesJoint_8 rfl (fun r L1 C1 h1 => ?_)
  subst h1
  exact KR.i hR (zB_narrow _) dX1_choosesJoint_11 rfl
