set_option maxHeartbeats 4000000 in
theorem fc_J15_init_4 (D : DD) (l : Launch) {KS : Nat → Prop} {Hb : Heap} (a : Nat) : Fc D l yJ15_init_4 cJ15_init_4 5 none 1 0 0 20 KS Hb [.ref a, .null, .null, .int 0, .int 0] ([oC a 9 [.null, .null, .null, .null, .null, .int 0, .int 0]]) ([]) (fun r w i => r = none ∧ w = [oC a 9 [.null, .null, .null, .null, .null, .int 0, .int 0]] ∧ i = []) := by
  refine Fc.of (by decide) (Nat.le_of_ble_eq_true rfl) (fun s F hF hR => ?_)
  show F 0 0 ([oC a 9 [.null, .null, .null, .null, .null, .int 0, .int 0]]) ([]) 0 [] [(0, .ref a), (1, .null), (2, .null), (3, .int 0), (4, .int 0)]
  refine r_aload_n 1 0 (hF.pu _ _ _ _) dJ15_init_4_0 rfl rfl ?_
  refine f_objInit 4 hF q705 q179 q180 ⟨by decide, by decide⟩ dJ15_init_4_1 rfl ?_
  refine r_aload_n 5 0 (hF.pu _ _ _ _) dJ15_init_4_4 rfl rfl ?_
  refine r_aload_n 6 0 (hF.pu _ _ _ _) dJ15_init_4_5 rfl rfl ?_
  refine f_put 9 hF 0 (T := TX10) (C := RX10) ([oC a 9 [.ref a, .null, .null, .null, .null, .int 0, .int 0]]) okX10 rfl rfl 0 (by decide) (Or.inl q960) (Or.inl rfl) rfl rfl rfl (Nat.le_of_ble_eq_true rfl) rfl dJ15_init_4_6 rfl ?_
  refine r_aload_n 10 0 (hF.pu _ _ _ _) dJ15_init_4_9 rfl rfl ?_
  refine f_getsX 13 hF (List.mem_of_getElem? (i := 0) rfl)  q706 dJ15_init_4_10 rfl (fun z1 hz1 => ?_)
  refine f_put 16 hF 0 (T := TX10) (C := RX10) ([oC a 9 [.ref a, z1, .null, .null, .null, .int 0, .int 0]]) okX10 rfl rfl 1 (by decide) (Or.inl q961) (Or.inl rfl) rfl (by rcases hz1 with rfl | ⟨_, rfl⟩ <;> rfl) (by rcases hz1 with rfl | ⟨_, rfl⟩ <;> rfl) (Nat.le_of_ble_eq_true rfl) rfl dJ15_init_4_13 rfl ?_
  refine r_aload_n 17 0 (hF.pu _ _ _ _) dJ15_init_4_16 rfl rfl ?_
  refine f_getsX 20 hF (List.mem_of_getElem? (i := 1) rfl)  q708 dJ15_init_4_17 rfl (fun z2 hz2 => ?_)
  refine f_put 23 hF 0 (T := TX10) (C := RX10) ([oC a 9 [.ref a, z1, z2, .null, .null, .int 0, .int 0]]) okX10 rfl rfl 2 (by decide) (Or.inl q962) (Or.inl rfl) rfl (by rcases hz2 with rfl | ⟨_, rfl⟩ <;> rfl) (by rcases hz2 with rfl | ⟨_, rfl⟩ <;> rfl) (Nat.le_of_ble_eq_true rfl) rfl dJ15_init_4_20 rfl ?_
  refine r_iload 25 4 (hF.pu _ _ _ _) dJ15_init_4_23 rfl rfl ?_
  refine r_if_eq 28 36 (hF.pu _ _ _ _) dJ15_init_4_25 (by decide) (fun _ => ?_) rfl (fun c => absurd (by decide) c)
  refine r_aload_n 37 0 (hF.pu _ _ _ _) dJ15_init_4_36 rfl rfl ?_
  refine r_null 38 (hF.pu _ _ _ _) dJ15_init_4_37 rfl ?_
  refine f_put 41 hF 0 (T := TX10) (C := RX10) ([oC a 9 [.ref a, .null, z2, .null, .null, .int 0, .int 0]]) okX10 rfl rfl 1 (by decide) (Or.inl q961) (Or.inl rfl) rfl rfl rfl (Nat.le_of_ble_eq_true rfl) rfl dJ15_init_4_38 rfl ?_
  refine r_aload_n 42 0 (hF.pu _ _ _ _) dJ15_init_4_41 rfl rfl ?_
  refine r_aload_nN 43 1 (hF.pu _ _ _ _) dJ15_init_4_42 rfl rfl ?_
  refine f_put 46 hF 0 (T := TX10) (C := RX10) ([oC a 9 [.ref a, .null, z2, .null, .null, .int 0, .int 0]]) okX10 rfl rfl 3 (by decide) (Or.inl q959) (Or.inl rfl) rfl rfl rfl (Nat.le_of_ble_eq_true rfl) rfl dJ15_init_4_43 rfl ?_
  refine r_aload_n 47 0 (hF.pu _ _ _ _) dJ15_init_4_46 rfl rfl ?_
  refine r_aload_nN 48 2 (hF.pu _ _ _ _) dJ15_init_4_47 rfl rfl ?_
  refine f_put 51 hF 0 (T := TX10) (C := RX10) ([oC a 9 [.null, .null, z2, .null, .null, .int 0, .int 0]]) okX10 rfl rfl 0 (by decide) (Or.inl q960) (Or.inl rfl) rfl rfl rfl (Nat.le_of_ble_eq_true rfl) rfl dJ15_init_4_48 rfl ?_
  refine r_iload_n 52 3 (hF.pu _ _ _ _) dJ15_init_4_51 rfl rfl ?_
  refine r_if_ne 55 60 (hF.pu _ _ _ _) dJ15_init_4_52 (by decide) (fun c => absurd (by decide) c) rfl (fun _ => ?_)
  refine r_aload_n 56 0 (hF.pu _ _ _ _) dJ15_init_4_55 rfl rfl ?_
  refine r_null 57 (hF.pu _ _ _ _) dJ15_init_4_56 rfl ?_
  refine f_put 60 hF 0 (T := TX10) (C := RX10) ([oC a 9 [.null, .null, .null, .null, .null, .int 0, .int 0]]) okX10 rfl rfl 2 (by decide) (Or.inl q962) (Or.inl rfl) rfl rfl rfl (Nat.le_of_ble_eq_true rfl) rfl dJ15_init_4_57 rfl ?_
  exact FR.v hR dJ15_init_4_60 (Nat.le_of_ble_eq_true rfl) (Nat.le_of_ble_eq_true rfl) ⟨rfl, rfl, rfl⟩
theorem yk_J15_init_4 : yOk yJ15_init_4 4 := by decide +kernel
set_option maxHeartbeats 4000000 in
theorem fc_J16_init_4 (D : DD) (l : Launch) {KS : Nat → Prop} {Hb : Heap} (a : Nat) : Fc D l yJ16_init_4 cJ16_init_4 5 none 2 0 0 44 KS Hb [.ref a, .null, .null, .int 0, .int 0] ([oC a 9 [.null, .null, .null, .null, .null, .int 0, .int 0]]) ([]) (fun r w i => r = none ∧ w = [oC a 9 [.null, .null, .null, .null, .null, .int 0, .int 0]] ∧ i = []) := by
  refine Fc.of (by decide) (Nat.le_of_ble_eq_true rfl) (fun s F hF hR => ?_)
  show F 0 0 ([oC a 9 [.null, .null, .null, .null, .null, .int 0, .int 0]]) ([]) 0 [] [(0, .ref a), (1, .null), (2, .null), (3, .int 0), (4, .int 0)]
  refine r_aload_n 1 0 (hF.pu _ _ _ _) dJ16_init_4_0 rfl rfl ?_
  refine r_aload_nN 2 1 (hF.pu _ _ _ _) dJ16_init_4_1 rfl rfl ?_
  refine r_aload_nN 3 2 (hF.pu _ _ _ _) dJ16_init_4_2 rfl rfl ?_
  refine r_iload_n 4 3 (hF.pu _ _ _ _) dJ16_init_4_3 rfl rfl ?_
  refine r_iload 6 4 (hF.pu _ _ _ _) dJ16_init_4_4 rfl rfl ?_
  refine f_callI 9 hF (fc_J15_init_4 (KS := KS) (Hb := Hb) D l a) (wr := ([])) rfl (imk [] rfl) q2151 q126 q2149 q2150 rfl 4 yk_J15_init_4 rfl ⟨by decide, by decide⟩ rfl (Nat.le_of_ble_eq_true rfl) dJ16_init_4_6 ⟨Nat.le_of_ble_eq_true rfl, Nat.le_of_ble_eq_true rfl⟩ rfl (fun r ws_ im' hp => ?_)
  obtain ⟨rfl, rfl, rfl⟩ := hp
  show F 0 0 ([oC a 9 [.null, .null, .null, .null, .null, .int 0, .int 0]]) ([]) 9 [] [(0, .ref a), (1, .null), (2, .null), (3, .int 0), (4, .int 0)]
  exact FR.v hR dJ16_init_4_9 (Nat.le_of_ble_eq_true rfl) (Nat.le_of_ble_eq_true rfl) ⟨rfl, rfl, rfl⟩
theorem yk_J16_init_4 : yOk yJ16_init_4 4 := by decide +kernel
set_option maxHeartbeats 4000000 in
theorem fc_X10_init (D : DD) (l : Launch) {KS : Nat → Prop} {Hb : Heap} (a : Nat) (pos : Nat) : Fc D l yX10_init cX10_init 2 none 3 0 0 68 KS Hb [.ref a, .int (nI pos)] ([oC a 9 [.null, .null, .null, .null, .null, .int 0, .int 0]]) ([]) (fun r w i => r = none ∧ w = [oC a 9 [.null, .null, .null, .null, .null, .int 0, .int (nI pos)]] ∧ i = []) := by
  refine Fc.of (by decide) (Nat.le_of_ble_eq_true rfl) (fun s F hF hR => ?_)
  show F 0 0 ([oC a 9 [.null, .null, .null, .null, .null, .int 0, .int 0]]) ([]) 0 [] [(0, .ref a), (1, .int (nI pos))]
  refine r_aload_n 1 0 (hF.pu _ _ _ _) dX10_init_0 rfl rfl ?_
  refine r_null 2 (hF.pu _ _ _ _) dX10_init_1 rfl ?_
  refine r_null 3 (hF.pu _ _ _ _) dX10_init_2 rfl ?_
  refine r_iconst 4 0 (hF.pu _ _ _ _) dX10_init_3 (by decide) rfl ?_
  refine r_iconst 5 0 (hF.pu _ _ _ _) dX10_init_4 (by decide) rfl ?_
  refine f_callI 8 hF (fc_J16_init_4 (KS := KS) (Hb := Hb) D l a) (wr := ([])) rfl (imk [] rfl) q2148 q127 q2146 q2147 rfl 4 yk_J16_init_4 rfl ⟨by decide, by decide⟩ rfl (Nat.le_of_ble_eq_true rfl) dX10_init_5 ⟨Nat.le_of_ble_eq_true rfl, Nat.le_of_ble_eq_true rfl⟩ rfl (fun r ws_ im' hp => ?_)
  obtain ⟨rfl, rfl, rfl⟩ := hp
  show F 0 0 ([oC a 9 [.null, .null, .null, .null, .null, .int 0, .int 0]]) ([]) 8 [] [(0, .ref a), (1, .int (nI pos))]
  refine r_aload_n 9 0 (hF.pu _ _ _ _) dX10_init_8 rfl rfl ?_
  refine r_iload_n 10 1 (hF.pu _ _ _ _) dX10_init_9 rfl rfl ?_
  refine f_putF 13 hF 0 (T := TX10) (C := RX10) ([oC a 9 [.null, .null, .null, .null, .null, .int 0, .int (nI pos)]]) okX10 rfl rfl 6 (by decide) q2152 rfl rfl rfl rfl rfl (Nat.le_of_ble_eq_true rfl) rfl dX10_init_10 rfl ?_
  exact FR.v hR dX10_init_13 (Nat.le_of_ble_eq_true rfl) (Nat.le_of_ble_eq_true rfl) ⟨rfl, rfl, rfl⟩
set_option maxHeartbeats 2000000 in
theorem cp_X9_here (D : DD) (l : Launch) {H0 : Heap} (r x tx sp : Nat) (t : Nat → Int32) (ln : Nat) (hln : ln ≤ 80) (hch : ∀ i, i < ln → inB (t i) 33 126 = true) (hsp : sp ≤ ln) (hr1 : fld D 8 r 1 (.int (nI sp)) H0) (hr4 : fld D 8 r 4 (.ref x) H0) (hx4 : fld D 1 x 4 (.ref tx) H0) (hx5 : fld D 1 x 5 (.int (nI ln)) H0) (ht : arc D 80 t tx H0) : Cp D l yX9_here cX9_here 1 (some .char) 0 0 [.ref r] H0 (some (.int (heC t ln sp))) := by
  refine Cp.of (by decide) (Nat.le_of_ble_eq_true rfl) (fun s A J hJ hR => ?_)
  show J H0 0 0 0 [] [(0, .ref r)]
  refine r_aload_n 1 0 (hJ.pu _ _ _) dX9_here_0 rfl rfl ?_
  refine j_getf 4 hJ (T := TX9) (C := RX9) 1 (v := .int (nI sp)) okX9 hr1 rfl (by decide) (Or.inl q2051) (Or.inl rfl) dX9_here_1 rfl ?_
  refine r_aload_n 5 0 (hJ.pu _ _ _) dX9_here_4 rfl rfl ?_
  refine j_getf 8 hJ (T := TX9) (C := RX9) 4 (v := .ref x) okX9 hr4 rfl (by decide) (Or.inl q2055) (Or.inl rfl) dX9_here_5 rfl ?_
  refine j_getf 11 hJ (T := TX1) (C := RX1) 5 (v := .int (nI ln)) okX1 hx5 rfl (by decide) (Or.inr ⟨_, nw_q556⟩) (Or.inl rfl) dX9_here_8 rfl ?_
  refine r_icmp_geN sp ln 14 29 (hJ.pu _ _ _) dX9_here_11 (by omega) (by omega) (by decide) (fun c11 => ?_) rfl (fun c11 => ?_)
  · refine r_bipush 31 32 (hJ.pu _ _ _) dX9_here_29 (by decide) rfl ?_
    exact Rt.i hR (by decide) dX9_here_31 (Nat.zero_le _) (Nat.zero_le _) ⟨(by unfold heC; rw [if_neg (by omega)]), rfl⟩
  · refine r_aload_n 15 0 (hJ.pu _ _ _) dX9_here_14 rfl rfl ?_
    refine j_getf 18 hJ (T := TX9) (C := RX9) 4 (v := .ref x) okX9 hr4 rfl (by decide) (Or.inl q2055) (Or.inl rfl) dX9_here_15 rfl ?_
    refine j_getf 21 hJ (T := TX1) (C := RX1) 4 (v := .ref tx) okX1 hx4 rfl (by decide) (Or.inr ⟨_, nw_q554⟩) (Or.inl rfl) dX9_here_18 rfl ?_
    refine r_aload_n 22 0 (hJ.pu _ _ _) dX9_here_21 rfl rfl ?_
    refine j_getf 25 hJ (T := TX9) (C := RX9) 1 (v := .int (nI sp)) okX9 hr1 rfl (by decide) (Or.inl q2051) (Or.inl rfl) dX9_here_22 rfl ?_
    refine j_calde 26 hJ sp ht rfl (by omega) (by omega) dX9_here_25 rfl ?_
    refine r_goto 31 (hJ.pu _ _ _) dX9_here_26 (by decide) ?_
    exact Rt.i hR (by have h9 := heC_nr (sp := sp) hch; unfold heC at h9; rw [if_pos (by omega)] at h9; exact h9) dX9_here_31 (Nat.zero_le _) (Nat.zero_le _) ⟨(by unfold heC; rw [if_pos (by omega)]), rfl⟩
theorem lk_X9_52 : GoodIn lw_all (wsV RX9 52 yX9_here.cls yX9_here (ws_ yX9_here cX9_here 1 (some .char))) := lw_V q2075 q2077 qs35 q131 q2078
theorem yk_X9_here : yOk yX9_here 0 := by decide +kernel
set_option maxHeartbeats 2000000 in
theorem cp_X9_isDigit (D : DD) (l : Launch) {H0 : Heap} (r x tx sp : Nat) (t : Nat → Int32) (ln : Nat) (hln : ln ≤ 80) (hch : ∀ i, i < ln → inB (t i) 33 126 = true) (hsp : sp ≤ ln) (hr1 : fld D 8 r 1 (.int (nI sp)) H0) (hr4 : fld D 8 r 4 (.ref x) H0) (hx4 : fld D 1 x 4 (.ref tx) H0) (hx5 : fld D 1 x 5 (.int (nI ln)) H0) (ht : arc D 80 t tx H0) : Cp D l yX9_isDigit cX9_isDigit 1 (some .boolean) 1 22 [.ref r] H0 (some (.int (zB (dgB t ln sp)))) := by
  refine Cp.of (by decide) (Nat.le_of_ble_eq_true rfl) (fun s A J hJ hR => ?_)
  show J H0 0 0 0 [] [(0, .ref r)]
  refine r_aload_n 1 0 (hJ.pu _ _ _) dX9_isDigit_0 rfl rfl ?_
  refine j_callp 4 hJ (cp_X9_here D l r x tx sp t ln hln hch hsp hr1 hr4 hx4 hx5 ht) lk_X9_52 0 yk_X9_here rfl ⟨by decide, by decide⟩ hr1 rfl rfl (Nat.le_of_ble_eq_true rfl) dX9_isDigit_1 ⟨Nat.zero_le _, Nat.zero_le _⟩ rfl ?_
  refine r_bipush 6 48 (hJ.pu _ _ _) dX9_isDigit_4 (by decide) rfl ?_
  refine r_bipush 8 57 (hJ.pu _ _ _) dX9_isDigit_6 (by decide) rfl ?_
  refine j_callSNc 11 hJ (ts_X1_isBetween D l (heC t ln sp) 48 57) q2017 q102 nw_q2172 q2016 3 yk_X1_isBetween rfl ⟨by decide, by decide⟩ rfl (Nat.le_of_ble_eq_true rfl) dX9_isDigit_8 ⟨Nat.zero_le _, Nat.zero_le _⟩ rfl ?_
  exact Rt.i hR (zB_narrow _) dX9_isDigit_11 (Nat.zero_le _) (Nat.zero_le _) ⟨(by rw [heC_dg]), rfl⟩
theorem dvX10 : ∀ j, j < 7 → defaultValue (tyX10 j) = vp_V [.null, .null, .null, .null, .null, .int 0, .int 0] j := by
  intro j hj
  rcases (show j = 0 ∨ j = 1 ∨ j = 2 ∨ j = 3 ∨ j = 4 ∨ j = 5 ∨ j = 6 by omega) with rfl | rfl | rfl | rfl | rfl | rfl | rfl <;> rfl
theorem yk_X10_init : yOk yX10_init 1 := by decide +kernel
set_option maxHeartbeats 4000000 in
theorem fc_X9_pass (D : DD) (l : Launch) (hl : l.stackTraces = false) {KS : Nat → Prop} {Hb : Heap} (r x R sp : Nat) (it : Int32) (ab : Bool) (b : Bool) : Gc D l yX9_pass cX9_pass 2 none 4 1 7 89 KS Hb [.ref r, .int (zB b)] ([oC r 8 [.ref R, .int (nI sp), .int it, .int (zB ab), .ref x]]) ([]) (fun r_ w i => r_ = none ∧ w = [oC r 8 [.ref R, .int (nI (sp + 1)), .int it, .int (zB ab), .ref x]] ∧ i = [] ∧ b = true) (pxF (b = false) sp) := by
  refine Gc.of hl (by decide) (Nat.le_of_ble_eq_true rfl) (fun s F X hG hR hO => ?_)
  have hF := hG.f
  show F 0 0 ([oC r 8 [.ref R, .int (nI sp), .int it, .int (zB ab), .ref x]]) ([]) 0 [] [(0, .ref r), (1, .int (zB b))]
  refine r_iload_n 1 1 (hF.pu _ _ _ _) dX9_pass_0 rfl rfl ?_
  refine r_if_neZ b 4 16 (hF.pu _ _ _ _) dX9_pass_1 (by decide) (fun c1 => ?_) rfl (fun c1 => ?_)
  · refine r_aload_n 17 0 (hF.pu _ _ _ _) dX9_pass_16 rfl rfl ?_
    refine r_dup 18 (hF.pu _ _ _ _) dX9_pass_17 rfl rfl ?_
    refine f_getf 21 hF (T := TX9) (C := RX9) 1 (v := .int (nI sp)) okX9 (fun _ z => ((z.o 0 rfl).fld 1 rfl)) rfl (by decide) (Or.inl q2051) (Or.inl rfl) dX9_pass_18 rfl ?_
    refine r_iconst 22 1 (hF.pu _ _ _ _) dX9_pass_21 (by decide) rfl ?_
    refine r_iaddN sp 1 (sp + 1) 23 (hF.pu _ _ _ _) dX9_pass_22 rfl rfl ?_
    refine f_put 26 hF 0 (T := TX9) (C := RX9) ([oC r 8 [.ref R, .int (nI (sp + 1)), .int it, .int (zB ab), .ref x]]) okX9 rfl rfl 1 (by decide) (Or.inl q2051) (Or.inl rfl) rfl rfl rfl (Nat.le_of_ble_eq_true rfl) rfl dX9_pass_23 rfl ?_
    exact FR.v hR dX9_pass_26 (Nat.le_of_ble_eq_true rfl) (Nat.le_of_ble_eq_true rfl) ⟨rfl, rfl, rfl, c1⟩
  · refine f_new 7 hF (ci := 9) [.null, .null, .null, .null, .null, .int 0, .int 0] okX10 rfl q2134 q2135 q153 dvX10 ⟨Nat.le_of_ble_eq_true rfl, Nat.le_of_ble_eq_true rfl⟩ dX9_pass_4 rfl (fun a1_ => ?_)
    refine r_dup 8 (hF.pu _ _ _ _) dX9_pass_7 rfl rfl ?_
    refine r_aload_n 9 0 (hF.pu _ _ _ _) dX9_pass_8 rfl rfl ?_
    refine f_getf 12 hF (T := TX9) (C := RX9) 1 (v := .int (nI sp)) okX9 (fun _ z => ((z.o 1 rfl).fld 1 rfl)) rfl (by decide) (Or.inl q2051) (Or.inl rfl) dX9_pass_9 rfl ?_
    refine f_callI 15 hF (fc_X10_init (KS := KS) (Hb := Hb) D l a1_ sp) (wr := ([oC r 8 [.ref R, .int (nI sp), .int it, .int (zB ab), .ref x]])) rfl (imk [] rfl) q2145 q153 q2143 q2144 rfl 1 yk_X10_init rfl ⟨by decide, by decide⟩ rfl (Nat.le_of_ble_eq_true rfl) dX9_pass_12 ⟨Nat.le_of_ble_eq_true rfl, Nat.le_of_ble_eq_true rfl⟩ rfl (fun r ws_ im' hp => ?_)
    obtain ⟨rfl, rfl, rfl⟩ := hp
    show F 1 7 ([oC a1_ 9 [.null, .null, .null, .null, .null, .int 0, .int (nI sp)], oC r 8 [.ref R, .int (nI sp), .int it, .int (zB ab), .ref x]]) ([]) 15 [.ref a1_] [(0, .ref r), (1, .int (zB b))]
    refine g_athrow hG dX9_pass_15 ?_
    exact g_out hO 0 rfl (Nat.le_of_ble_eq_true rfl) (Nat.le_of_ble_eq_true rfl) (⟨c1, rfl⟩)
theorem nuD_0 {t : Nat → Int32} {ln sp : Nat} (h : dgB t ln sp = false) : nuD t ln sp = 0 := by simp [nuD, nuC, h]
theorem nuC_1 {t : Nat → Int32} {ln sp : Nat} (h : dgB t ln sp = true) : nuD t ln sp = 1 + nuC t ln (4 - 1) (sp + 1) := by
  show nuC t ln (3 + 1) sp = _
  rw [nuC, if_pos h]; exact Nat.add_comm _ _
theorem nuC_st {t : Nat → Int32} {ln sp j : Nat} (e : nuD t ln sp = j + nuC t ln (4 - j) (sp + j)) (hj : j < 4) (h : dgB t ln (sp + j) = true) : nuD t ln sp = (j + 1) + nuC t ln (4 - (j + 1)) (sp + (j + 1)) := by
  rw [e, show 4 - j = (4 - (j + 1)) + 1 by omega, nuC, if_pos h, ← Nat.add_assoc sp j 1]; omega
theorem nuC_e0 {t : Nat → Int32} {ln sp j : Nat} (e : nuD t ln sp = j + nuC t ln (4 - j) (sp + j)) (h : dgB t ln (sp + j) = false) : nuD t ln sp = j := by
  rw [e]
  cases hq : 4 - j with
  | zero => simp [nuC]
  | succ n => simp [nuC, h]
theorem nuC_e4 {t : Nat → Int32} {ln sp j : Nat} (e : nuD t ln sp = j + nuC t ln (4 - j) (sp + j)) (h : ¬ j < 4) : nuD t ln sp = j := by
  rw [e, show 4 - j = 0 by omega]; simp [nuC]
theorem heC_lt {t : Nat → Int32} {ln sp : Nat} (h : dgB t ln sp = true) : heC t ln sp = t sp := by
  unfold heC; rw [if_pos (dgB_lt h).1]
theorem nuA_1 {t : Nat → Int32} {ln sp : Nat} (h : dgB t ln sp = true) : heC t ln sp - 48 = nuA t sp 1 := by
  rw [heC_lt h]; show _ = 10 * 0 + t (sp + 0) - 48; simp
theorem nuA_st {t : Nat → Int32} {ln sp j : Nat} {v : Int32} (h : dgB t ln (sp + j) = true) (hv : v = nuA t sp j) : 10 * v + heC t ln (sp + j) - 48 = nuA t sp (j + 1) := by
  rw [heC_lt h, hv]; rfl
theorem lk_X9_60 : GoodIn lw_all (wsV RX9 60 yX9_isDigit.cls yX9_isDigit (ws_ yX9_isDigit cX9_isDigit 1 (some .boolean))) := lw_V q2168 q2170 qs39 q131 q2171
theorem yk_X9_isDigit : yOk yX9_isDigit 0 := by decide +kernel
theorem lk_X9_64 : GoodIn lw_all (wsV RX9 64 yX9_pass.cls yX9_pass (ws_ yX9_pass cX9_pass 2 none)) := lw_V q2130 q2132 qs36 q131 q2133
theorem yk_X9_pass : yOk yX9_pass 1 := by decide +kernel
set_option maxHeartbeats 4000000 in
theorem fc_X9_number (D : DD) (l : Launch) (hl : l.stackTraces = false) {KS : Nat → Prop} {Hb : Heap} (r x R tx sp : Nat) (it : Int32) (ab : Bool) (x0 x1 x2 x3 x6 : Value) (t : Nat → Int32) (ln : Nat) (hln : ln ≤ 80) (hch : ∀ i, i < ln → inB (t i) 33 126 = true) (hsp : sp ≤ ln) : Gc D l yX9_number cX9_number 3 (some .int) 5 1 7 110 KS Hb [.ref r] ([oC r 8 [.ref R, .int (nI sp), .int it, .int (zB ab), .ref x]]) ([oC x 1 [x0, x1, x2, x3, .ref tx, .int (nI ln), x6], aC D 2 tx (iA 80 t)]) (fun r_ w i => r_ = some (.int (nuA t sp (nuD t ln sp))) ∧ w = [oC r 8 [.ref R, .int (nI (sp + nuD t ln sp)), .int it, .int (zB ab), .ref x]] ∧ i = [] ∧ 0 < nuD t ln sp) (pxF (nuD t ln sp = 0) sp) := by
  refine Gc.of hl (by decide) (Nat.le_of_ble_eq_true rfl) (fun s F X hG hR hO => ?_)
  have hF := hG.f
  show F 0 0 ([oC r 8 [.ref R, .int (nI sp), .int it, .int (zB ab), .ref x]]) ([oC x 1 [x0, x1, x2, x3, .ref tx, .int (nI ln), x6], aC D 2 tx (iA 80 t)]) 0 [] [(0, .ref r)]
  refine r_aload_n 1 0 (hF.pu _ _ _ _) dX9_number_0 rfl rfl ?_
  refine f_getf 4 hF (T := TX9) (C := RX9) 1 (v := .int (nI sp)) okX9 (fun _ z => ((z.o 0 rfl).fld 1 rfl)) rfl (by decide) (Or.inl q2051) (Or.inl rfl) dX9_number_1 rfl ?_
  refine r_istore_n 5 [(1, .int (nI sp)), (0, .ref r)] (hF.pu _ _ _ _) dX9_number_4 rfl (by decide) rfl rfl ?_
  refine r_aload_n 6 1 (hF.pu _ _ _ _) dX9_number_5 rfl rfl ?_
  refine f_callp 9 hF (fun _ z => cp_X9_here D l r x tx sp t ln hln hch (by omega) ((z.o 0 rfl).fld 1 rfl) ((z.o 0 rfl).fld 4 rfl) ((z.mo 0 rfl).fld 4 rfl) ((z.mo 0 rfl).fld 5 rfl) (z.ma 1 rfl)) lk_X9_52 0 yk_X9_here rfl ⟨by decide, by decide⟩ (fun _ z => ((z.o 0 rfl).fld 0 rfl)) rfl rfl (Nat.le_of_ble_eq_true rfl) dX9_number_6 ⟨Nat.le_of_ble_eq_true rfl, Nat.le_of_ble_eq_true rfl⟩ rfl ?_
  refine r_bipush 11 48 (hF.pu _ _ _ _) dX9_number_9 (by decide) rfl ?_
  refine r_isub 12 (hF.pu _ _ _ _) dX9_number_11 rfl ?_
  refine r_istore_n 13 [(2, .int ((heC t ln sp) - 48)), (1, .int (nI sp)), (0, .ref r)] (hF.pu _ _ _ _) dX9_number_12 rfl (by decide) rfl rfl ?_
  refine r_aload_n 14 2 (hF.pu _ _ _ _) dX9_number_13 rfl rfl ?_
  refine r_aload_n 15 2 (hF.pu _ _ _ _) dX9_number_14 rfl rfl ?_
  refine f_callp 18 hF (fun _ z => cp_X9_isDigit D l r x tx sp t ln hln hch (by omega) ((z.o 0 rfl).fld 1 rfl) ((z.o 0 rfl).fld 4 rfl) ((z.mo 0 rfl).fld 4 rfl) ((z.mo 0 rfl).fld 5 rfl) (z.ma 1 rfl)) lk_X9_60 0 yk_X9_isDigit rfl ⟨by decide, by decide⟩ (fun _ z => ((z.o 0 rfl).fld 0 rfl)) rfl rfl (Nat.le_of_ble_eq_true rfl) dX9_number_15 ⟨Nat.le_of_ble_eq_true rfl, Nat.le_of_ble_eq_true rfl⟩ rfl ?_
  refine g_callV 21 hG (fc_X9_pass (KS := KS) (Hb := Hb) D l hl r x R sp it ab (dgB t ln sp)) (wr := ([])) rfl (imk [] rfl) lk_X9_64 1 yk_X9_pass rfl ⟨by decide, by decide⟩ (fun _ z => ((z.o 0 rfl).fld 0 rfl)) rfl rfl (Nat.le_of_ble_eq_true rfl) dX9_number_18 ⟨Nat.le_of_ble_eq_true rfl, Nat.le_of_ble_eq_true rfl⟩ rfl (fun E a ws' im' hp hx => by obtain ⟨hb, rfl, rfl, rfl⟩ := hp; exact g_out hO 0 rfl (Nat.le_of_ble_eq_true rfl) (Nat.le_of_ble_eq_true rfl) (⟨nuD_0 hb, rfl⟩)) (fun r ws_ im' hp => ?_)
  obtain ⟨rfl, rfl, rfl, hp18⟩ := hp
  show F 1 7 ([oC r 8 [.ref R, .int (nI (sp + 1)), .int it, .int (zB ab), .ref x]]) ([oC x 1 [x0, x1, x2, x3, .ref tx, .int (nI ln), x6], aC D 2 tx (iA 80 t)]) 21 [] [(2, .int ((heC t ln sp) - 48)), (1, .int (nI sp)), (0, .ref r)]
  have lp_21 : ∀ (m : Nat) (j : Nat) (v : Int32), (j ≤ 4) → (0 < j) → (sp + j ≤ ln) → (v = nuA t sp j) → (nuD t ln sp = j + nuC t ln (4 - j) (sp + j)) → (4 - j) < m → F 1 7 ([oC r 8 [.ref R, .int (nI (sp + j)), .int it, .int (zB ab), .ref x]]) ([oC x 1 [x0, x1, x2, x3, .ref tx, .int (nI ln), x6], aC D 2 tx (iA 80 t)]) 21 [] [(2, .int v), (1, .int (nI sp)), (0, .ref r)] := by
    intro m
    induction m with
    | zero => intro j v hj hj1 hjl hv hjn hm; exact absurd hm (Nat.not_lt_zero _)
    | succ m ih =>
      intro j v hj hj1 hjl hv hjn hm
      refine r_aload_n 22 2 (hF.pu _ _ _ _) dX9_number_21 rfl rfl ?_
      refine f_callp 25 hF (fun _ z => cp_X9_isDigit D l r x tx (sp + j) t ln hln hch (by omega) ((z.o 0 rfl).fld 1 rfl) ((z.o 0 rfl).fld 4 rfl) ((z.mo 0 rfl).fld 4 rfl) ((z.mo 0 rfl).fld 5 rfl) (z.ma 1 rfl)) lk_X9_60 0 yk_X9_isDigit rfl ⟨by decide, by decide⟩ (fun _ z => ((z.o 0 rfl).fld 0 rfl)) rfl rfl (Nat.le_of_ble_eq_true rfl) dX9_number_22 ⟨Nat.le_of_ble_eq_true rfl, Nat.le_of_ble_eq_true rfl⟩ rfl ?_
      refine r_if_eqZ (dgB t ln (sp + j)) 28 64 (hF.pu _ _ _ _) dX9_number_25 (by decide) (fun c25 => ?_) rfl (fun c25 => ?_)
      · refine r_iload_n 65 0 (hF.pu _ _ _ _) dX9_number_64 rfl rfl ?_
        refine f_imsub hF [] (imk [] rfl) ?_
        have hjj : nuD t ln sp = j := by first | exact nuC_e0 hjn c25 | exact nuC_e4 hjn (by omega)
        exact FR.i hR rfl dX9_number_65 (Nat.le_of_ble_eq_true rfl) (Nat.le_of_ble_eq_true rfl) ⟨by rw [hjj, hv], by rw [hjj], rfl, by omega⟩
      · refine r_aload_n 29 2 (hF.pu _ _ _ _) dX9_number_28 rfl rfl ?_
        refine f_getf 32 hF (T := TX9) (C := RX9) 1 (v := .int (nI (sp + j))) okX9 (fun _ z => ((z.o 0 rfl).fld 1 rfl)) rfl (by decide) (Or.inl q2051) (Or.inl rfl) dX9_number_29 rfl ?_
        refine r_iload_n 33 1 (hF.pu _ _ _ _) dX9_number_32 rfl rfl ?_
        refine r_isub 34 (hF.pu _ _ _ _) dX9_number_33 rfl ?_
        refine r_eqi (nI j) (by rw [pk_sub (by omega), show sp + j - sp = j by omega]) ?_
        refine r_iconst 35 4 (hF.pu _ _ _ _) dX9_number_34 (by decide) rfl ?_
        refine r_icmp_geN j 4 38 64 (hF.pu _ _ _ _) dX9_number_35 (by omega) (by omega) (by decide) (fun c35 => ?_) rfl (fun c35 => ?_)
        · refine r_iload_n 65 0 (hF.pu _ _ _ _) dX9_number_64 rfl rfl ?_
          refine f_imsub hF [] (imk [] rfl) ?_
          have hjj : nuD t ln sp = j := by first | exact nuC_e0 hjn c25 | exact nuC_e4 hjn (by omega)
          exact FR.i hR rfl dX9_number_65 (Nat.le_of_ble_eq_true rfl) (Nat.le_of_ble_eq_true rfl) ⟨by rw [hjj, hv], by rw [hjj], rfl, by omega⟩
        · refine r_bipush 40 10 (hF.pu _ _ _ _) dX9_number_38 (by decide) rfl ?_
          refine r_iload_n 41 0 (hF.pu _ _ _ _) dX9_number_40 rfl rfl ?_
          refine r_imul 42 (hF.pu _ _ _ _) dX9_number_41 rfl ?_
          refine r_aload_n 43 2 (hF.pu _ _ _ _) dX9_number_42 rfl rfl ?_
          refine f_callp 46 hF (fun _ z => cp_X9_here D l r x tx (sp + j) t ln hln hch (by omega) ((z.o 0 rfl).fld 1 rfl) ((z.o 0 rfl).fld 4 rfl) ((z.mo 0 rfl).fld 4 rfl) ((z.mo 0 rfl).fld 5 rfl) (z.ma 1 rfl)) lk_X9_52 0 yk_X9_here rfl ⟨by decide, by decide⟩ (fun _ z => ((z.o 0 rfl).fld 0 rfl)) rfl rfl (Nat.le_of_ble_eq_true rfl) dX9_number_43 ⟨Nat.le_of_ble_eq_true rfl, Nat.le_of_ble_eq_true rfl⟩ rfl ?_
          refine r_iadd 47 (hF.pu _ _ _ _) dX9_number_46 rfl ?_
          refine r_bipush 49 48 (hF.pu _ _ _ _) dX9_number_47 (by decide) rfl ?_
          refine r_isub 50 (hF.pu _ _ _ _) dX9_number_49 rfl ?_
          refine r_istore_n 51 [(2, .int (((10 * v) + (heC t ln (sp + j))) - 48)), (1, .int (nI sp)), (0, .ref r)] (hF.pu _ _ _ _) dX9_number_50 rfl (by decide) rfl rfl ?_
          refine r_aload_n 52 2 (hF.pu _ _ _ _) dX9_number_51 rfl rfl ?_
          refine r_dup 53 (hF.pu _ _ _ _) dX9_number_52 rfl rfl ?_
          refine f_getf 56 hF (T := TX9) (C := RX9) 1 (v := .int (nI (sp + j))) okX9 (fun _ z => ((z.o 0 rfl).fld 1 rfl)) rfl (by decide) (Or.inl q2051) (Or.inl rfl) dX9_number_53 rfl ?_
          refine r_iconst 57 1 (hF.pu _ _ _ _) dX9_number_56 (by decide) rfl ?_
          refine r_iaddN (sp + j) 1 (sp + j + 1) 58 (hF.pu _ _ _ _) dX9_number_57 rfl rfl ?_
          refine f_put 61 hF 0 (T := TX9) (C := RX9) ([oC r 8 [.ref R, .int (nI (sp + j + 1)), .int it, .int (zB ab), .ref x]]) okX9 rfl rfl 1 (by decide) (Or.inl q2051) (Or.inl rfl) rfl rfl rfl (Nat.le_of_ble_eq_true rfl) rfl dX9_number_58 rfl ?_
          refine r_goto 21 (hF.pu _ _ _ _) dX9_number_61 (by decide) ?_
          exact ih (j + 1) _ (by omega) (by omega) (dgB_lt c25).1 (nuA_st c25 hv) (nuC_st hjn (by omega) c25) (by omega)
  exact lp_21 5 1 _ (by decide) (by decide) (dgB_lt hp18).1 (nuA_1 hp18) (nuC_1 hp18) (by decide)
