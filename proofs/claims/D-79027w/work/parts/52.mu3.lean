set_option maxHeartbeats 4000000 in
theorem fc_X1_save (D : DD) (l : Launch) {KS : Nat → Prop} {Hb : Heap} (x nw dq e cm tx : Nat) (sv : Value) (tl fl : Int32) : Fc D l yX1_save cX1_save 1 none 0 0 0 0 KS Hb [.ref x] ([oC x 1 [.ref nw, sv, .ref dq, .ref cm, .ref tx, .int tl, .int fl]]) ([]) (fun r w i => r = none ∧ w = [oC x 1 [.ref nw, .ref nw, .ref dq, .ref cm, .ref tx, .int tl, .int fl]] ∧ i = []) := by
  refine Fc.of (by decide) (Nat.le_of_ble_eq_true rfl) (fun s F hF hR => ?_)
  show F 0 0 ([oC x 1 [.ref nw, sv, .ref dq, .ref cm, .ref tx, .int tl, .int fl]]) ([]) 0 [] [(0, .ref x)]
  refine r_aload_n 1 0 (hF.pu _ _ _ _) dX1_save_0 rfl rfl ?_
  refine r_aload_n 2 0 (hF.pu _ _ _ _) dX1_save_1 rfl rfl ?_
  refine f_getf 5 hF (T := TX1) (C := RX1) 0 (v := .ref nw) okX1 (fun _ z => ((z.o 0 rfl).fld 0 rfl)) rfl (by decide) (Or.inl q550) (Or.inl rfl) dX1_save_2 rfl ?_
  refine f_put 8 hF 0 (T := TX1) (C := RX1) ([oC x 1 [.ref nw, .ref nw, .ref dq, .ref cm, .ref tx, .int tl, .int fl]]) okX1 rfl rfl 1 (by decide) (Or.inl q551) (Or.inl rfl) rfl rfl rfl (Nat.le_of_ble_eq_true rfl) rfl dX1_save_5 rfl ?_
  exact FR.v hR dX1_save_8 (Nat.le_of_ble_eq_true rfl) (Nat.le_of_ble_eq_true rfl) ⟨rfl, rfl, rfl⟩
set_option maxHeartbeats 4000000 in
theorem fc_X1_restore (D : DD) (l : Launch) {KS : Nat → Prop} {Hb : Heap} (x nw sw dq e cm tx n : Nat) (tl fl : Int32) (q : Nat → Nat) (Wd : va_W) (hn : n ≤ 6) (hd : dqS D dq e n q Wd) (f5 : List Value) : Fc D l yX1_restore cX1_restore 1 none 4 0 0 86 KS Hb [.ref x] (oC x 1 [.ref nw, .ref sw, .ref dq, .ref cm, .ref tx, .int tl, .int fl] :: Wd) ([oC nw 2 f5]) (fun r w i => ∃ W1, r = none ∧ i = [] ∧ w = oC x 1 [.ref sw, .ref sw, .ref dq, .ref cm, .ref tx, .int tl, .int fl] :: W1 ∧ dqS D dq e (puM n) (puQ n q nw) W1) := by
  obtain ⟨hd0, f, rfl, hd17, hf⟩ := hd
  refine Fc.of (by decide) (Nat.le_of_ble_eq_true rfl) (fun s F hF hR => ?_)
  show F 0 0 ([oC x 1 [.ref nw, .ref sw, .ref dq, .ref cm, .ref tx, .int tl, .int fl], oC dq 16 [.ref e, .int (nI hd0), .int (nI (ix hd0 n))], aC D 3 e (qA 17 f)]) ([oC nw 2 f5]) 0 [] [(0, .ref x)]
  refine r_aload_n 1 0 (hF.pu _ _ _ _) dX1_restore_0 rfl rfl ?_
  refine f_getf 4 hF (T := TX1) (C := RX1) 1 (v := .ref sw) okX1 (fun _ z => ((z.o 0 rfl).fld 1 rfl)) rfl (by decide) (Or.inl q551) (Or.inl rfl) dX1_restore_1 rfl ?_
  refine r_ifnull 7 (hF.pu _ _ _ _) dX1_restore_4 rfl ?_
  refine r_iconst 8 1 (hF.pu _ _ _ _) dX1_restore_7 (by decide) rfl ?_
  refine r_goto 12 (hF.pu _ _ _ _) dX1_restore_8 (by decide) ?_
  refine f_callps 15 hF (fun _ z => cp_X1_requireState_k D l) lk_X1_81 1 yk_X1_requireState rfl ⟨by decide, by decide⟩ rfl (Nat.le_of_ble_eq_true rfl) dX1_restore_12 ⟨Nat.le_of_ble_eq_true rfl, Nat.le_of_ble_eq_true rfl⟩ rfl ?_
  refine r_aload_n 16 0 (hF.pu _ _ _ _) dX1_restore_15 rfl rfl ?_
  refine r_aload_n 17 0 (hF.pu _ _ _ _) dX1_restore_16 rfl rfl ?_
  refine f_getf 20 hF (T := TX1) (C := RX1) 1 (v := .ref sw) okX1 (fun _ z => ((z.o 0 rfl).fld 1 rfl)) rfl (by decide) (Or.inl q551) (Or.inl rfl) dX1_restore_17 rfl ?_
  refine f_callV 23 hF (fc_X1_change_2 (KS := KS) (Hb := Hb) D l x nw sw dq e cm tx hd0 n (.ref sw) tl fl f q hd17 hn hf [oC nw 2 f5] (fun H h => anyK.ofob (h _ List.mem_cons_self) rfl nw_q3950)) (wr := ([])) (List.append_nil _).symm (imk [0] rfl) lk_X1_54 1 yk_X1_change_2 rfl ⟨by decide, by decide⟩ (fun _ z => ((z.o 0 rfl).fld 0 rfl)) rfl rfl (Nat.le_of_ble_eq_true rfl) dX1_restore_20 ⟨Nat.le_of_ble_eq_true rfl, Nat.le_of_ble_eq_true rfl⟩ rfl (fun r ws_ im' hp => ?_)
  obtain ⟨a1_, rfl, rfl, rfl, hdq⟩ := hp
  refine f_eqw _ (List.append_nil _) ?_
  show F 0 0 ((oC x 1 [.ref sw, .ref sw, .ref dq, .ref cm, .ref tx, .int tl, .int fl]) :: a1_) ([oC nw 2 f5]) 23 [.ref sw] [(0, .ref x)]
  refine r_pop 24 (hF.pu _ _ _ _) dX1_restore_23 rfl rfl ?_
  refine f_imsub hF [] (imk [] rfl) ?_
  exact FR.v hR dX1_restore_24 (Nat.le_of_ble_eq_true rfl) (Nat.le_of_ble_eq_true rfl) ⟨_, rfl, rfl, rfl, hdq⟩
theorem lk_X1_368 : GoodIn lw_all (wsV RX1 368 yJ14_isEmpty.cls yJ14_isEmpty (ws_ yJ14_isEmpty cJ14_isEmpty 1 (some .boolean))) := lw_V q3474 q3475 q3476 q122 q3477
theorem yk_J14_isEmpty : yOk yJ14_isEmpty 0 := by decide +kernel
theorem lk_X1_371 : GoodIn lw_all (wsV RX1 371 yJ14_removeLast.cls yJ14_removeLast (ws_ yJ14_removeLast cJ14_removeLast 2 (Option.some (ClassFile.FieldType.object "java/lang/Object")))) := lw_V q3478 q3479 q3480 q122 q3481
theorem yk_J14_removeLast : yOk yJ14_removeLast 0 := by decide +kernel
set_option maxHeartbeats 4000000 in
theorem fc_X1_undo (D : DD) (l : Launch) {KS : Nat → Prop} {Hb : Heap} (x nw dq e cm tx : Nat) (sv : Value) (tl fl : Int32) (n : Nat) (q : Nat → Nat) (Wd : va_W) (hn : n < 6) (hd : dqS D dq e (n + 1) q Wd) (u : Nat) (hu : q n = u) (a1 a2 a3 a4 : Value) (a5 : Int32) : Fc D l yX1_undo cX1_undo 1 (some .int) 3 0 0 65 KS Hb [.ref x] (oC x 1 [.ref nw, sv, .ref dq, .ref cm, .ref tx, .int tl, .int fl] :: Wd) ([oC u 2 [a1, a2, a3, a4, .int a5]]) (fun r w i => ∃ W1, r = some (.int (nI n)) ∧ i = [] ∧ w = oC x 1 [.ref u, sv, .ref dq, .ref cm, .ref tx, .int tl, .int fl] :: W1 ∧ dqS D dq e n q W1) := by
  obtain ⟨hd0, f, rfl, hd17, hf⟩ := hd
  refine Fc.of (by decide) (Nat.le_of_ble_eq_true rfl) (fun s F hF hR => ?_)
  show F 0 0 ([oC x 1 [.ref nw, sv, .ref dq, .ref cm, .ref tx, .int tl, .int fl], oC dq 16 [.ref e, .int (nI hd0), .int (nI (ix hd0 (n + 1)))], aC D 3 e (qA 17 f)]) ([oC u 2 [a1, a2, a3, a4, .int a5]]) 0 [] [(0, .ref x)]
  refine r_aload_n 1 0 (hF.pu _ _ _ _) dX1_undo_0 rfl rfl ?_
  refine f_getf 4 hF (T := TX1) (C := RX1) 2 (v := .ref dq) okX1 (fun _ z => ((z.o 0 rfl).fld 2 rfl)) rfl (by decide) (Or.inl q552) (Or.inl rfl) dX1_undo_1 rfl ?_
  refine f_callp 7 hF (fun _ z => cp_J14_isEmpty D l dq e hd0 (n + 1) f (z.o 1 rfl) (by assumption) (by omega)) lk_X1_368 0 yk_J14_isEmpty rfl ⟨by decide, by decide⟩ (fun _ z => ((z.o 1 rfl).fld 0 rfl)) rfl rfl (Nat.le_of_ble_eq_true rfl) dX1_undo_4 ⟨Nat.le_of_ble_eq_true rfl, Nat.le_of_ble_eq_true rfl⟩ rfl ?_
  refine r_if_neZ (decide (n + 1 = 0)) 10 14 (hF.pu _ _ _ _) dX1_undo_7 (by decide) (fun c7 => absurd c7 (by simp)) rfl (fun c7 => ?_)
  refine r_iconst 11 1 (hF.pu _ _ _ _) dX1_undo_10 (by decide) rfl ?_
  refine r_goto 15 (hF.pu _ _ _ _) dX1_undo_11 (by decide) ?_
  refine f_callps 18 hF (fun _ z => cp_X1_requireState_k D l) lk_X1_81 1 yk_X1_requireState rfl ⟨by decide, by decide⟩ rfl (Nat.le_of_ble_eq_true rfl) dX1_undo_15 ⟨Nat.le_of_ble_eq_true rfl, Nat.le_of_ble_eq_true rfl⟩ rfl ?_
  refine r_aload_n 19 0 (hF.pu _ _ _ _) dX1_undo_18 rfl rfl ?_
  refine r_aload_n 20 0 (hF.pu _ _ _ _) dX1_undo_19 rfl rfl ?_
  refine f_getf 23 hF (T := TX1) (C := RX1) 2 (v := .ref dq) okX1 (fun _ z => ((z.o 0 rfl).fld 2 rfl)) rfl (by decide) (Or.inl q552) (Or.inl rfl) dX1_undo_20 rfl ?_
  refine f_ups hF [2] ([aC D 3 e (qA 17 f), oC x 1 [.ref nw, sv, .ref dq, .ref cm, .ref tx, .int tl, .int fl], oC dq 16 [.ref e, .int (nI hd0), .int (nI (ix hd0 (n + 1)))]]) rfl ?_
  refine f_ups hF [2] ([oC dq 16 [.ref e, .int (nI hd0), .int (nI (ix hd0 (n + 1)))], aC D 3 e (qA 17 f), oC x 1 [.ref nw, sv, .ref dq, .ref cm, .ref tx, .int tl, .int fl]]) rfl ?_
  refine f_callV 26 hF (fc_J14_removeLast (KS := KS) (Hb := Hb) D l dq e hd0 n u f (by assumption) (by rw [hf n (by omega), hu]) (by omega)) (wr := ([oC x 1 [.ref nw, sv, .ref dq, .ref cm, .ref tx, .int tl, .int fl]])) rfl (imk [] rfl) lk_X1_371 0 yk_J14_removeLast rfl ⟨by decide, by decide⟩ (fun _ z => ((z.o 0 rfl).fld 0 rfl)) rfl rfl (Nat.le_of_ble_eq_true rfl) dX1_undo_23 ⟨Nat.le_of_ble_eq_true rfl, Nat.le_of_ble_eq_true rfl⟩ rfl (fun r ws_ im' hp => ?_)
  obtain ⟨rfl, rfl, rfl⟩ := hp
  show F 0 0 ([oC dq 16 [.ref e, .int (nI hd0), .int (nI (ix hd0 n))], aC D 3 e (qA 17 (va_up f (ix hd0 n) none)), oC x 1 [.ref nw, sv, .ref dq, .ref cm, .ref tx, .int tl, .int fl]]) ([oC u 2 [a1, a2, a3, a4, .int a5]]) 26 [.ref u, .ref x] [(0, .ref x)]
  refine f_castf 29 hF (fun _ z => ((z.mo 0 rfl).fld 0 rfl)) rfl q181 dX1_undo_26 rfl ?_
  refine f_put 32 hF 2 (T := TX1) (C := RX1) ([oC dq 16 [.ref e, .int (nI hd0), .int (nI (ix hd0 n))], aC D 3 e (qA 17 (va_up f (ix hd0 n) none)), oC x 1 [.ref u, sv, .ref dq, .ref cm, .ref tx, .int tl, .int fl]]) okX1 rfl rfl 0 (by decide) (Or.inl q550) (Or.inl rfl) rfl rfl rfl (Nat.le_of_ble_eq_true rfl) rfl dX1_undo_29 rfl ?_
  refine r_aload_n 33 0 (hF.pu _ _ _ _) dX1_undo_32 rfl rfl ?_
  refine f_getf 36 hF (T := TX1) (C := RX1) 2 (v := .ref dq) okX1 (fun _ z => ((z.o 2 rfl).fld 2 rfl)) rfl (by decide) (Or.inl q552) (Or.inl rfl) dX1_undo_33 rfl ?_
  refine f_callp 39 hF (fun _ z => cp_J14_size D l dq e hd0 n (va_up f (ix hd0 n) none) (z.o 0 rfl) (z.a 1 rfl) (by assumption) (by omega)) lk_X1_58 0 yk_J14_size rfl ⟨by decide, by decide⟩ (fun _ z => ((z.o 0 rfl).fld 0 rfl)) rfl rfl (Nat.le_of_ble_eq_true rfl) dX1_undo_36 ⟨Nat.le_of_ble_eq_true rfl, Nat.le_of_ble_eq_true rfl⟩ rfl ?_
  refine f_ups hF [1] ([aC D 3 e (qA 17 (va_up f (ix hd0 n) none)), oC dq 16 [.ref e, .int (nI hd0), .int (nI (ix hd0 n))], oC x 1 [.ref u, sv, .ref dq, .ref cm, .ref tx, .int tl, .int fl]]) rfl ?_
  refine f_ups hF [1] ([oC dq 16 [.ref e, .int (nI hd0), .int (nI (ix hd0 n))], aC D 3 e (qA 17 (va_up f (ix hd0 n) none)), oC x 1 [.ref u, sv, .ref dq, .ref cm, .ref tx, .int tl, .int fl]]) rfl ?_
  refine f_ups hF [2] ([oC x 1 [.ref u, sv, .ref dq, .ref cm, .ref tx, .int tl, .int fl], oC dq 16 [.ref e, .int (nI hd0), .int (nI (ix hd0 n))], aC D 3 e (qA 17 (va_up f (ix hd0 n) none))]) rfl ?_
  refine f_imsub hF [] (imk [] rfl) ?_
  exact FR.i hR rfl dX1_undo_39 (Nat.le_of_ble_eq_true rfl) (Nat.le_of_ble_eq_true rfl) ⟨_, rfl, rfl, rfl, hd0, _, rfl, hd17, fun i hi => by simp only [va_up]; rw [if_neg (ix_ne hd17 (by omega) (by omega) (by omega))]; exact hf i (by omega)⟩
theorem ch_i2c {c : Int32} (h : inB c 33 126 = true) : ((Int32.toUInt32 c) % 65536).toInt32 = c ∧ narrow .char (.int c) = .int c := by
  simp only [inB, Bool.and_eq_true, decide_eq_true_eq] at h
  obtain ⟨j, hj, rfl⟩ := nI_of2 (x := c) (M := 126) (n := 126) (by decide) (fun q => h.1 (Int32.lt_trans q (by decide))) (Int32.not_lt.mp h.2)
  have h1 : ∀ j, j < 127 → ((Int32.toUInt32 (nI j)) % 65536).toInt32 = nI j ∧ narrow .char (.int (nI j)) = .int (nI j) := by decide +kernel
  exact h1 j (by omega)
set_option maxHeartbeats 4000000 in
theorem fc_X1_appendCharacter (D : DD) (l : Launch) {KS : Nat → Prop} {Hb : Heap} (x nw dq cm tx t : Nat) (sv : Value) (fl c : Int32) (f : Nat → Int32) (hc : inB c 33 126 = true) (ht : t < 80) : Fc D l yX1_appendCharacter cX1_appendCharacter 2 (some .int) 1 0 0 22 KS Hb [.ref x, .int c] ([oC x 1 [.ref nw, sv, .ref dq, .ref cm, .ref tx, .int (nI t), .int fl], aC D 2 tx (iA 80 f)]) ([]) (fun r w i => r = some (.int (nI (t + 1))) ∧ w = [oC x 1 [.ref nw, sv, .ref dq, .ref cm, .ref tx, .int (nI (t + 1)), .int fl], aC D 2 tx (iA 80 (upd f t c))] ∧ i = []) := by
  refine Fc.of (by decide) (Nat.le_of_ble_eq_true rfl) (fun s F hF hR => ?_)
  show F 0 0 ([oC x 1 [.ref nw, sv, .ref dq, .ref cm, .ref tx, .int (nI t), .int fl], aC D 2 tx (iA 80 f)]) ([]) 0 [] [(0, .ref x), (1, .int c)]
  refine r_iload_n 1 1 (hF.pu _ _ _ _) dX1_appendCharacter_0 rfl rfl ?_
  refine r_bipush 3 33 (hF.pu _ _ _ _) dX1_appendCharacter_1 (by decide) rfl ?_
  refine r_bipush 5 126 (hF.pu _ _ _ _) dX1_appendCharacter_3 (by decide) rfl ?_
  refine f_callS' 8 hF (ts_X1_isBetween D l c 33 126) lk_X1_70 3 yk_X1_isBetween rfl ⟨by decide, by decide⟩ rfl (Nat.le_of_ble_eq_true rfl) dX1_appendCharacter_5 ⟨Nat.le_of_ble_eq_true rfl, Nat.le_of_ble_eq_true rfl⟩ rfl ?_
  refine r_eqi 1 (by simp [zB, *]) ?_
  refine f_callps 11 hF (fun _ z => cp_X1_requireArgument_k D l) lk_X1_74 1 yk_X1_requireArgument rfl ⟨by decide, by decide⟩ rfl (Nat.le_of_ble_eq_true rfl) dX1_appendCharacter_8 ⟨Nat.le_of_ble_eq_true rfl, Nat.le_of_ble_eq_true rfl⟩ rfl ?_
  refine r_aload_n 12 0 (hF.pu _ _ _ _) dX1_appendCharacter_11 rfl rfl ?_
  refine f_getf 15 hF (T := TX1) (C := RX1) 5 (v := .int (nI t)) okX1 (fun _ z => ((z.o 0 rfl).fld 5 rfl)) rfl (by decide) (Or.inl q557) (Or.inl rfl) dX1_appendCharacter_12 rfl ?_
  refine r_bipush 17 80 (hF.pu _ _ _ _) dX1_appendCharacter_15 (by decide) rfl ?_
  refine r_icmp_geN t 80 20 24 (hF.pu _ _ _ _) dX1_appendCharacter_17 (by omega) (by omega) (by decide) (fun c17 => absurd c17 (by omega)) rfl (fun c17 => ?_)
  refine r_iconst 21 1 (hF.pu _ _ _ _) dX1_appendCharacter_20 (by decide) rfl ?_
  refine r_goto 25 (hF.pu _ _ _ _) dX1_appendCharacter_21 (by decide) ?_
  refine f_callps 28 hF (fun _ z => cp_X1_requireState_k D l) lk_X1_81 1 yk_X1_requireState rfl ⟨by decide, by decide⟩ rfl (Nat.le_of_ble_eq_true rfl) dX1_appendCharacter_25 ⟨Nat.le_of_ble_eq_true rfl, Nat.le_of_ble_eq_true rfl⟩ rfl ?_
  refine r_aload_n 29 0 (hF.pu _ _ _ _) dX1_appendCharacter_28 rfl rfl ?_
  refine f_getf 32 hF (T := TX1) (C := RX1) 4 (v := .ref tx) okX1 (fun _ z => ((z.o 0 rfl).fld 4 rfl)) rfl (by decide) (Or.inl q555) (Or.inl rfl) dX1_appendCharacter_29 rfl ?_
  refine r_aload_n 33 0 (hF.pu _ _ _ _) dX1_appendCharacter_32 rfl rfl ?_
  refine f_getf 36 hF (T := TX1) (C := RX1) 5 (v := .int (nI t)) okX1 (fun _ z => ((z.o 0 rfl).fld 5 rfl)) rfl (by decide) (Or.inl q557) (Or.inl rfl) dX1_appendCharacter_33 rfl ?_
  refine r_iload_n 37 1 (hF.pu _ _ _ _) dX1_appendCharacter_36 rfl rfl ?_
  refine r_i2c 38 (hF.pu _ _ _ _) dX1_appendCharacter_37 rfl ?_
  refine r_eqi (c) ((ch_i2c hc).1) ?_
  refine f_cast 39 hF 1 ([oC x 1 [.ref nw, sv, .ref dq, .ref cm, .ref tx, .int (nI t), .int fl], aC D 2 tx (iA 80 (upd f t c))]) rfl (ch_i2c hc).2 t rfl (by omega) (by omega) rfl dX1_appendCharacter_38 rfl ?_
  refine r_aload_n 40 0 (hF.pu _ _ _ _) dX1_appendCharacter_39 rfl rfl ?_
  refine r_dup 41 (hF.pu _ _ _ _) dX1_appendCharacter_40 rfl rfl ?_
  refine f_getf 44 hF (T := TX1) (C := RX1) 5 (v := .int (nI t)) okX1 (fun _ z => ((z.o 0 rfl).fld 5 rfl)) rfl (by decide) (Or.inl q557) (Or.inl rfl) dX1_appendCharacter_41 rfl ?_
  refine r_iconst 45 1 (hF.pu _ _ _ _) dX1_appendCharacter_44 (by decide) rfl ?_
  refine r_iaddN t 1 (t + 1) 46 (hF.pu _ _ _ _) dX1_appendCharacter_45 rfl rfl ?_
  refine f_put 49 hF 0 (T := TX1) (C := RX1) ([oC x 1 [.ref nw, sv, .ref dq, .ref cm, .ref tx, .int (nI (t + 1)), .int fl], aC D 2 tx (iA 80 (upd f t c))]) okX1 rfl rfl 5 (by decide) (Or.inl q557) (Or.inl rfl) rfl rfl rfl (Nat.le_of_ble_eq_true rfl) rfl dX1_appendCharacter_46 rfl ?_
  refine r_aload_n 50 0 (hF.pu _ _ _ _) dX1_appendCharacter_49 rfl rfl ?_
  refine f_getf 53 hF (T := TX1) (C := RX1) 5 (v := .int (nI (t + 1))) okX1 (fun _ z => ((z.o 0 rfl).fld 5 rfl)) rfl (by decide) (Or.inl q557) (Or.inl rfl) dX1_appendCharacter_50 rfl ?_
  exact FR.i hR rfl dX1_appendCharacter_53 (Nat.le_of_ble_eq_true rfl) (Nat.le_of_ble_eq_true rfl) ⟨rfl, rfl, rfl⟩
