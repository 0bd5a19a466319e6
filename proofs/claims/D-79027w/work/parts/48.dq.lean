/-- places of a deque of 17 -/
def ix (hd i : Nat) : Nat := if hd + i < 17 then hd + i else hd + i - 17
theorem sub17 : ∀ i, i < 17 → ∀ j, j < 17 → (¬ (nI i - nI j < 0) → nI i - nI j = nI (if j ≤ i then i - j else i + 17 - j)) ∧ (nI i - nI j < 0 → nI i - nI j + nI 17 = nI (if j ≤ i then i - j else i + 17 - j)) := by decide +kernel
theorem ix_n {hd n : Nat} (h : hd < 17) (hn : n < 17) : (if hd ≤ ix hd n then ix hd n - hd else ix hd n + 17 - hd) = n := by unfold ix; split <;> split <;> omega
theorem ix_lt {hd i : Nat} (h : hd < 17) (hi : i ≤ 17) : ix hd i < 17 := by unfold ix; split <;> omega
theorem ix_0 {hd : Nat} (h : hd < 17) : ix hd 0 = hd := by unfold ix; rw [if_pos (by omega)]; rfl
theorem ix_inc {hd i : Nat} (h : hd < 17) (hi : i < 17) : (if ix hd i + 1 < 17 then ix hd i + 1 else 0) = ix hd (i + 1) := by unfold ix; (repeat' split) <;> omega
theorem ix_dec {hd i : Nat} (h : hd < 17) (hi : i + 1 < 17) : (if ix hd (i + 1) = 0 then 16 else ix hd (i + 1) - 1) = ix hd i := by unfold ix; (repeat' split) <;> omega
theorem ix_ne {hd i j : Nat} (h : hd < 17) (hi : i < 17) (hj : j < 17) (hij : i ≠ j) : ix hd i ≠ ix hd j := by unfold ix; (repeat' split) <;> omega
theorem ix_s {hd i : Nat} (h : hd < 17) (hi : i < 17) : ix (ix hd 1) i = ix hd (i + 1) := by unfold ix; (repeat' split) <;> omega
theorem dec17 : ∀ i, i < 17 → (¬ (nI i + (-1) < 0) → nI i + (-1) = nI (if i = 0 then 16 else i - 1)) ∧ (nI i + (-1) < 0 → nI 17 - 1 = nI (if i = 0 then 16 else i - 1)) := by decide +kernel
set_option maxHeartbeats 2000000 in
theorem ts_J14_sub (D : DD) (l : Launch) (i j : Nat) (hi : i < 17) (hj : j < 17)  : Cs D l yJ14_sub cJ14_sub 3 (some .int) 0 0 [.int (nI i), .int (nI j), .int (nI 17)] (.int (nI (if j ≤ i then i - j else i + 17 - j))) := by
  refine Cs.of (by decide) (Nat.le_of_ble_eq_true rfl) (fun s H0 A J hJ hR => ?_)
  have hp := hJ.pu H0 0 0
  show J H0 0 0 0 [] [(0, .int (nI i)), (1, .int (nI j)), (2, .int (nI 17))]
  refine r_iload_n 1 0 hp dJ14_sub_0 rfl rfl ?_
  refine r_iload_n 2 1 hp dJ14_sub_1 rfl rfl ?_
  refine r_isub 3 hp dJ14_sub_2 rfl ?_
  refine r_dup 4 hp dJ14_sub_3 rfl rfl ?_
  refine r_istore_n 5 [(0, .int ((nI i) - (nI j))), (1, .int (nI j)), (2, .int (nI 17))] hp dJ14_sub_4 rfl (by decide) rfl rfl ?_
  refine r_if_ge 8 12 hp dJ14_sub_5 (by decide) (fun c5 => ?_) rfl (fun c5 => ?_)
  · refine r_iload_n 13 0 hp dJ14_sub_12 rfl rfl ?_
    exact hR.1 13 _ _ _ rfl rfl dJ14_sub_13 (by first | exact congrArg Value.int ((sub17 i hi j hj).1 (Int32.not_lt.mpr c5)) | exact congrArg Value.int ((sub17 i hi j hj).2 (Int32.not_le.mp c5)) | exact congrArg Value.int ((sub17 i hi j hj).1 c5) | exact congrArg Value.int ((sub17 i hi j hj).2 c5))
  · refine r_iload_n 9 0 hp dJ14_sub_8 rfl rfl ?_
    refine r_iload_n 10 2 hp dJ14_sub_9 rfl rfl ?_
    refine r_iadd 11 hp dJ14_sub_10 rfl ?_
    refine r_istore_n 12 [(0, .int (((nI i) - (nI j)) + (nI 17))), (1, .int (nI j)), (2, .int (nI 17))] hp dJ14_sub_11 rfl (by decide) rfl rfl ?_
    refine r_iload_n 13 0 hp dJ14_sub_12 rfl rfl ?_
    exact hR.1 13 _ _ _ rfl rfl dJ14_sub_13 (by first | exact congrArg Value.int ((sub17 i hi j hj).1 (Int32.not_lt.mpr c5)) | exact congrArg Value.int ((sub17 i hi j hj).2 (Int32.not_le.mp c5)) | exact congrArg Value.int ((sub17 i hi j hj).1 c5) | exact congrArg Value.int ((sub17 i hi j hj).2 c5))
set_option maxHeartbeats 2000000 in
theorem ts_J14_inc (D : DD) (l : Launch) (i : Nat) (hi : i < 17)  : Cs D l yJ14_inc cJ14_inc 2 (some .int) 0 0 [.int (nI i), .int (nI 17)] (.int (nI (if i + 1 < 17 then i + 1 else 0))) := by
  refine Cs.of (by decide) (Nat.le_of_ble_eq_true rfl) (fun s H0 A J hJ hR => ?_)
  have hp := hJ.pu H0 0 0
  show J H0 0 0 0 [] [(0, .int (nI i)), (1, .int (nI 17))]
  refine r_iinc 3 (nI (i + 1)) 0 [(0, .int (nI (i + 1))), (1, .int (nI 17))] hp dJ14_inc_0 rfl (nI_1 i) (by decide) rfl rfl ?_
  refine r_iload_n 4 0 hp dJ14_inc_3 rfl rfl ?_
  refine r_iload_n 5 1 hp dJ14_inc_4 rfl rfl ?_
  refine r_icmp_ltN (i + 1) 17 8 10 hp dJ14_inc_5 (by omega) (by omega) (by decide) (fun c5 => ?_) rfl (fun c5 => ?_)
  · refine r_iload_n 11 0 hp dJ14_inc_10 rfl rfl ?_
    exact hR.1 11 _ _ _ rfl rfl dJ14_inc_11 (by first | rw [if_pos (by omega)] | (rw [if_neg (by omega)]; rfl))
  · refine r_iconst 9 0 hp dJ14_inc_8 (by decide) rfl ?_
    refine r_istore_n 10 [(0, .int 0), (1, .int (nI 17))] hp dJ14_inc_9 rfl (by decide) rfl rfl ?_
    refine r_iload_n 11 0 hp dJ14_inc_10 rfl rfl ?_
    exact hR.1 11 _ _ _ rfl rfl dJ14_inc_11 (by first | rw [if_pos (by omega)] | (rw [if_neg (by omega)]; rfl))
set_option maxHeartbeats 2000000 in
theorem ts_J14_dec (D : DD) (l : Launch) (i : Nat) (hi : i < 17)  : Cs D l yJ14_dec cJ14_dec 2 (some .int) 0 0 [.int (nI i), .int (nI 17)] (.int (nI (if i = 0 then 16 else i - 1))) := by
  refine Cs.of (by decide) (Nat.le_of_ble_eq_true rfl) (fun s H0 A J hJ hR => ?_)
  have hp := hJ.pu H0 0 0
  show J H0 0 0 0 [] [(0, .int (nI i)), (1, .int (nI 17))]
  refine r_iinc 3 ((nI i) + (-1)) 0 [(0, .int ((nI i) + (-1))), (1, .int (nI 17))] hp dJ14_dec_0 rfl rfl (by decide) rfl rfl ?_
  refine r_iload_n 4 0 hp dJ14_dec_3 rfl rfl ?_
  refine r_if_ge 7 11 hp dJ14_dec_4 (by decide) (fun c4 => ?_) rfl (fun c4 => ?_)
  · refine r_iload_n 12 0 hp dJ14_dec_11 rfl rfl ?_
    exact hR.1 12 _ _ _ rfl rfl dJ14_dec_12 (by first | exact congrArg Value.int ((dec17 i hi).1 (Int32.not_lt.mpr c4)) | exact congrArg Value.int ((dec17 i hi).1 c4))
  · refine r_iload_n 8 1 hp dJ14_dec_7 rfl rfl ?_
    refine r_iconst 9 1 hp dJ14_dec_8 (by decide) rfl ?_
    refine r_isub 10 hp dJ14_dec_9 rfl ?_
    refine r_istore_n 11 [(0, .int ((nI 17) - 1)), (1, .int (nI 17))] hp dJ14_dec_10 rfl (by decide) rfl rfl ?_
    refine r_iload_n 12 0 hp dJ14_dec_11 rfl rfl ?_
    exact hR.1 12 _ _ _ rfl rfl dJ14_dec_12 (by first | exact congrArg Value.int ((dec17 i hi).2 (Int32.not_le.mp c4)) | exact congrArg Value.int ((dec17 i hi).2 c4))
theorem lk_J14_127 : GoodIn lw_all (va_wsS RJ14 127 yJ14_sub (ws_ yJ14_sub cJ14_sub 3 (some .int))) := lw_S q637 q638 q122 q639
theorem yk_J14_sub : yOk yJ14_sub 3 := by decide +kernel
set_option maxHeartbeats 2000000 in
theorem cp_J14_size (D : DD) (l : Launch) {H0 : Heap} (a e hd n : Nat) (f : Nat → Option Nat) (h : ob D 16 [.ref e, .int (nI hd), .int (nI (ix hd n))] a H0) (he : ar D 3 (qA 17 f) e H0) (hd17 : hd < 17) (hn : n < 17) : Cp D l yJ14_size cJ14_size 1 (some .int) 1 22 [.ref a] H0 (some (.int (nI n))) := by
  have h1 := ix_lt hd17 (Nat.le_of_lt hn)
  refine Cp.of (by decide) (Nat.le_of_ble_eq_true rfl) (fun s A J hJ hR => ?_)
  show J H0 0 0 0 [] [(0, .ref a)]
  refine r_aload_n 1 0 (hJ.pu _ _ _) dJ14_size_0 rfl rfl ?_
  refine j_getf 4 hJ (T := TJ14) (C := RJ14) 2 (v := .int (nI (ix hd n))) okJ14 (h.fld 2 rfl) rfl (by decide) (Or.inl q480) (Or.inl rfl) dJ14_size_1 rfl ?_
  refine r_aload_n 5 0 (hJ.pu _ _ _) dJ14_size_4 rfl rfl ?_
  refine j_getf 8 hJ (T := TJ14) (C := RJ14) 1 (v := .int (nI hd)) okJ14 (h.fld 1 rfl) rfl (by decide) (Or.inl q479) (Or.inl rfl) dJ14_size_5 rfl ?_
  refine r_aload_n 9 0 (hJ.pu _ _ _) dJ14_size_8 rfl rfl ?_
  refine j_getf 12 hJ (T := TJ14) (C := RJ14) 0 (v := .ref e) okJ14 (h.fld 0 rfl) rfl (by decide) (Or.inl q476) (Or.inl rfl) dJ14_size_9 rfl ?_
  refine j_alen 13 hJ he rfl dJ14_size_12 rfl ?_
  refine cs_row 16 hJ (ts_J14_sub D l (ix hd n) hd (by assumption) (by assumption)) lk_J14_127 3 yk_J14_sub rfl ⟨by decide, by decide⟩ rfl (Nat.le_of_ble_eq_true rfl) dJ14_size_13 ⟨Nat.zero_le _, Nat.zero_le _⟩ rfl ?_
  exact Rt.i hR rfl dJ14_size_16 (Nat.zero_le _) (Nat.zero_le _) ⟨(by rw [ix_n hd17 hn]), rfl⟩
set_option maxHeartbeats 2000000 in
theorem cp_J14_isEmpty (D : DD) (l : Launch) {H0 : Heap} (a e hd n : Nat) (f : Nat → Option Nat) (h : ob D 16 [.ref e, .int (nI hd), .int (nI (ix hd n))] a H0) (hd17 : hd < 17) (hn : n < 17) : Cp D l yJ14_isEmpty cJ14_isEmpty 1 (some .boolean) 0 0 [.ref a] H0 (some (.int (zB (decide (n = 0))))) := by
  have h1 := ix_lt hd17 (Nat.le_of_lt hn)
  have h2 : hd = ix hd n ↔ n = 0 := by unfold ix; split <;> omega
  refine Cp.of (by decide) (Nat.le_of_ble_eq_true rfl) (fun s A J hJ hR => ?_)
  show J H0 0 0 0 [] [(0, .ref a)]
  refine r_aload_n 1 0 (hJ.pu _ _ _) dJ14_isEmpty_0 rfl rfl ?_
  refine j_getf 4 hJ (T := TJ14) (C := RJ14) 1 (v := .int (nI hd)) okJ14 (h.fld 1 rfl) rfl (by decide) (Or.inl q479) (Or.inl rfl) dJ14_isEmpty_1 rfl ?_
  refine r_aload_n 5 0 (hJ.pu _ _ _) dJ14_isEmpty_4 rfl rfl ?_
  refine j_getf 8 hJ (T := TJ14) (C := RJ14) 2 (v := .int (nI (ix hd n))) okJ14 (h.fld 2 rfl) rfl (by decide) (Or.inl q480) (Or.inl rfl) dJ14_isEmpty_5 rfl ?_
  refine r_icmp_neN hd (ix hd n) 11 15 (hJ.pu _ _ _) dJ14_isEmpty_8 (by omega) (by omega) (by decide) (fun c8 => ?_) rfl (fun c8 => ?_)
  · refine r_iconst 16 0 (hJ.pu _ _ _) dJ14_isEmpty_15 (by decide) rfl ?_
    exact Rt.i hR rfl dJ14_isEmpty_16 (Nat.zero_le _) (Nat.zero_le _) ⟨(by first | (rw [decide_eq_true (h2.mp c8)]; rfl) | (rw [decide_eq_false (fun z => c8 (h2.mpr z))]; rfl)), rfl⟩
  · refine r_iconst 12 1 (hJ.pu _ _ _) dJ14_isEmpty_11 (by decide) rfl ?_
    refine r_goto 16 (hJ.pu _ _ _) dJ14_isEmpty_12 (by decide) ?_
    exact Rt.i hR rfl dJ14_isEmpty_16 (Nat.zero_le _) (Nat.zero_le _) ⟨(by first | (rw [decide_eq_true (h2.mp c8)]; rfl) | (rw [decide_eq_false (fun z => c8 (h2.mpr z))]; rfl)), rfl⟩
set_option maxHeartbeats 2000000 in
theorem cp_J14_elementAt (D : DD) (l : Launch) {H0 : Heap} (e cap i x : Nat) (h : elr D 3 cap e i (some x) H0) (hi : i < cap) (hc : cap < 2 ^ 31) : Cp D l yJ14_elementAt cJ14_elementAt 2 (Option.some (ClassFile.FieldType.object "java/lang/Object")) 0 0 [.ref e, .int (nI i)] H0 (some (.ref x)) := by
  refine Cp.of (by decide) (Nat.le_of_ble_eq_true rfl) (fun s A J hJ hR => ?_)
  show J H0 0 0 0 [] [(0, .ref e), (1, .int (nI i))]
  refine r_aload_n 1 0 (hJ.pu _ _ _) dJ14_elementAt_0 rfl rfl ?_
  refine r_iload_n 2 1 (hJ.pu _ _ _) dJ14_elementAt_1 rfl rfl ?_
  refine j_aalde 3 hJ i (x := some x) h rfl rfl hi (by omega) dJ14_elementAt_2 rfl ?_
  exact Rt.a hR (Or.inl ⟨_, rfl⟩) dJ14_elementAt_3 (Nat.zero_le _) (Nat.zero_le _) ⟨rfl, rfl⟩
theorem lk_J14_74 : GoodIn lw_all (va_wsS RJ14 74 yJ14_inc (ws_ yJ14_inc cJ14_inc 2 (some .int))) := lw_S q1772 q1632 q122 q1633
theorem yk_J14_inc : yOk yJ14_inc 2 := by decide +kernel
set_option maxHeartbeats 4000000 in
theorem fc_J14_addLast (D : DD) (l : Launch) {KS : Nat → Prop} {Hb : Heap} (a e hd n x : Nat) (f : Nat → Option Nat) (hd17 : hd < 17) (hn : n < 16) (wv iv : va_W) (hx : ∀ H, (∀ q ∈ wv ++ iv, va_at D.1 aCl q H) → anyK D "java/lang/Object" x H) : Fc D l yJ14_addLast cJ14_addLast 3 none 1 0 0 21 KS Hb [.ref a, .ref x] ((oC a 16 [.ref e, .int (nI hd), .int (nI (ix hd n))]) :: (aC D 3 e (qA 17 f)) :: wv) iv (fun r w i => r = none ∧ w = oC a 16 [.ref e, .int (nI hd), .int (nI (ix hd (n + 1)))] :: aC D 3 e (qA 17 (va_up f (ix hd n) (some x))) :: wv ∧ i = []) := by
  have h1 := ix_lt hd17 (show n ≤ 17 by omega)
  have h2 := ix_lt hd17 (show n + 1 ≤ 17 by omega)
  have h3 : hd ≠ ix hd (n + 1) := by unfold ix; split <;> omega
  refine Fc.of (by decide) (Nat.le_of_ble_eq_true rfl) (fun s F hF hR => ?_)
  show F 0 0 ((oC a 16 [.ref e, .int (nI hd), .int (nI (ix hd n))]) :: (aC D 3 e (qA 17 f)) :: wv) iv 0 [] [(0, .ref a), (1, .ref x)]
  refine r_aload_n 1 1 (hF.pu _ _ _ _) dJ14_addLast_0 rfl rfl ?_
  refine r_ifnonnull 12 (hF.pu _ _ _ _) dJ14_addLast_1 (by decide) ?_
  refine r_aload_n 13 0 (hF.pu _ _ _ _) dJ14_addLast_12 rfl rfl ?_
  refine f_getf 16 hF (T := TJ14) (C := RJ14) 0 (v := .ref e) okJ14 (fun _ z => ((z.o 0 rfl).fld 0 rfl)) rfl (by decide) (Or.inl q476) (Or.inl rfl) dJ14_addLast_13 rfl ?_
  refine r_astore_n 17 [(2, .ref e), (0, .ref a), (1, .ref x)] (hF.pu _ _ _ _) dJ14_addLast_16 rfl (by decide) rfl rfl ?_
  refine r_aload_n 18 0 (hF.pu _ _ _ _) dJ14_addLast_17 rfl rfl ?_
  refine r_aload_n 19 1 (hF.pu _ _ _ _) dJ14_addLast_18 rfl rfl ?_
  refine f_getf 22 hF (T := TJ14) (C := RJ14) 2 (v := .int (nI (ix hd n))) okJ14 (fun _ z => ((z.o 0 rfl).fld 2 rfl)) rfl (by decide) (Or.inl q480) (Or.inl rfl) dJ14_addLast_19 rfl ?_
  refine r_aload_n 23 2 (hF.pu _ _ _ _) dJ14_addLast_22 rfl rfl ?_
  refine f_aast 24 hF 1 ((oC a 16 [.ref e, .int (nI hd), .int (nI (ix hd n))]) :: (aC D 3 e (qA 17 (va_up f (ix hd n) (some x)))) :: wv) rfl rfl (fun _ z => (hx _ (fun q hq => (List.mem_append.mp hq).elim (fun h => z.2.1 q (by simp [h])) (fun h => z.2.2 q (by simp [h]))))) (ix hd n) rfl (by omega) (by omega) rfl dJ14_addLast_23 rfl ?_
  refine r_aload_n 25 1 (hF.pu _ _ _ _) dJ14_addLast_24 rfl rfl ?_
  refine f_getf 28 hF (T := TJ14) (C := RJ14) 1 (v := .int (nI hd)) okJ14 (fun _ z => ((z.o 0 rfl).fld 1 rfl)) rfl (by decide) (Or.inl q479) (Or.inl rfl) dJ14_addLast_25 rfl ?_
  refine r_aload_n 29 1 (hF.pu _ _ _ _) dJ14_addLast_28 rfl rfl ?_
  refine r_aload_n 30 1 (hF.pu _ _ _ _) dJ14_addLast_29 rfl rfl ?_
  refine f_getf 33 hF (T := TJ14) (C := RJ14) 2 (v := .int (nI (ix hd n))) okJ14 (fun _ z => ((z.o 0 rfl).fld 2 rfl)) rfl (by decide) (Or.inl q480) (Or.inl rfl) dJ14_addLast_30 rfl ?_
  refine r_aload_n 34 0 (hF.pu _ _ _ _) dJ14_addLast_33 rfl rfl ?_
  refine f_alen 35 hF (fun _ z => (z.a 1 rfl)) rfl dJ14_addLast_34 rfl ?_
  refine f_callS' 38 hF (ts_J14_inc D l (ix hd n) (by assumption)) lk_J14_74 2 yk_J14_inc rfl ⟨by decide, by decide⟩ rfl (Nat.le_of_ble_eq_true rfl) dJ14_addLast_35 ⟨Nat.le_of_ble_eq_true rfl, Nat.le_of_ble_eq_true rfl⟩ rfl ?_
  refine r_eqi (nI (ix hd (n + 1))) (by rw [ix_inc hd17 (by omega)]) ?_
  refine r_dup_x1 39 (hF.pu _ _ _ _) dJ14_addLast_38 rfl rfl rfl ?_
  refine f_put 42 hF 0 (T := TJ14) (C := RJ14) ((oC a 16 [.ref e, .int (nI hd), .int (nI (ix hd (n + 1)))]) :: (aC D 3 e (qA 17 (va_up f (ix hd n) (some x)))) :: wv) okJ14 rfl rfl 2 (by decide) (Or.inl q480) (Or.inl rfl) rfl rfl rfl (Nat.le_of_ble_eq_true rfl) rfl dJ14_addLast_39 rfl ?_
  refine r_icmp_neN hd (ix hd (n + 1)) 45 50 (hF.pu _ _ _ _) dJ14_addLast_42 (by omega) (by omega) (by decide) (fun c42 => ?_) rfl (fun c42 => absurd c42 (h3))
  refine f_imsub hF [] (imk [] rfl) ?_
  exact FR.v hR dJ14_addLast_50 (Nat.le_of_ble_eq_true rfl) (Nat.le_of_ble_eq_true rfl) ⟨rfl, rfl, rfl⟩
theorem lk_J14_103 : GoodIn lw_all (va_wsS RJ14 103 yJ14_elementAt (ws_ yJ14_elementAt cJ14_elementAt 2 (Option.some (ClassFile.FieldType.object "java/lang/Object")))) := lw_S q1769 q1770 q122 q1771
theorem yk_J14_elementAt : yOk yJ14_elementAt 2 := by decide +kernel
set_option maxHeartbeats 4000000 in
theorem fc_J14_pollFirst (D : DD) (l : Launch) {KS : Nat → Prop} {Hb : Heap} (a e hd n x : Nat) (f : Nat → Option Nat) (hd17 : hd < 17) (hn : n < 16) (hf : f hd = some x) : Fc D l yJ14_pollFirst cJ14_pollFirst 4 (Option.some (ClassFile.FieldType.object "java/lang/Object")) 1 0 0 21 KS Hb [.ref a] ([oC a 16 [.ref e, .int (nI hd), .int (nI (ix hd (n + 1)))], aC D 3 e (qA 17 f)]) ([]) (fun r w i => r = some (.ref x) ∧ w = [oC a 16 [.ref e, .int (nI (ix hd 1)), .int (nI (ix (ix hd 1) n))], aC D 3 e (qA 17 (va_up f hd none))] ∧ i = []) := by
  refine Fc.of (by decide) (Nat.le_of_ble_eq_true rfl) (fun s F hF hR => ?_)
  show F 0 0 ([oC a 16 [.ref e, .int (nI hd), .int (nI (ix hd (n + 1)))], aC D 3 e (qA 17 f)]) ([]) 0 [] [(0, .ref a)]
  refine r_aload_n 1 0 (hF.pu _ _ _ _) dJ14_pollFirst_0 rfl rfl ?_
  refine f_getf 4 hF (T := TJ14) (C := RJ14) 0 (v := .ref e) okJ14 (fun _ z => ((z.o 0 rfl).fld 0 rfl)) rfl (by decide) (Or.inl q476) (Or.inl rfl) dJ14_pollFirst_1 rfl ?_
  refine r_dup 5 (hF.pu _ _ _ _) dJ14_pollFirst_4 rfl rfl ?_
  refine r_astore_n 6 [(1, .ref e), (0, .ref a)] (hF.pu _ _ _ _) dJ14_pollFirst_5 rfl (by decide) rfl rfl ?_
  refine r_aload_n 7 1 (hF.pu _ _ _ _) dJ14_pollFirst_6 rfl rfl ?_
  refine f_getf 10 hF (T := TJ14) (C := RJ14) 1 (v := .int (nI hd)) okJ14 (fun _ z => ((z.o 0 rfl).fld 1 rfl)) rfl (by decide) (Or.inl q479) (Or.inl rfl) dJ14_pollFirst_7 rfl ?_
  refine r_dup 11 (hF.pu _ _ _ _) dJ14_pollFirst_10 rfl rfl ?_
  refine r_istore_n 12 [(2, .int (nI hd)), (1, .ref e), (0, .ref a)] (hF.pu _ _ _ _) dJ14_pollFirst_11 rfl (by decide) rfl rfl ?_
  refine f_callps 15 hF (fun _ z => cp_J14_elementAt D l e 17 hd x ⟨_, (z.a 1 rfl), hf⟩ (by first | assumption | omega) (by decide)) lk_J14_103 2 yk_J14_elementAt rfl ⟨by decide, by decide⟩ rfl (Nat.le_of_ble_eq_true rfl) dJ14_pollFirst_12 ⟨Nat.le_of_ble_eq_true rfl, Nat.le_of_ble_eq_true rfl⟩ rfl ?_
  refine r_astore_n 16 [(3, .ref x), (2, .int (nI hd)), (1, .ref e), (0, .ref a)] (hF.pu _ _ _ _) dJ14_pollFirst_15 rfl (by decide) rfl rfl ?_
  refine r_aload_n 17 0 (hF.pu _ _ _ _) dJ14_pollFirst_16 rfl rfl ?_
  refine r_ifnull 20 (hF.pu _ _ _ _) dJ14_pollFirst_17 rfl ?_
  refine r_aload_n 21 2 (hF.pu _ _ _ _) dJ14_pollFirst_20 rfl rfl ?_
  refine r_iload_n 22 1 (hF.pu _ _ _ _) dJ14_pollFirst_21 rfl rfl ?_
  refine r_null 23 (hF.pu _ _ _ _) dJ14_pollFirst_22 rfl ?_
  refine f_aastN 24 hF 1 ([oC a 16 [.ref e, .int (nI hd), .int (nI (ix hd (n + 1)))], aC D 3 e (qA 17 (va_up f hd none))]) rfl rfl hd rfl (by omega) (by omega) rfl dJ14_pollFirst_23 rfl ?_
  refine r_aload_n 25 3 (hF.pu _ _ _ _) dJ14_pollFirst_24 rfl rfl ?_
  refine r_iload_n 26 1 (hF.pu _ _ _ _) dJ14_pollFirst_25 rfl rfl ?_
  refine r_aload_n 27 2 (hF.pu _ _ _ _) dJ14_pollFirst_26 rfl rfl ?_
  refine f_alen 28 hF (fun _ z => (z.a 1 rfl)) rfl dJ14_pollFirst_27 rfl ?_
  refine f_callS' 31 hF (ts_J14_inc D l hd (by assumption)) lk_J14_74 2 yk_J14_inc rfl ⟨by decide, by decide⟩ rfl (Nat.le_of_ble_eq_true rfl) dJ14_pollFirst_28 ⟨Nat.le_of_ble_eq_true rfl, Nat.le_of_ble_eq_true rfl⟩ rfl ?_
  refine r_eqi (nI (ix hd 1)) (by rw [← ix_inc hd17 (by decide), ix_0 hd17]) ?_
  refine f_put 34 hF 0 (T := TJ14) (C := RJ14) ([oC a 16 [.ref e, .int (nI (ix hd 1)), .int (nI (ix hd (n + 1)))], aC D 3 e (qA 17 (va_up f hd none))]) okJ14 rfl rfl 1 (by decide) (Or.inl q479) (Or.inl rfl) rfl rfl rfl (Nat.le_of_ble_eq_true rfl) rfl dJ14_pollFirst_31 rfl ?_
  refine r_aload_n 35 0 (hF.pu _ _ _ _) dJ14_pollFirst_34 rfl rfl ?_
  exact FR.a hR (Or.inl ⟨_, rfl⟩) dJ14_pollFirst_35 (Nat.le_of_ble_eq_true rfl) (Nat.le_of_ble_eq_true rfl) ⟨rfl, by rw [ix_s hd17 (by omega)], rfl⟩
theorem lk_J14_93 : GoodIn lw_all (wsV RJ14 93 yJ14_pollFirst.cls yJ14_pollFirst (ws_ yJ14_pollFirst cJ14_pollFirst 4 (Option.some (ClassFile.FieldType.object "java/lang/Object")))) := lw_V q1765 q1766 q1767 q122 q1768
theorem yk_J14_pollFirst : yOk yJ14_pollFirst 0 := by decide +kernel
set_option maxHeartbeats 4000000 in
theorem fc_J14_removeFirst (D : DD) (l : Launch) {KS : Nat → Prop} {Hb : Heap} (a e hd n x : Nat) (f : Nat → Option Nat) (hd17 : hd < 17) (hn : n < 16) (hf : f hd = some x) : Fc D l yJ14_removeFirst cJ14_removeFirst 2 (Option.some (ClassFile.FieldType.object "java/lang/Object")) 2 0 0 44 KS Hb [.ref a] ([oC a 16 [.ref e, .int (nI hd), .int (nI (ix hd (n + 1)))], aC D 3 e (qA 17 f)]) ([]) (fun r w i => r = some (.ref x) ∧ w = [oC a 16 [.ref e, .int (nI (ix hd 1)), .int (nI (ix (ix hd 1) n))], aC D 3 e (qA 17 (va_up f hd none))] ∧ i = []) := by
  refine Fc.of (by decide) (Nat.le_of_ble_eq_true rfl) (fun s F hF hR => ?_)
  show F 0 0 ([oC a 16 [.ref e, .int (nI hd), .int (nI (ix hd (n + 1)))], aC D 3 e (qA 17 f)]) ([]) 0 [] [(0, .ref a)]
  refine r_aload_n 1 0 (hF.pu _ _ _ _) dJ14_removeFirst_0 rfl rfl ?_
  refine f_callV 4 hF (fc_J14_pollFirst (KS := KS) (Hb := Hb) D l a e hd n x f (by assumption) (by omega) hf) (wr := ([])) rfl (imk [] rfl) lk_J14_93 0 yk_J14_pollFirst rfl ⟨by decide, by decide⟩ (fun _ z => ((z.o 0 rfl).fld 0 rfl)) rfl rfl (Nat.le_of_ble_eq_true rfl) dJ14_removeFirst_1 ⟨Nat.le_of_ble_eq_true rfl, Nat.le_of_ble_eq_true rfl⟩ rfl (fun r ws_ im' hp => ?_)
  obtain ⟨rfl, rfl, rfl⟩ := hp
  show F 0 0 ([oC a 16 [.ref e, .int (nI (ix hd 1)), .int (nI (ix (ix hd 1) n))], aC D 3 e (qA 17 (va_up f hd none))]) ([]) 4 [.ref x] [(0, .ref a)]
  refine r_astore_n 5 [(1, .ref x), (0, .ref a)] (hF.pu _ _ _ _) dJ14_removeFirst_4 rfl (by decide) rfl rfl ?_
  refine r_aload_n 6 0 (hF.pu _ _ _ _) dJ14_removeFirst_5 rfl rfl ?_
  refine r_ifnonnull 17 (hF.pu _ _ _ _) dJ14_removeFirst_6 (by decide) ?_
  refine r_aload_n 18 0 (hF.pu _ _ _ _) dJ14_removeFirst_17 rfl rfl ?_
  exact FR.a hR (Or.inl ⟨_, rfl⟩) dJ14_removeFirst_18 (Nat.le_of_ble_eq_true rfl) (Nat.le_of_ble_eq_true rfl) ⟨rfl, by rw [ix_s hd17 (by omega)], rfl⟩
theorem lk_J14_68 : GoodIn lw_all (va_wsS RJ14 68 yJ14_dec (ws_ yJ14_dec cJ14_dec 2 (some .int))) := lw_S q2561 q2562 q122 q2563
theorem yk_J14_dec : yOk yJ14_dec 2 := by decide +kernel
set_option maxHeartbeats 4000000 in
theorem fc_J14_pollLast (D : DD) (l : Launch) {KS : Nat → Prop} {Hb : Heap} (a e hd n x : Nat) (f : Nat → Option Nat) (hd17 : hd < 17) (hf : f (ix hd n) = some x) (hn : n < 16) : Fc D l yJ14_pollLast cJ14_pollLast 4 (Option.some (ClassFile.FieldType.object "java/lang/Object")) 1 0 0 21 KS Hb [.ref a] ([oC a 16 [.ref e, .int (nI hd), .int (nI (ix hd (n + 1)))], aC D 3 e (qA 17 f)]) ([]) (fun r w i => r = some (.ref x) ∧ w = [oC a 16 [.ref e, .int (nI hd), .int (nI (ix hd n))], aC D 3 e (qA 17 (va_up f (ix hd n) none))] ∧ i = []) := by
  have h1 := ix_lt hd17 (show n + 1 ≤ 17 by omega)
  have h2 := ix_lt hd17 (show n ≤ 17 by omega)
  refine Fc.of (by decide) (Nat.le_of_ble_eq_true rfl) (fun s F hF hR => ?_)
  show F 0 0 ([oC a 16 [.ref e, .int (nI hd), .int (nI (ix hd (n + 1)))], aC D 3 e (qA 17 f)]) ([]) 0 [] [(0, .ref a)]
  refine r_aload_n 1 0 (hF.pu _ _ _ _) dJ14_pollLast_0 rfl rfl ?_
  refine f_getf 4 hF (T := TJ14) (C := RJ14) 0 (v := .ref e) okJ14 (fun _ z => ((z.o 0 rfl).fld 0 rfl)) rfl (by decide) (Or.inl q476) (Or.inl rfl) dJ14_pollLast_1 rfl ?_
  refine r_dup 5 (hF.pu _ _ _ _) dJ14_pollLast_4 rfl rfl ?_
  refine r_astore_n 6 [(1, .ref e), (0, .ref a)] (hF.pu _ _ _ _) dJ14_pollLast_5 rfl (by decide) rfl rfl ?_
  refine r_aload_n 7 1 (hF.pu _ _ _ _) dJ14_pollLast_6 rfl rfl ?_
  refine f_getf 10 hF (T := TJ14) (C := RJ14) 2 (v := .int (nI (ix hd (n + 1)))) okJ14 (fun _ z => ((z.o 0 rfl).fld 2 rfl)) rfl (by decide) (Or.inl q480) (Or.inl rfl) dJ14_pollLast_7 rfl ?_
  refine r_aload_n 11 0 (hF.pu _ _ _ _) dJ14_pollLast_10 rfl rfl ?_
  refine f_alen 12 hF (fun _ z => (z.a 1 rfl)) rfl dJ14_pollLast_11 rfl ?_
  refine f_callS' 15 hF (ts_J14_dec D l (ix hd (n + 1)) (by assumption)) lk_J14_68 2 yk_J14_dec rfl ⟨by decide, by decide⟩ rfl (Nat.le_of_ble_eq_true rfl) dJ14_pollLast_12 ⟨Nat.le_of_ble_eq_true rfl, Nat.le_of_ble_eq_true rfl⟩ rfl ?_
  refine r_eqi (nI (ix hd n)) (by rw [ix_dec hd17 (by omega)]) ?_
  refine r_dup 16 (hF.pu _ _ _ _) dJ14_pollLast_15 rfl rfl ?_
  refine r_istore_n 17 [(2, .int (nI (ix hd n))), (1, .ref e), (0, .ref a)] (hF.pu _ _ _ _) dJ14_pollLast_16 rfl (by decide) rfl rfl ?_
  refine f_callps 20 hF (fun _ z => cp_J14_elementAt D l e 17 (ix hd n) x ⟨_, (z.a 1 rfl), hf⟩ (by first | assumption | omega) (by decide)) lk_J14_103 2 yk_J14_elementAt rfl ⟨by decide, by decide⟩ rfl (Nat.le_of_ble_eq_true rfl) dJ14_pollLast_17 ⟨Nat.le_of_ble_eq_true rfl, Nat.le_of_ble_eq_true rfl⟩ rfl ?_
  refine r_astore_n 21 [(3, .ref x), (2, .int (nI (ix hd n))), (1, .ref e), (0, .ref a)] (hF.pu _ _ _ _) dJ14_pollLast_20 rfl (by decide) rfl rfl ?_
  refine r_aload_n 22 0 (hF.pu _ _ _ _) dJ14_pollLast_21 rfl rfl ?_
  refine r_ifnull 25 (hF.pu _ _ _ _) dJ14_pollLast_22 rfl ?_
  refine r_aload_n 26 2 (hF.pu _ _ _ _) dJ14_pollLast_25 rfl rfl ?_
  refine r_aload_n 27 3 (hF.pu _ _ _ _) dJ14_pollLast_26 rfl rfl ?_
  refine r_iload_n 28 1 (hF.pu _ _ _ _) dJ14_pollLast_27 rfl rfl ?_
  refine r_dup_x1 29 (hF.pu _ _ _ _) dJ14_pollLast_28 rfl rfl rfl ?_
  refine f_put 32 hF 0 (T := TJ14) (C := RJ14) ([oC a 16 [.ref e, .int (nI hd), .int (nI (ix hd n))], aC D 3 e (qA 17 f)]) okJ14 rfl rfl 2 (by decide) (Or.inl q480) (Or.inl rfl) rfl rfl rfl (Nat.le_of_ble_eq_true rfl) rfl dJ14_pollLast_29 rfl ?_
  refine r_null 33 (hF.pu _ _ _ _) dJ14_pollLast_32 rfl ?_
  refine f_aastN 34 hF 1 ([oC a 16 [.ref e, .int (nI hd), .int (nI (ix hd n))], aC D 3 e (qA 17 (va_up f (ix hd n) none))]) rfl rfl (ix hd n) rfl (by omega) (by omega) rfl dJ14_pollLast_33 rfl ?_
  refine r_aload_n 35 0 (hF.pu _ _ _ _) dJ14_pollLast_34 rfl rfl ?_
  exact FR.a hR (Or.inl ⟨_, rfl⟩) dJ14_pollLast_35 (Nat.le_of_ble_eq_true rfl) (Nat.le_of_ble_eq_true rfl) ⟨rfl, rfl, rfl⟩
theorem lk_J14_100 : GoodIn lw_all (wsV RJ14 100 yJ14_pollLast.cls yJ14_pollLast (ws_ yJ14_pollLast cJ14_pollLast 4 (Option.some (ClassFile.FieldType.object "java/lang/Object")))) := lw_V q3482 q3483 q3484 q122 q3485
theorem yk_J14_pollLast : yOk yJ14_pollLast 0 := by decide +kernel
set_option maxHeartbeats 4000000 in
theorem fc_J14_removeLast (D : DD) (l : Launch) {KS : Nat → Prop} {Hb : Heap} (a e hd n x : Nat) (f : Nat → Option Nat) (hd17 : hd < 17) (hf : f (ix hd n) = some x) (hn : n < 16) : Fc D l yJ14_removeLast cJ14_removeLast 2 (Option.some (ClassFile.FieldType.object "java/lang/Object")) 2 0 0 44 KS Hb [.ref a] ([oC a 16 [.ref e, .int (nI hd), .int (nI (ix hd (n + 1)))], aC D 3 e (qA 17 f)]) ([]) (fun r w i => r = some (.ref x) ∧ w = [oC a 16 [.ref e, .int (nI hd), .int (nI (ix hd n))], aC D 3 e (qA 17 (va_up f (ix hd n) none))] ∧ i = []) := by
  refine Fc.of (by decide) (Nat.le_of_ble_eq_true rfl) (fun s F hF hR => ?_)
  show F 0 0 ([oC a 16 [.ref e, .int (nI hd), .int (nI (ix hd (n + 1)))], aC D 3 e (qA 17 f)]) ([]) 0 [] [(0, .ref a)]
  refine r_aload_n 1 0 (hF.pu _ _ _ _) dJ14_removeLast_0 rfl rfl ?_
  refine f_callV 4 hF (fc_J14_pollLast (KS := KS) (Hb := Hb) D l a e hd n x f (by assumption) hf (by omega)) (wr := ([])) rfl (imk [] rfl) lk_J14_100 0 yk_J14_pollLast rfl ⟨by decide, by decide⟩ (fun _ z => ((z.o 0 rfl).fld 0 rfl)) rfl rfl (Nat.le_of_ble_eq_true rfl) dJ14_removeLast_1 ⟨Nat.le_of_ble_eq_true rfl, Nat.le_of_ble_eq_true rfl⟩ rfl (fun r ws_ im' hp => ?_)
  obtain ⟨rfl, rfl, rfl⟩ := hp
  show F 0 0 ([oC a 16 [.ref e, .int (nI hd), .int (nI (ix hd n))], aC D 3 e (qA 17 (va_up f (ix hd n) none))]) ([]) 4 [.ref x] [(0, .ref a)]
  refine r_astore_n 5 [(1, .ref x), (0, .ref a)] (hF.pu _ _ _ _) dJ14_removeLast_4 rfl (by decide) rfl rfl ?_
  refine r_aload_n 6 0 (hF.pu _ _ _ _) dJ14_removeLast_5 rfl rfl ?_
  refine r_ifnonnull 17 (hF.pu _ _ _ _) dJ14_removeLast_6 (by decide) ?_
  refine r_aload_n 18 0 (hF.pu _ _ _ _) dJ14_removeLast_17 rfl rfl ?_
  exact FR.a hR (Or.inl ⟨_, rfl⟩) dJ14_removeLast_18 (Nat.le_of_ble_eq_true rfl) (Nat.le_of_ble_eq_true rfl) ⟨rfl, rfl, rfl⟩
set_option maxHeartbeats 4000000 in
theorem fc_J14_init (D : DD) (l : Launch) {KS : Nat → Prop} {Hb : Heap} (a : Nat) : Fc D l yJ14_init cJ14_init 1 none 2 1 17 40 KS Hb [.ref a] ([oC a 16 [.null, .int 0, .int 0]]) ([]) (fun r w i => ∃ e, r = none ∧ w = [oC a 16 [.ref e, .int 0, .int 0], aC D 3 e (qA 17 (fun _ => none))] ∧ i = []) := by
  refine Fc.of (by decide) (Nat.le_of_ble_eq_true rfl) (fun s F hF hR => ?_)
  show F 0 0 ([oC a 16 [.null, .int 0, .int 0]]) ([]) 0 [] [(0, .ref a)]
  refine r_aload_n 1 0 (hF.pu _ _ _ _) dJ14_init_0 rfl rfl ?_
  refine f_callI 4 hF (fc_J1_init (KS := KS) (Hb := Hb) D l a) (wr := ([oC a 16 [.null, .int 0, .int 0]])) rfl (imk [] rfl) q226 q107 q474 q225 rfl 0 yk_J1_init rfl ⟨by decide, by decide⟩ rfl (Nat.le_of_ble_eq_true rfl) dJ14_init_1 ⟨Nat.le_of_ble_eq_true rfl, Nat.le_of_ble_eq_true rfl⟩ rfl (fun r ws_ im' hp => ?_)
  obtain ⟨rfl, rfl, rfl⟩ := hp
  show F 0 0 ([oC a 16 [.null, .int 0, .int 0]]) ([]) 4 [] [(0, .ref a)]
  refine r_aload_n 5 0 (hF.pu _ _ _ _) dJ14_init_4 rfl rfl ?_
  refine r_bipush 7 17 (hF.pu _ _ _ _) dJ14_init_5 (by decide) rfl ?_
  refine f_newq 10 hF (t := 3) (List.mem_of_getElem? (i := 0) rfl) q475 rfl rfl (by decide) ⟨Nat.le_of_ble_eq_true rfl, Nat.le_of_ble_eq_true rfl⟩ dJ14_init_7 rfl (fun a1_ => ?_)
  refine f_put 13 hF 1 (T := TJ14) (C := RJ14) ([aC D 3 a1_ (qA 17 (fun _ => none)), oC a 16 [.ref a1_, .int 0, .int 0]]) okJ14 rfl rfl 0 (by decide) (Or.inl q476) (Or.inl rfl) rfl rfl rfl (Nat.le_of_ble_eq_true rfl) rfl dJ14_init_10 rfl ?_
  refine f_ups hF [1] ([oC a 16 [.ref a1_, .int 0, .int 0], aC D 3 a1_ (qA 17 (fun _ => none))]) rfl ?_
  exact FR.v hR dJ14_init_13 (Nat.le_of_ble_eq_true rfl) (Nat.le_of_ble_eq_true rfl) ⟨_, rfl, rfl, rfl⟩
/-- a deque of n elements q -/
def dqS (D : DD) (a e n : Nat) (q : Nat → Nat) (W : va_W) : Prop := ∃ hd f, W = [oC a 16 [.ref e, .int (nI hd), .int (nI (ix hd n))], aC D 3 e (qA 17 f)] ∧ hd < 17 ∧ ∀ i, i < n → f (ix hd i) = some (q i)
/-- the elements when x is pushed behind them, six at most -/
def puM (n : Nat) : Nat := if n = 6 then 6 else n + 1
def puQ (n : Nat) (q : Nat → Nat) (x : Nat) : Nat → Nat := if n = 6 then fun i => if i < 5 then q (i + 1) else x else fun i => if i < n then q i else x
theorem lk_X1_58 : GoodIn lw_all (wsV RX1 58 yJ14_size.cls yJ14_size (ws_ yJ14_size cJ14_size 1 (some .int))) := lw_V q1760 q635 q3924 q122 q636
theorem yk_J14_size : yOk yJ14_size 0 := by decide +kernel
theorem lk_X1_66 : GoodIn lw_all (wsV RX1 66 yJ14_addLast.cls yJ14_addLast (ws_ yJ14_addLast cJ14_addLast 3 none)) := lw_V q1775 q1776 q1777 q122 q1778
theorem yk_J14_addLast : yOk yJ14_addLast 1 := by decide +kernel
theorem lk_X1_62 : GoodIn lw_all (wsV RX1 62 yJ14_removeFirst.cls yJ14_removeFirst (ws_ yJ14_removeFirst cJ14_removeFirst 2 (Option.some (ClassFile.FieldType.object "java/lang/Object")))) := lw_V q1761 q1762 q1763 q122 q1764
theorem yk_J14_removeFirst : yOk yJ14_removeFirst 0 := by decide +kernel
set_option maxHeartbeats 4000000 in
theorem fc_X1_change_2 (D : DD) (l : Launch) {KS : Nat → Prop} {Hb : Heap} (x nw mk dq e cm tx hd n : Nat) (sv : Value) (tl fl : Int32) (f : Nat → Option Nat) (q : Nat → Nat) (hd17 : hd < 17) (hn : n ≤ 6) (hf : ∀ i, i < n → f (ix hd i) = some (q i)) (iv : va_W) (hx : ∀ H, (∀ q ∈ iv, va_at D.1 aCl q H) → anyK D "java/lang/Object" nw H) : Fc D l yX1_change_2 cX1_change_2 2 (Option.some (ClassFile.FieldType.object "TaxWorkbench$World")) 3 0 0 65 KS Hb [.ref x, .ref mk] ([oC x 1 [.ref nw, sv, .ref dq, .ref cm, .ref tx, .int tl, .int fl], oC dq 16 [.ref e, .int (nI hd), .int (nI (ix hd n))], aC D 3 e (qA 17 f)]) iv (fun r w i => ∃ W', r = some (.ref mk) ∧ i = [] ∧ w = oC x 1 [.ref mk, sv, .ref dq, .ref cm, .ref tx, .int tl, .int fl] :: W' ∧ dqS D dq e (puM n) (puQ n q nw) W') := by
  have h1 := ix_lt hd17 (show 1 ≤ 17 by decide)
  refine Fc.of (by decide) (Nat.le_of_ble_eq_true rfl) (fun s F hF hR => ?_)
  show F 0 0 ([oC x 1 [.ref nw, sv, .ref dq, .ref cm, .ref tx, .int tl, .int fl], oC dq 16 [.ref e, .int (nI hd), .int (nI (ix hd n))], aC D 3 e (qA 17 f)]) iv 0 [] [(0, .ref x), (1, .ref mk)]
  refine r_aload_n 1 0 (hF.pu _ _ _ _) dX1_change_2_0 rfl rfl ?_
  refine f_getf 4 hF (T := TX1) (C := RX1) 2 (v := .ref dq) okX1 (fun _ z => ((z.o 0 rfl).fld 2 rfl)) rfl (by decide) (Or.inl q552) (Or.inl rfl) dX1_change_2_1 rfl ?_
  refine f_callp 7 hF (fun _ z => cp_J14_size D l dq e hd n f (z.o 1 rfl) (z.a 2 rfl) (by assumption) (by omega)) lk_X1_58 0 yk_J14_size rfl ⟨by decide, by decide⟩ (fun _ z => ((z.o 1 rfl).fld 0 rfl)) rfl rfl (Nat.le_of_ble_eq_true rfl) dX1_change_2_4 ⟨Nat.le_of_ble_eq_true rfl, Nat.le_of_ble_eq_true rfl⟩ rfl ?_
  refine r_bipush 9 6 (hF.pu _ _ _ _) dX1_change_2_7 (by decide) rfl ?_
  refine r_icmp_neN n 6 12 20 (hF.pu _ _ _ _) dX1_change_2_9 (by omega) (by omega) (by decide) (fun c9 => ?_) rfl (fun c9 => ?_)
  · refine r_aload_n 21 0 (hF.pu _ _ _ _) dX1_change_2_20 rfl rfl ?_
    refine f_getf 24 hF (T := TX1) (C := RX1) 2 (v := .ref dq) okX1 (fun _ z => ((z.o 0 rfl).fld 2 rfl)) rfl (by decide) (Or.inl q552) (Or.inl rfl) dX1_change_2_21 rfl ?_
    refine r_aload_n 25 0 (hF.pu _ _ _ _) dX1_change_2_24 rfl rfl ?_
    refine f_getf 28 hF (T := TX1) (C := RX1) 0 (v := .ref nw) okX1 (fun _ z => ((z.o 0 rfl).fld 0 rfl)) rfl (by decide) (Or.inl q550) (Or.inl rfl) dX1_change_2_25 rfl ?_
    refine f_ups hF [2] ([aC D 3 e (qA 17 f), oC x 1 [.ref nw, sv, .ref dq, .ref cm, .ref tx, .int tl, .int fl], oC dq 16 [.ref e, .int (nI hd), .int (nI (ix hd n))]]) rfl ?_
    refine f_ups hF [2] ([oC dq 16 [.ref e, .int (nI hd), .int (nI (ix hd n))], aC D 3 e (qA 17 f), oC x 1 [.ref nw, sv, .ref dq, .ref cm, .ref tx, .int tl, .int fl]]) rfl ?_
    refine f_callV 31 hF (fc_J14_addLast (KS := KS) (Hb := Hb) D l dq e hd n nw f (by assumption) (by omega) [] iv hx) (wr := ([oC x 1 [.ref nw, sv, .ref dq, .ref cm, .ref tx, .int tl, .int fl]])) rfl (fun c hc => hc) lk_X1_66 1 yk_J14_addLast rfl ⟨by decide, by decide⟩ (fun _ z => ((z.o 0 rfl).fld 0 rfl)) rfl rfl (Nat.le_of_ble_eq_true rfl) dX1_change_2_28 ⟨Nat.le_of_ble_eq_true rfl, Nat.le_of_ble_eq_true rfl⟩ rfl (fun r ws_ im' hp => ?_)
    obtain ⟨rfl, rfl, rfl⟩ := hp
    show F 0 0 ([oC dq 16 [.ref e, .int (nI hd), .int (nI (ix hd (n + 1)))], aC D 3 e (qA 17 (va_up f (ix hd n) (some nw))), oC x 1 [.ref nw, sv, .ref dq, .ref cm, .ref tx, .int tl, .int fl]]) iv 31 [] [(0, .ref x), (1, .ref mk)]
    refine r_aload_n 32 0 (hF.pu _ _ _ _) dX1_change_2_31 rfl rfl ?_
    refine r_aload_n 33 1 (hF.pu _ _ _ _) dX1_change_2_32 rfl rfl ?_
    refine f_put 36 hF 2 (T := TX1) (C := RX1) ([oC dq 16 [.ref e, .int (nI hd), .int (nI (ix hd (n + 1)))], aC D 3 e (qA 17 (va_up f (ix hd n) (some nw))), oC x 1 [.ref mk, sv, .ref dq, .ref cm, .ref tx, .int tl, .int fl]]) okX1 rfl rfl 0 (by decide) (Or.inl q550) (Or.inl rfl) rfl rfl rfl (Nat.le_of_ble_eq_true rfl) rfl dX1_change_2_33 rfl ?_
    refine r_aload_n 37 1 (hF.pu _ _ _ _) dX1_change_2_36 rfl rfl ?_
    refine f_ups hF [1] ([aC D 3 e (qA 17 (va_up f (ix hd n) (some nw))), oC dq 16 [.ref e, .int (nI hd), .int (nI (ix hd (n + 1)))], oC x 1 [.ref mk, sv, .ref dq, .ref cm, .ref tx, .int tl, .int fl]]) rfl ?_
    refine f_ups hF [1] ([oC dq 16 [.ref e, .int (nI hd), .int (nI (ix hd (n + 1)))], aC D 3 e (qA 17 (va_up f (ix hd n) (some nw))), oC x 1 [.ref mk, sv, .ref dq, .ref cm, .ref tx, .int tl, .int fl]]) rfl ?_
    refine f_ups hF [2] ([oC x 1 [.ref mk, sv, .ref dq, .ref cm, .ref tx, .int tl, .int fl], oC dq 16 [.ref e, .int (nI hd), .int (nI (ix hd (n + 1)))], aC D 3 e (qA 17 (va_up f (ix hd n) (some nw)))]) rfl ?_
    refine f_imsub hF [] (imk [] rfl) ?_
    exact FR.a hR (Or.inl ⟨_, rfl⟩) dX1_change_2_37 (Nat.le_of_ble_eq_true rfl) (Nat.le_of_ble_eq_true rfl) ⟨_, rfl, rfl, rfl, hd, _, by rw [puM, if_neg c9], hd17, fun i hi => by rw [puM, if_neg c9] at hi; rw [puQ, if_neg c9]; by_cases hin : i = n; subst hin; simp [va_up]; simp only [va_up]; rw [if_neg (ix_ne hd17 (by omega) (by omega) hin), if_pos (by omega)]; exact hf i (by omega)⟩
  · subst c9
    refine r_aload_n 13 0 (hF.pu _ _ _ _) dX1_change_2_12 rfl rfl ?_
    refine f_getf 16 hF (T := TX1) (C := RX1) 2 (v := .ref dq) okX1 (fun _ z => ((z.o 0 rfl).fld 2 rfl)) rfl (by decide) (Or.inl q552) (Or.inl rfl) dX1_change_2_13 rfl ?_
    refine f_ups hF [2] ([aC D 3 e (qA 17 f), oC x 1 [.ref nw, sv, .ref dq, .ref cm, .ref tx, .int tl, .int fl], oC dq 16 [.ref e, .int (nI hd), .int (nI (ix hd 6))]]) rfl ?_
    refine f_ups hF [2] ([oC dq 16 [.ref e, .int (nI hd), .int (nI (ix hd 6))], aC D 3 e (qA 17 f), oC x 1 [.ref nw, sv, .ref dq, .ref cm, .ref tx, .int tl, .int fl]]) rfl ?_
    refine f_callV 19 hF (fc_J14_removeFirst (KS := KS) (Hb := Hb) D l dq e hd 5 (q 0) f (by assumption) (by omega) (by have := hf 0 (by omega); rwa [ix_0 hd17] at this)) (wr := ([oC x 1 [.ref nw, sv, .ref dq, .ref cm, .ref tx, .int tl, .int fl]])) rfl (imk [] rfl) lk_X1_62 0 yk_J14_removeFirst rfl ⟨by decide, by decide⟩ (fun _ z => ((z.o 0 rfl).fld 0 rfl)) rfl rfl (Nat.le_of_ble_eq_true rfl) dX1_change_2_16 ⟨Nat.le_of_ble_eq_true rfl, Nat.le_of_ble_eq_true rfl⟩ rfl (fun r ws_ im' hp => ?_)
    obtain ⟨rfl, rfl, rfl⟩ := hp
    show F 0 0 ([oC dq 16 [.ref e, .int (nI (ix hd 1)), .int (nI (ix (ix hd 1) 5))], aC D 3 e (qA 17 (va_up f hd none)), oC x 1 [.ref nw, sv, .ref dq, .ref cm, .ref tx, .int tl, .int fl]]) iv 19 [.ref (q 0)] [(0, .ref x), (1, .ref mk)]
    refine r_pop 20 (hF.pu _ _ _ _) dX1_change_2_19 rfl rfl ?_
    refine r_aload_n 21 0 (hF.pu _ _ _ _) dX1_change_2_20 rfl rfl ?_
    refine f_getf 24 hF (T := TX1) (C := RX1) 2 (v := .ref dq) okX1 (fun _ z => ((z.o 2 rfl).fld 2 rfl)) rfl (by decide) (Or.inl q552) (Or.inl rfl) dX1_change_2_21 rfl ?_
    refine r_aload_n 25 0 (hF.pu _ _ _ _) dX1_change_2_24 rfl rfl ?_
    refine f_getf 28 hF (T := TX1) (C := RX1) 0 (v := .ref nw) okX1 (fun _ z => ((z.o 2 rfl).fld 0 rfl)) rfl (by decide) (Or.inl q550) (Or.inl rfl) dX1_change_2_25 rfl ?_
    refine f_callV 31 hF (fc_J14_addLast (KS := KS) (Hb := Hb) D l dq e (ix hd 1) 5 nw (va_up f hd none) (by assumption) (by omega) [] iv hx) (wr := ([oC x 1 [.ref nw, sv, .ref dq, .ref cm, .ref tx, .int tl, .int fl]])) rfl (fun c hc => hc) lk_X1_66 1 yk_J14_addLast rfl ⟨by decide, by decide⟩ (fun _ z => ((z.o 0 rfl).fld 0 rfl)) rfl rfl (Nat.le_of_ble_eq_true rfl) dX1_change_2_28 ⟨Nat.le_of_ble_eq_true rfl, Nat.le_of_ble_eq_true rfl⟩ rfl (fun r ws_ im' hp => ?_)
    obtain ⟨rfl, rfl, rfl⟩ := hp
    show F 0 0 ([oC dq 16 [.ref e, .int (nI (ix hd 1)), .int (nI (ix (ix hd 1) (6)))], aC D 3 e (qA 17 (va_up (va_up f hd none) (ix (ix hd 1) 5) (some nw))), oC x 1 [.ref nw, sv, .ref dq, .ref cm, .ref tx, .int tl, .int fl]]) iv 31 [] [(0, .ref x), (1, .ref mk)]
    refine r_aload_n 32 0 (hF.pu _ _ _ _) dX1_change_2_31 rfl rfl ?_
    refine r_aload_n 33 1 (hF.pu _ _ _ _) dX1_change_2_32 rfl rfl ?_
    refine f_put 36 hF 2 (T := TX1) (C := RX1) ([oC dq 16 [.ref e, .int (nI (ix hd 1)), .int (nI (ix (ix hd 1) (6)))], aC D 3 e (qA 17 (va_up (va_up f hd none) (ix (ix hd 1) 5) (some nw))), oC x 1 [.ref mk, sv, .ref dq, .ref cm, .ref tx, .int tl, .int fl]]) okX1 rfl rfl 0 (by decide) (Or.inl q550) (Or.inl rfl) rfl rfl rfl (Nat.le_of_ble_eq_true rfl) rfl dX1_change_2_33 rfl ?_
    refine r_aload_n 37 1 (hF.pu _ _ _ _) dX1_change_2_36 rfl rfl ?_
    refine f_ups hF [1] ([aC D 3 e (qA 17 (va_up (va_up f hd none) (ix (ix hd 1) 5) (some nw))), oC dq 16 [.ref e, .int (nI (ix hd 1)), .int (nI (ix (ix hd 1) (6)))], oC x 1 [.ref mk, sv, .ref dq, .ref cm, .ref tx, .int tl, .int fl]]) rfl ?_
    refine f_ups hF [1] ([oC dq 16 [.ref e, .int (nI (ix hd 1)), .int (nI (ix (ix hd 1) (6)))], aC D 3 e (qA 17 (va_up (va_up f hd none) (ix (ix hd 1) 5) (some nw))), oC x 1 [.ref mk, sv, .ref dq, .ref cm, .ref tx, .int tl, .int fl]]) rfl ?_
    refine f_ups hF [2] ([oC x 1 [.ref mk, sv, .ref dq, .ref cm, .ref tx, .int tl, .int fl], oC dq 16 [.ref e, .int (nI (ix hd 1)), .int (nI (ix (ix hd 1) (6)))], aC D 3 e (qA 17 (va_up (va_up f hd none) (ix (ix hd 1) 5) (some nw)))]) rfl ?_
    refine f_imsub hF [] (imk [] rfl) ?_
    exact FR.a hR (Or.inl ⟨_, rfl⟩) dX1_change_2_37 (Nat.le_of_ble_eq_true rfl) (Nat.le_of_ble_eq_true rfl) ⟨_, rfl, rfl, rfl, ix hd 1, _, rfl, h1, fun i hi => by rw [puM, if_pos rfl] at hi; rw [puQ, if_pos rfl, ix_s (i := i) hd17 (by omega), ix_s (i := 5) hd17 (by decide)]; by_cases hin : i = 5; subst hin; simp [va_up]; simp only [va_up]; rw [if_neg (ix_ne hd17 (by omega) (by omega) (by omega)), if_neg (by have := ix_ne hd17 (show i + 1 < 17 by omega) (show 0 < 17 by decide) (by omega); rwa [ix_0 hd17] at this), if_pos (by omega)]; exact hf (i + 1) (by omega)⟩
