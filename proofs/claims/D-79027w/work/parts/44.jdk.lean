theorem maxJ10 {m : Nat} (h : m ≤ 10) : maxJ 10 (nI m) = nI 10 := by
  unfold maxJ
  have : ¬ (10 : Int32) < nI m := fun z => nI_nlt h (by decide) z
  rw [if_neg this]; rfl
theorem minJ_r {a b : Nat} (h : b ≤ a) (ha : a < 2 ^ 31) : minJ (nI a) (nI b) = nI b := by
  unfold minJ
  by_cases e : a = b
  · subst e; simp
  · rw [if_pos (nI_lt (by omega) ha)]
/-- the segments of a list's cells: charges (an ArrayList), credits (a LinkedList) -/
def chS (D : DD) (a n : Nat) (f : Nat → Nat) (w : va_W) : Prop := ∃ m, (n = 0 ∧ w = [oC a 12 [.int m, .ref (D.2.2.1 1), .int 0]]) ∨ (0 < n ∧ n ≤ 4 ∧ ∃ e g, w = [oC a 12 [.int m, .ref e, .int (nI n)], aC D 3 e (qA 10 g)] ∧ ∀ i, i < n → g i = some (f i))
def lkS (a n : Nat) (f : Nat → Nat) (w : va_W) : Prop := ∃ m, (n = 0 ∧ w = [oC a 13 [.int m, .int 0, .null, .null]]) ∨ (n = 1 ∧ ∃ b, w = [oC a 13 [.int m, .int 1, .ref b, .ref b], oC b 14 [.ref (f 0), .null, .null]]) ∨ (n = 2 ∧ ∃ b c, w = [oC a 13 [.int m, .int 2, .ref b, .ref c], oC b 14 [.ref (f 0), .ref c, .null], oC c 14 [.ref (f 1), .null, .ref b]])
set_option maxHeartbeats 4000000 in
theorem fc_J1_init (D : DD) (l : Launch) {KS : Nat → Prop} {Hb : Heap} (a : Nat) : Fc D l yJ1_init cJ1_init 1 none 1 0 0 20 KS Hb [.ref a] ([]) ([]) (fun r w i => r = none ∧ w = [] ∧ i = []) := by
  refine Fc.of (by decide) (Nat.le_of_ble_eq_true rfl) (fun s F hF hR => ?_)
  show F 0 0 ([]) ([]) 0 [] [(0, .ref a)]
  refine r_aload_n 1 0 (hF.pu _ _ _ _) dJ1_init_0 rfl rfl ?_
  refine f_objInit 4 hF q227 q179 q180 ⟨by decide, by decide⟩ dJ1_init_1 rfl ?_
  exact FR.v hR dJ1_init_4 (Nat.le_of_ble_eq_true rfl) (Nat.le_of_ble_eq_true rfl) ⟨rfl, rfl, rfl⟩
theorem yk_J1_init : yOk yJ1_init 0 := by decide +kernel
set_option maxHeartbeats 4000000 in
theorem fc_J7_init_J8 (D : DD) (l : Launch) {KS : Nat → Prop} {Hb : Heap} (a : Nat) : Fc D l yJ7_init cJ7_init 1 none 2 0 0 40 KS Hb [.ref a] ([oC a 12 [.int 0, .null, .int 0]]) ([]) (fun r w i => r = none ∧ w = [oC a 12 [.int 0, .null, .int 0]] ∧ i = []) := by
  refine Fc.of (by decide) (Nat.le_of_ble_eq_true rfl) (fun s F hF hR => ?_)
  show F 0 0 ([oC a 12 [.int 0, .null, .int 0]]) ([]) 0 [] [(0, .ref a)]
  refine r_aload_n 1 0 (hF.pu _ _ _ _) dJ7_init_0 rfl rfl ?_
  refine f_callI 4 hF (fc_J1_init (KS := KS) (Hb := Hb) D l a) (wr := ([oC a 12 [.int 0, .null, .int 0]])) rfl (imk [] rfl) q226 q107 q248 q225 rfl 0 yk_J1_init rfl ⟨by decide, by decide⟩ rfl (Nat.le_of_ble_eq_true rfl) dJ7_init_1 ⟨Nat.le_of_ble_eq_true rfl, Nat.le_of_ble_eq_true rfl⟩ rfl (fun r ws_ im' hp => ?_)
  obtain ⟨rfl, rfl, rfl⟩ := hp
  show F 0 0 ([oC a 12 [.int 0, .null, .int 0]]) ([]) 4 [] [(0, .ref a)]
  refine r_aload_n 5 0 (hF.pu _ _ _ _) dJ7_init_4 rfl rfl ?_
  refine r_iconst 6 0 (hF.pu _ _ _ _) dJ7_init_5 (by decide) rfl ?_
  refine f_put 9 hF 0 (T := TJ8) (C := RJ8) ([oC a 12 [.int 0, .null, .int 0]]) okJ8 rfl rfl 0 (by decide) (Or.inl q258) (Or.inl rfl) rfl rfl rfl (Nat.le_of_ble_eq_true rfl) rfl dJ7_init_6 rfl ?_
  exact FR.v hR dJ7_init_9 (Nat.le_of_ble_eq_true rfl) (Nat.le_of_ble_eq_true rfl) ⟨rfl, rfl, rfl⟩
set_option maxHeartbeats 4000000 in
theorem fc_J7_init_J10 (D : DD) (l : Launch) {KS : Nat → Prop} {Hb : Heap} (a : Nat) : Fc D l yJ7_init cJ7_init 1 none 2 0 0 40 KS Hb [.ref a] ([oC a 13 [.int 0, .int 0, .null, .null]]) ([]) (fun r w i => r = none ∧ w = [oC a 13 [.int 0, .int 0, .null, .null]] ∧ i = []) := by
  refine Fc.of (by decide) (Nat.le_of_ble_eq_true rfl) (fun s F hF hR => ?_)
  show F 0 0 ([oC a 13 [.int 0, .int 0, .null, .null]]) ([]) 0 [] [(0, .ref a)]
  refine r_aload_n 1 0 (hF.pu _ _ _ _) dJ7_init_0 rfl rfl ?_
  refine f_callI 4 hF (fc_J1_init (KS := KS) (Hb := Hb) D l a) (wr := ([oC a 13 [.int 0, .int 0, .null, .null]])) rfl (imk [] rfl) q226 q107 q248 q225 rfl 0 yk_J1_init rfl ⟨by decide, by decide⟩ rfl (Nat.le_of_ble_eq_true rfl) dJ7_init_1 ⟨Nat.le_of_ble_eq_true rfl, Nat.le_of_ble_eq_true rfl⟩ rfl (fun r ws_ im' hp => ?_)
  obtain ⟨rfl, rfl, rfl⟩ := hp
  show F 0 0 ([oC a 13 [.int 0, .int 0, .null, .null]]) ([]) 4 [] [(0, .ref a)]
  refine r_aload_n 5 0 (hF.pu _ _ _ _) dJ7_init_4 rfl rfl ?_
  refine r_iconst 6 0 (hF.pu _ _ _ _) dJ7_init_5 (by decide) rfl ?_
  refine f_put 9 hF 0 (T := TJ10) (C := RJ10) ([oC a 13 [.int 0, .int 0, .null, .null]]) okJ10 rfl rfl 0 (by decide) (Or.inl q258) (Or.inl rfl) rfl rfl rfl (Nat.le_of_ble_eq_true rfl) rfl dJ7_init_6 rfl ?_
  exact FR.v hR dJ7_init_9 (Nat.le_of_ble_eq_true rfl) (Nat.le_of_ble_eq_true rfl) ⟨rfl, rfl, rfl⟩
set_option maxHeartbeats 4000000 in
theorem fc_J7_init_J48 (D : DD) (l : Launch) {KS : Nat → Prop} {Hb : Heap} (a : Nat) : Fc D l yJ7_init cJ7_init 1 none 2 0 0 40 KS Hb [.ref a] ([oC a 22 [.int 0, .null, .null, .int 0, .int 0]]) ([]) (fun r w i => r = none ∧ w = [oC a 22 [.int 0, .null, .null, .int 0, .int 0]] ∧ i = []) := by
  refine Fc.of (by decide) (Nat.le_of_ble_eq_true rfl) (fun s F hF hR => ?_)
  show F 0 0 ([oC a 22 [.int 0, .null, .null, .int 0, .int 0]]) ([]) 0 [] [(0, .ref a)]
  refine r_aload_n 1 0 (hF.pu _ _ _ _) dJ7_init_0 rfl rfl ?_
  refine f_callI 4 hF (fc_J1_init (KS := KS) (Hb := Hb) D l a) (wr := ([oC a 22 [.int 0, .null, .null, .int 0, .int 0]])) rfl (imk [] rfl) q226 q107 q248 q225 rfl 0 yk_J1_init rfl ⟨by decide, by decide⟩ rfl (Nat.le_of_ble_eq_true rfl) dJ7_init_1 ⟨Nat.le_of_ble_eq_true rfl, Nat.le_of_ble_eq_true rfl⟩ rfl (fun r ws_ im' hp => ?_)
  obtain ⟨rfl, rfl, rfl⟩ := hp
  show F 0 0 ([oC a 22 [.int 0, .null, .null, .int 0, .int 0]]) ([]) 4 [] [(0, .ref a)]
  refine r_aload_n 5 0 (hF.pu _ _ _ _) dJ7_init_4 rfl rfl ?_
  refine r_iconst 6 0 (hF.pu _ _ _ _) dJ7_init_5 (by decide) rfl ?_
  refine f_put 9 hF 0 (T := TJ48) (C := RJ48) ([oC a 22 [.int 0, .null, .null, .int 0, .int 0]]) okJ48 rfl rfl 0 (by decide) (Or.inl q258) (Or.inl rfl) rfl rfl rfl (Nat.le_of_ble_eq_true rfl) rfl dJ7_init_6 rfl ?_
  exact FR.v hR dJ7_init_9 (Nat.le_of_ble_eq_true rfl) (Nat.le_of_ble_eq_true rfl) ⟨rfl, rfl, rfl⟩
theorem yk_J7_init : yOk yJ7_init 0 := by decide +kernel
set_option maxHeartbeats 4000000 in
theorem fc_J9_init_J10 (D : DD) (l : Launch) {KS : Nat → Prop} {Hb : Heap} (a : Nat) : Fc D l yJ9_init cJ9_init 1 none 3 0 0 60 KS Hb [.ref a] ([oC a 13 [.int 0, .int 0, .null, .null]]) ([]) (fun r w i => r = none ∧ w = [oC a 13 [.int 0, .int 0, .null, .null]] ∧ i = []) := by
  refine Fc.of (by decide) (Nat.le_of_ble_eq_true rfl) (fun s F hF hR => ?_)
  show F 0 0 ([oC a 13 [.int 0, .int 0, .null, .null]]) ([]) 0 [] [(0, .ref a)]
  refine r_aload_n 1 0 (hF.pu _ _ _ _) dJ9_init_0 rfl rfl ?_
  refine f_callI 4 hF (fc_J7_init_J10 (KS := KS) (Hb := Hb) D l a) (wr := ([])) rfl (imk [] rfl) q247 q113 q291 q246 rfl 0 yk_J7_init rfl ⟨by decide, by decide⟩ rfl (Nat.le_of_ble_eq_true rfl) dJ9_init_1 ⟨Nat.le_of_ble_eq_true rfl, Nat.le_of_ble_eq_true rfl⟩ rfl (fun r ws_ im' hp => ?_)
  obtain ⟨rfl, rfl, rfl⟩ := hp
  show F 0 0 ([oC a 13 [.int 0, .int 0, .null, .null]]) ([]) 4 [] [(0, .ref a)]
  exact FR.v hR dJ9_init_4 (Nat.le_of_ble_eq_true rfl) (Nat.le_of_ble_eq_true rfl) ⟨rfl, rfl, rfl⟩
set_option maxHeartbeats 4000000 in
theorem fc_J8_init_J8 (D : DD) (l : Launch) {KS : Nat → Prop} {Hb : Heap} (a : Nat) : Fc D l yJ8_init cJ8_init 1 none 3 0 0 60 KS Hb [.ref a] ([oC a 12 [.int 0, .null, .int 0]]) ([]) (fun r w i => r = none ∧ w = [oC a 12 [.int 0, .ref (D.2.2.1 1), .int 0]] ∧ i = []) := by
  refine Fc.of (by decide) (Nat.le_of_ble_eq_true rfl) (fun s F hF hR => ?_)
  show F 0 0 ([oC a 12 [.int 0, .null, .int 0]]) ([]) 0 [] [(0, .ref a)]
  refine r_aload_n 1 0 (hF.pu _ _ _ _) dJ8_init_0 rfl rfl ?_
  refine f_callI 4 hF (fc_J7_init_J8 (KS := KS) (Hb := Hb) D l a) (wr := ([])) rfl (imk [] rfl) q247 q113 q245 q246 rfl 0 yk_J7_init rfl ⟨by decide, by decide⟩ rfl (Nat.le_of_ble_eq_true rfl) dJ8_init_1 ⟨Nat.le_of_ble_eq_true rfl, Nat.le_of_ble_eq_true rfl⟩ rfl (fun r ws_ im' hp => ?_)
  obtain ⟨rfl, rfl, rfl⟩ := hp
  show F 0 0 ([oC a 12 [.int 0, .null, .int 0]]) ([]) 4 [] [(0, .ref a)]
  refine r_aload_n 5 0 (hF.pu _ _ _ _) dJ8_init_4 rfl rfl ?_
  refine f_gets 8 hF (i := 1) (List.mem_of_getElem? (i := 1) rfl) (Or.inl q249) dJ8_init_5 rfl ?_
  refine f_put 11 hF 0 (T := TJ8) (C := RJ8) ([oC a 12 [.int 0, .ref (D.2.2.1 1), .int 0]]) okJ8 rfl rfl 1 (by decide) (Or.inl q251) (Or.inl rfl) rfl rfl rfl (Nat.le_of_ble_eq_true rfl) rfl dJ8_init_8 rfl ?_
  exact FR.v hR dJ8_init_11 (Nat.le_of_ble_eq_true rfl) (Nat.le_of_ble_eq_true rfl) ⟨rfl, rfl, rfl⟩
theorem yk_J9_init : yOk yJ9_init 0 := by decide +kernel
set_option maxHeartbeats 4000000 in
theorem fc_J10_init_J10 (D : DD) (l : Launch) {KS : Nat → Prop} {Hb : Heap} (a : Nat) : Fc D l yJ10_init cJ10_init 1 none 4 0 0 80 KS Hb [.ref a] ([oC a 13 [.int 0, .int 0, .null, .null]]) ([]) (fun r w i => r = none ∧ w = [oC a 13 [.int 0, .int 0, .null, .null]] ∧ i = []) := by
  refine Fc.of (by decide) (Nat.le_of_ble_eq_true rfl) (fun s F hF hR => ?_)
  show F 0 0 ([oC a 13 [.int 0, .int 0, .null, .null]]) ([]) 0 [] [(0, .ref a)]
  refine r_aload_n 1 0 (hF.pu _ _ _ _) dJ10_init_0 rfl rfl ?_
  refine f_callI 4 hF (fc_J9_init_J10 (KS := KS) (Hb := Hb) D l a) (wr := ([])) rfl (imk [] rfl) q290 q115 q288 q289 rfl 0 yk_J9_init rfl ⟨by decide, by decide⟩ rfl (Nat.le_of_ble_eq_true rfl) dJ10_init_1 ⟨Nat.le_of_ble_eq_true rfl, Nat.le_of_ble_eq_true rfl⟩ rfl (fun r ws_ im' hp => ?_)
  obtain ⟨rfl, rfl, rfl⟩ := hp
  show F 0 0 ([oC a 13 [.int 0, .int 0, .null, .null]]) ([]) 4 [] [(0, .ref a)]
  refine r_aload_n 5 0 (hF.pu _ _ _ _) dJ10_init_4 rfl rfl ?_
  refine r_iconst 6 0 (hF.pu _ _ _ _) dJ10_init_5 (by decide) rfl ?_
  refine f_put 9 hF 0 (T := TJ10) (C := RJ10) ([oC a 13 [.int 0, .int 0, .null, .null]]) okJ10 rfl rfl 1 (by decide) (Or.inl q292) (Or.inl rfl) rfl rfl rfl (Nat.le_of_ble_eq_true rfl) rfl dJ10_init_6 rfl ?_
  exact FR.v hR dJ10_init_9 (Nat.le_of_ble_eq_true rfl) (Nat.le_of_ble_eq_true rfl) ⟨rfl, rfl, rfl⟩
set_option maxHeartbeats 4000000 in
theorem fc_J39_init_nn (D : DD) (l : Launch) {KS : Nat → Prop} {Hb : Heap} (a p x q : Nat) : Fc D l yJ39_init cJ39_init 4 none 1 0 0 20 KS Hb [.ref a, .null, .ref x, .null] ([oC a 14 [.null, .null, .null]]) ([]) (fun r w i => r = none ∧ w = [oC a 14 [.ref x, .null, .null]] ∧ i = []) := by
  refine Fc.of (by decide) (Nat.le_of_ble_eq_true rfl) (fun s F hF hR => ?_)
  show F 0 0 ([oC a 14 [.null, .null, .null]]) ([]) 0 [] [(0, .ref a), (1, .null), (2, .ref x), (3, .null)]
  refine r_aload_n 1 0 (hF.pu _ _ _ _) dJ39_init_0 rfl rfl ?_
  refine f_objInit 4 hF q1728 q179 q180 ⟨by decide, by decide⟩ dJ39_init_1 rfl ?_
  refine r_aload_n 5 0 (hF.pu _ _ _ _) dJ39_init_4 rfl rfl ?_
  refine r_aload_n 6 2 (hF.pu _ _ _ _) dJ39_init_5 rfl rfl ?_
  refine f_put 9 hF 0 (T := TJ39) (C := RJ39) ([oC a 14 [.ref x, .null, .null]]) okJ39 rfl rfl 0 (by decide) (Or.inl q1729) (Or.inl rfl) rfl rfl rfl (Nat.le_of_ble_eq_true rfl) rfl dJ39_init_6 rfl ?_
  refine r_aload_n 10 0 (hF.pu _ _ _ _) dJ39_init_9 rfl rfl ?_
  refine r_aload_nN 11 3 (hF.pu _ _ _ _) dJ39_init_10 rfl rfl ?_
  refine f_put 14 hF 0 (T := TJ39) (C := RJ39) ([oC a 14 [.ref x, .null, .null]]) okJ39 rfl rfl 1 (by decide) (Or.inl q1732) (Or.inl rfl) rfl rfl rfl (Nat.le_of_ble_eq_true rfl) rfl dJ39_init_11 rfl ?_
  refine r_aload_n 15 0 (hF.pu _ _ _ _) dJ39_init_14 rfl rfl ?_
  refine r_aload_nN 16 1 (hF.pu _ _ _ _) dJ39_init_15 rfl rfl ?_
  refine f_put 19 hF 0 (T := TJ39) (C := RJ39) ([oC a 14 [.ref x, .null, .null]]) okJ39 rfl rfl 2 (by decide) (Or.inl q1735) (Or.inl rfl) rfl rfl rfl (Nat.le_of_ble_eq_true rfl) rfl dJ39_init_16 rfl ?_
  exact FR.v hR dJ39_init_19 (Nat.le_of_ble_eq_true rfl) (Nat.le_of_ble_eq_true rfl) ⟨rfl, rfl, rfl⟩
set_option maxHeartbeats 4000000 in
theorem fc_J39_init_rn (D : DD) (l : Launch) {KS : Nat → Prop} {Hb : Heap} (a p x q : Nat) : Fc D l yJ39_init cJ39_init 4 none 1 0 0 20 KS Hb [.ref a, .ref p, .ref x, .null] ([oC a 14 [.null, .null, .null]]) ([]) (fun r w i => r = none ∧ w = [oC a 14 [.ref x, .null, .ref p]] ∧ i = []) := by
  refine Fc.of (by decide) (Nat.le_of_ble_eq_true rfl) (fun s F hF hR => ?_)
  show F 0 0 ([oC a 14 [.null, .null, .null]]) ([]) 0 [] [(0, .ref a), (1, .ref p), (2, .ref x), (3, .null)]
  refine r_aload_n 1 0 (hF.pu _ _ _ _) dJ39_init_0 rfl rfl ?_
  refine f_objInit 4 hF q1728 q179 q180 ⟨by decide, by decide⟩ dJ39_init_1 rfl ?_
  refine r_aload_n 5 0 (hF.pu _ _ _ _) dJ39_init_4 rfl rfl ?_
  refine r_aload_n 6 2 (hF.pu _ _ _ _) dJ39_init_5 rfl rfl ?_
  refine f_put 9 hF 0 (T := TJ39) (C := RJ39) ([oC a 14 [.ref x, .null, .null]]) okJ39 rfl rfl 0 (by decide) (Or.inl q1729) (Or.inl rfl) rfl rfl rfl (Nat.le_of_ble_eq_true rfl) rfl dJ39_init_6 rfl ?_
  refine r_aload_n 10 0 (hF.pu _ _ _ _) dJ39_init_9 rfl rfl ?_
  refine r_aload_nN 11 3 (hF.pu _ _ _ _) dJ39_init_10 rfl rfl ?_
  refine f_put 14 hF 0 (T := TJ39) (C := RJ39) ([oC a 14 [.ref x, .null, .null]]) okJ39 rfl rfl 1 (by decide) (Or.inl q1732) (Or.inl rfl) rfl rfl rfl (Nat.le_of_ble_eq_true rfl) rfl dJ39_init_11 rfl ?_
  refine r_aload_n 15 0 (hF.pu _ _ _ _) dJ39_init_14 rfl rfl ?_
  refine r_aload_n 16 1 (hF.pu _ _ _ _) dJ39_init_15 rfl rfl ?_
  refine f_put 19 hF 0 (T := TJ39) (C := RJ39) ([oC a 14 [.ref x, .null, .ref p]]) okJ39 rfl rfl 2 (by decide) (Or.inl q1735) (Or.inl rfl) rfl rfl rfl (Nat.le_of_ble_eq_true rfl) rfl dJ39_init_16 rfl ?_
  exact FR.v hR dJ39_init_19 (Nat.le_of_ble_eq_true rfl) (Nat.le_of_ble_eq_true rfl) ⟨rfl, rfl, rfl⟩
set_option maxHeartbeats 4000000 in
theorem fc_J39_init_nr (D : DD) (l : Launch) {KS : Nat → Prop} {Hb : Heap} (a p x q : Nat) : Fc D l yJ39_init cJ39_init 4 none 1 0 0 20 KS Hb [.ref a, .null, .ref x, .ref q] ([oC a 14 [.null, .null, .null]]) ([]) (fun r w i => r = none ∧ w = [oC a 14 [.ref x, .ref q, .null]] ∧ i = []) := by
  refine Fc.of (by decide) (Nat.le_of_ble_eq_true rfl) (fun s F hF hR => ?_)
  show F 0 0 ([oC a 14 [.null, .null, .null]]) ([]) 0 [] [(0, .ref a), (1, .null), (2, .ref x), (3, .ref q)]
  refine r_aload_n 1 0 (hF.pu _ _ _ _) dJ39_init_0 rfl rfl ?_
  refine f_objInit 4 hF q1728 q179 q180 ⟨by decide, by decide⟩ dJ39_init_1 rfl ?_
  refine r_aload_n 5 0 (hF.pu _ _ _ _) dJ39_init_4 rfl rfl ?_
  refine r_aload_n 6 2 (hF.pu _ _ _ _) dJ39_init_5 rfl rfl ?_
  refine f_put 9 hF 0 (T := TJ39) (C := RJ39) ([oC a 14 [.ref x, .null, .null]]) okJ39 rfl rfl 0 (by decide) (Or.inl q1729) (Or.inl rfl) rfl rfl rfl (Nat.le_of_ble_eq_true rfl) rfl dJ39_init_6 rfl ?_
  refine r_aload_n 10 0 (hF.pu _ _ _ _) dJ39_init_9 rfl rfl ?_
  refine r_aload_n 11 3 (hF.pu _ _ _ _) dJ39_init_10 rfl rfl ?_
  refine f_put 14 hF 0 (T := TJ39) (C := RJ39) ([oC a 14 [.ref x, .ref q, .null]]) okJ39 rfl rfl 1 (by decide) (Or.inl q1732) (Or.inl rfl) rfl rfl rfl (Nat.le_of_ble_eq_true rfl) rfl dJ39_init_11 rfl ?_
  refine r_aload_n 15 0 (hF.pu _ _ _ _) dJ39_init_14 rfl rfl ?_
  refine r_aload_nN 16 1 (hF.pu _ _ _ _) dJ39_init_15 rfl rfl ?_
  refine f_put 19 hF 0 (T := TJ39) (C := RJ39) ([oC a 14 [.ref x, .ref q, .null]]) okJ39 rfl rfl 2 (by decide) (Or.inl q1735) (Or.inl rfl) rfl rfl rfl (Nat.le_of_ble_eq_true rfl) rfl dJ39_init_16 rfl ?_
  exact FR.v hR dJ39_init_19 (Nat.le_of_ble_eq_true rfl) (Nat.le_of_ble_eq_true rfl) ⟨rfl, rfl, rfl⟩
set_option maxHeartbeats 4000000 in
theorem fc_J39_init_rr (D : DD) (l : Launch) {KS : Nat → Prop} {Hb : Heap} (a p x q : Nat) : Fc D l yJ39_init cJ39_init 4 none 1 0 0 20 KS Hb [.ref a, .ref p, .ref x, .ref q] ([oC a 14 [.null, .null, .null]]) ([]) (fun r w i => r = none ∧ w = [oC a 14 [.ref x, .ref q, .ref p]] ∧ i = []) := by
  refine Fc.of (by decide) (Nat.le_of_ble_eq_true rfl) (fun s F hF hR => ?_)
  show F 0 0 ([oC a 14 [.null, .null, .null]]) ([]) 0 [] [(0, .ref a), (1, .ref p), (2, .ref x), (3, .ref q)]
  refine r_aload_n 1 0 (hF.pu _ _ _ _) dJ39_init_0 rfl rfl ?_
  refine f_objInit 4 hF q1728 q179 q180 ⟨by decide, by decide⟩ dJ39_init_1 rfl ?_
  refine r_aload_n 5 0 (hF.pu _ _ _ _) dJ39_init_4 rfl rfl ?_
  refine r_aload_n 6 2 (hF.pu _ _ _ _) dJ39_init_5 rfl rfl ?_
  refine f_put 9 hF 0 (T := TJ39) (C := RJ39) ([oC a 14 [.ref x, .null, .null]]) okJ39 rfl rfl 0 (by decide) (Or.inl q1729) (Or.inl rfl) rfl rfl rfl (Nat.le_of_ble_eq_true rfl) rfl dJ39_init_6 rfl ?_
  refine r_aload_n 10 0 (hF.pu _ _ _ _) dJ39_init_9 rfl rfl ?_
  refine r_aload_n 11 3 (hF.pu _ _ _ _) dJ39_init_10 rfl rfl ?_
  refine f_put 14 hF 0 (T := TJ39) (C := RJ39) ([oC a 14 [.ref x, .ref q, .null]]) okJ39 rfl rfl 1 (by decide) (Or.inl q1732) (Or.inl rfl) rfl rfl rfl (Nat.le_of_ble_eq_true rfl) rfl dJ39_init_11 rfl ?_
  refine r_aload_n 15 0 (hF.pu _ _ _ _) dJ39_init_14 rfl rfl ?_
  refine r_aload_n 16 1 (hF.pu _ _ _ _) dJ39_init_15 rfl rfl ?_
  refine f_put 19 hF 0 (T := TJ39) (C := RJ39) ([oC a 14 [.ref x, .ref q, .ref p]]) okJ39 rfl rfl 2 (by decide) (Or.inl q1735) (Or.inl rfl) rfl rfl rfl (Nat.le_of_ble_eq_true rfl) rfl dJ39_init_16 rfl ?_
  exact FR.v hR dJ39_init_19 (Nat.le_of_ble_eq_true rfl) (Nat.le_of_ble_eq_true rfl) ⟨rfl, rfl, rfl⟩
set_option maxHeartbeats 4000000 in
theorem fc_X4_init (D : DD) (l : Launch) {KS : Nat → Prop} {Hb : Heap} (a : Nat) (t v : Int32) : Fc D l yX4_init cX4_init 3 none 1 0 0 20 KS Hb [.ref a, .int t, .int v] ([oC a 4 [.int 0, .int 0]]) ([]) (fun r w i => r = none ∧ w = [oC a 4 [.int t, .int v]] ∧ i = []) := by
  refine Fc.of (by decide) (Nat.le_of_ble_eq_true rfl) (fun s F hF hR => ?_)
  show F 0 0 ([oC a 4 [.int 0, .int 0]]) ([]) 0 [] [(0, .ref a), (1, .int t), (2, .int v)]
  refine r_aload_n 1 0 (hF.pu _ _ _ _) dX4_init_0 rfl rfl ?_
  refine f_objInit 4 hF q198 q179 q180 ⟨by decide, by decide⟩ dX4_init_1 rfl ?_
  refine r_aload_n 5 0 (hF.pu _ _ _ _) dX4_init_4 rfl rfl ?_
  refine r_iload_n 6 1 (hF.pu _ _ _ _) dX4_init_5 rfl rfl ?_
  refine f_putF 9 hF 0 (T := TX4) (C := RX4) ([oC a 4 [.int t, .int 0]]) okX4 rfl rfl 0 (by decide) q199 rfl rfl rfl rfl rfl (Nat.le_of_ble_eq_true rfl) rfl dX4_init_6 rfl ?_
  refine r_aload_n 10 0 (hF.pu _ _ _ _) dX4_init_9 rfl rfl ?_
  refine r_iload_n 11 2 (hF.pu _ _ _ _) dX4_init_10 rfl rfl ?_
  refine f_putF 14 hF 0 (T := TX4) (C := RX4) ([oC a 4 [.int t, .int v]]) okX4 rfl rfl 1 (by decide) q202 rfl rfl rfl rfl rfl (Nat.le_of_ble_eq_true rfl) rfl dX4_init_11 rfl ?_
  exact FR.v hR dX4_init_14 (Nat.le_of_ble_eq_true rfl) (Nat.le_of_ble_eq_true rfl) ⟨rfl, rfl, rfl⟩
set_option maxHeartbeats 4000000 in
theorem fc_X11_init (D : DD) (l : Launch) {KS : Nat → Prop} {Hb : Heap} (a : Nat) (t v : Int32) : Fc D l yX11_init cX11_init 3 none 1 0 0 20 KS Hb [.ref a, .int t, .int v] ([oC a 10 [.int 0, .int 0]]) ([]) (fun r w i => r = none ∧ w = [oC a 10 [.int t, .int v]] ∧ i = []) := by
  refine Fc.of (by decide) (Nat.le_of_ble_eq_true rfl) (fun s F hF hR => ?_)
  show F 0 0 ([oC a 10 [.int 0, .int 0]]) ([]) 0 [] [(0, .ref a), (1, .int t), (2, .int v)]
  refine r_aload_n 1 0 (hF.pu _ _ _ _) dX11_init_0 rfl rfl ?_
  refine f_objInit 4 hF q2268 q179 q180 ⟨by decide, by decide⟩ dX11_init_1 rfl ?_
  refine r_aload_n 5 0 (hF.pu _ _ _ _) dX11_init_4 rfl rfl ?_
  refine r_iload_n 6 1 (hF.pu _ _ _ _) dX11_init_5 rfl rfl ?_
  refine f_putF 9 hF 0 (T := TX11) (C := RX11) ([oC a 10 [.int t, .int 0]]) okX11 rfl rfl 0 (by decide) q2269 rfl rfl rfl rfl rfl (Nat.le_of_ble_eq_true rfl) rfl dX11_init_6 rfl ?_
  refine r_aload_n 10 0 (hF.pu _ _ _ _) dX11_init_9 rfl rfl ?_
  refine r_iload_n 11 2 (hF.pu _ _ _ _) dX11_init_10 rfl rfl ?_
  refine f_putF 14 hF 0 (T := TX11) (C := RX11) ([oC a 10 [.int t, .int v]]) okX11 rfl rfl 1 (by decide) q2272 rfl rfl rfl rfl rfl (Nat.le_of_ble_eq_true rfl) rfl dX11_init_11 rfl ?_
  exact FR.v hR dX11_init_14 (Nat.le_of_ble_eq_true rfl) (Nat.le_of_ble_eq_true rfl) ⟨rfl, rfl, rfl⟩
set_option maxHeartbeats 4000000 in
theorem fc_X5_init (D : DD) (l : Launch) {KS : Nat → Prop} {Hb : Heap} (a : Nat) (e o d : Int32) : Fc D l yX5_init cX5_init 4 none 1 0 0 20 KS Hb [.ref a, .int e, .int o, .int d] ([oC a 5 [.int 0, .int 0, .int 0]]) ([]) (fun r w i => r = none ∧ w = [oC a 5 [.int e, .int o, .int d]] ∧ i = []) := by
  refine Fc.of (by decide) (Nat.le_of_ble_eq_true rfl) (fun s F hF hR => ?_)
  show F 0 0 ([oC a 5 [.int 0, .int 0, .int 0]]) ([]) 0 [] [(0, .ref a), (1, .int e), (2, .int o), (3, .int d)]
  refine r_aload_n 1 0 (hF.pu _ _ _ _) dX5_init_0 rfl rfl ?_
  refine f_objInit 4 hF q340 q179 q180 ⟨by decide, by decide⟩ dX5_init_1 rfl ?_
  refine r_aload_n 5 0 (hF.pu _ _ _ _) dX5_init_4 rfl rfl ?_
  refine r_iload_n 6 1 (hF.pu _ _ _ _) dX5_init_5 rfl rfl ?_
  refine f_putF 9 hF 0 (T := TX5) (C := RX5) ([oC a 5 [.int e, .int 0, .int 0]]) okX5 rfl rfl 0 (by decide) q341 rfl rfl rfl rfl rfl (Nat.le_of_ble_eq_true rfl) rfl dX5_init_6 rfl ?_
  refine r_aload_n 10 0 (hF.pu _ _ _ _) dX5_init_9 rfl rfl ?_
  refine r_iload_n 11 2 (hF.pu _ _ _ _) dX5_init_10 rfl rfl ?_
  refine f_putF 14 hF 0 (T := TX5) (C := RX5) ([oC a 5 [.int e, .int o, .int 0]]) okX5 rfl rfl 1 (by decide) q343 rfl rfl rfl rfl rfl (Nat.le_of_ble_eq_true rfl) rfl dX5_init_11 rfl ?_
  refine r_aload_n 15 0 (hF.pu _ _ _ _) dX5_init_14 rfl rfl ?_
  refine r_iload_n 16 3 (hF.pu _ _ _ _) dX5_init_15 rfl rfl ?_
  refine f_putF 19 hF 0 (T := TX5) (C := RX5) ([oC a 5 [.int e, .int o, .int d]]) okX5 rfl rfl 2 (by decide) q345 rfl rfl rfl rfl rfl (Nat.le_of_ble_eq_true rfl) rfl dX5_init_16 rfl ?_
  exact FR.v hR dX5_init_19 (Nat.le_of_ble_eq_true rfl) (Nat.le_of_ble_eq_true rfl) ⟨rfl, rfl, rfl⟩
set_option maxHeartbeats 4000000 in
theorem fc_J2_init (D : DD) (l : Launch) {KS : Nat → Prop} {Hb : Heap} (a : Nat) : Fc D l yJ2_init cJ2_init 1 none 2 0 0 40 KS Hb [.ref a] ([]) ([]) (fun r w i => r = none ∧ w = [] ∧ i = []) := by
  refine Fc.of (by decide) (Nat.le_of_ble_eq_true rfl) (fun s F hF hR => ?_)
  show F 0 0 ([]) ([]) 0 [] [(0, .ref a)]
  refine r_aload_n 1 0 (hF.pu _ _ _ _) dJ2_init_0 rfl rfl ?_
  refine f_callI 4 hF (fc_J1_init (KS := KS) (Hb := Hb) D l a) (wr := ([])) rfl (imk [] rfl) q226 q107 q224 q225 rfl 0 yk_J1_init rfl ⟨by decide, by decide⟩ rfl (Nat.le_of_ble_eq_true rfl) dJ2_init_1 ⟨Nat.le_of_ble_eq_true rfl, Nat.le_of_ble_eq_true rfl⟩ rfl (fun r ws_ im' hp => ?_)
  obtain ⟨rfl, rfl, rfl⟩ := hp
  show F 0 0 ([]) ([]) 4 [] [(0, .ref a)]
  exact FR.v hR dJ2_init_4 (Nat.le_of_ble_eq_true rfl) (Nat.le_of_ble_eq_true rfl) ⟨rfl, rfl, rfl⟩
theorem yk_J2_init : yOk yJ2_init 0 := by decide +kernel
set_option maxHeartbeats 4000000 in
theorem fc_J3_init (D : DD) (l : Launch) {KS : Nat → Prop} {Hb : Heap} (a : Nat) : Fc D l yJ3_init cJ3_init 1 none 3 0 0 60 KS Hb [.ref a] ([]) ([]) (fun r w i => r = none ∧ w = [] ∧ i = []) := by
  refine Fc.of (by decide) (Nat.le_of_ble_eq_true rfl) (fun s F hF hR => ?_)
  show F 0 0 ([]) ([]) 0 [] [(0, .ref a)]
  refine r_aload_n 1 0 (hF.pu _ _ _ _) dJ3_init_0 rfl rfl ?_
  refine f_callI 4 hF (fc_J2_init (KS := KS) (Hb := Hb) D l a) (wr := ([])) rfl (imk [] rfl) q223 q108 q221 q222 rfl 0 yk_J2_init rfl ⟨by decide, by decide⟩ rfl (Nat.le_of_ble_eq_true rfl) dJ3_init_1 ⟨Nat.le_of_ble_eq_true rfl, Nat.le_of_ble_eq_true rfl⟩ rfl (fun r ws_ im' hp => ?_)
  obtain ⟨rfl, rfl, rfl⟩ := hp
  show F 0 0 ([]) ([]) 4 [] [(0, .ref a)]
  exact FR.v hR dJ3_init_4 (Nat.le_of_ble_eq_true rfl) (Nat.le_of_ble_eq_true rfl) ⟨rfl, rfl, rfl⟩
set_option maxHeartbeats 2000000 in
theorem cp_J5_requireNonNull (D : DD) (l : Launch) {H0 : Heap} (x : Nat) : Cp D l yJ5_requireNonNull cJ5_requireNonNull 1 (Option.some (ClassFile.FieldType.object "java/lang/Object")) 0 0 [.ref x] H0 (some (.ref x)) := by
  refine Cp.of (by decide) (Nat.le_of_ble_eq_true rfl) (fun s A J hJ hR => ?_)
  show J H0 0 0 0 [] [(0, .ref x)]
  refine r_aload_n 1 0 (hJ.pu _ _ _) dJ5_requireNonNull_0 rfl rfl ?_
  refine r_ifnonnull 12 (hJ.pu _ _ _) dJ5_requireNonNull_1 (by decide) ?_
  refine r_aload_n 13 0 (hJ.pu _ _ _) dJ5_requireNonNull_12 rfl rfl ?_
  exact Rt.a hR (Or.inl ⟨_, rfl⟩) dJ5_requireNonNull_13 (Nat.zero_le _) (Nat.zero_le _) ⟨rfl, rfl⟩
theorem yk_J3_init : yOk yJ3_init 0 := by decide +kernel
theorem lk_J4_7 : GoodIn lw_all (va_wsS RJ4 7 yJ5_requireNonNull (ws_ yJ5_requireNonNull cJ5_requireNonNull 1 (Option.some (ClassFile.FieldType.object "java/lang/Object")))) := lw_S q228 q229 q111 q230
theorem yk_J5_requireNonNull : yOk yJ5_requireNonNull 1 := by decide +kernel
set_option maxHeartbeats 4000000 in
theorem fc_J4_init (D : DD) (l : Launch) {KS : Nat → Prop} {Hb : Heap} (a x : Nat) : Fc D l yJ4_init cJ4_init 2 none 4 0 0 80 KS Hb [.ref a, .ref x] ([oC a 18 [.null, .null]]) ([]) (fun r w i => r = none ∧ w = [oC a 18 [.ref x, .ref (D.2.2.1 0)]] ∧ i = []) := by
  refine Fc.of (by decide) (Nat.le_of_ble_eq_true rfl) (fun s F hF hR => ?_)
  show F 0 0 ([oC a 18 [.null, .null]]) ([]) 0 [] [(0, .ref a), (1, .ref x)]
  refine r_aload_n 1 0 (hF.pu _ _ _ _) dJ4_init_0 rfl rfl ?_
  refine f_callI 4 hF (fc_J3_init (KS := KS) (Hb := Hb) D l a) (wr := ([oC a 18 [.null, .null]])) rfl (imk [] rfl) q220 q109 q218 q219 rfl 0 yk_J3_init rfl ⟨by decide, by decide⟩ rfl (Nat.le_of_ble_eq_true rfl) dJ4_init_1 ⟨Nat.le_of_ble_eq_true rfl, Nat.le_of_ble_eq_true rfl⟩ rfl (fun r ws_ im' hp => ?_)
  obtain ⟨rfl, rfl, rfl⟩ := hp
  show F 0 0 ([oC a 18 [.null, .null]]) ([]) 4 [] [(0, .ref a), (1, .ref x)]
  refine r_aload_n 5 0 (hF.pu _ _ _ _) dJ4_init_4 rfl rfl ?_
  refine r_aload_n 6 1 (hF.pu _ _ _ _) dJ4_init_5 rfl rfl ?_
  refine f_callps 9 hF (fun _ z => cp_J5_requireNonNull D l x) lk_J4_7 1 yk_J5_requireNonNull rfl ⟨by decide, by decide⟩ rfl (Nat.le_of_ble_eq_true rfl) dJ4_init_6 ⟨Nat.le_of_ble_eq_true rfl, Nat.le_of_ble_eq_true rfl⟩ rfl ?_
  refine f_putF 12 hF 0 (T := TJ4) (C := RJ4) ([oC a 18 [.ref x, .null]]) okJ4 rfl rfl 0 (by decide) q233 rfl rfl rfl rfl rfl (Nat.le_of_ble_eq_true rfl) rfl dJ4_init_9 rfl ?_
  refine r_aload_n 13 0 (hF.pu _ _ _ _) dJ4_init_12 rfl rfl ?_
  refine f_gets 16 hF (i := 0) (List.mem_of_getElem? (i := 0) rfl) (Or.inr ⟨_, nw_q231⟩) dJ4_init_13 rfl ?_
  refine f_putF 19 hF 0 (T := TJ4) (C := RJ4) ([oC a 18 [.ref x, .ref (D.2.2.1 0)]]) okJ4 rfl rfl 1 (by decide) q234 rfl rfl rfl rfl rfl (Nat.le_of_ble_eq_true rfl) rfl dJ4_init_16 rfl ?_
  exact FR.v hR dJ4_init_19 (Nat.le_of_ble_eq_true rfl) (Nat.le_of_ble_eq_true rfl) ⟨rfl, rfl, rfl⟩
theorem dvJ4 : ∀ j, j < 2 → defaultValue (tyJ4 j) = vp_V [.null, .null] j := by
  intro j hj
  rcases (show j = 0 ∨ j = 1 by omega) with rfl | rfl <;> rfl
theorem yk_J4_init : yOk yJ4_init 1 := by decide +kernel
set_option maxHeartbeats 4000000 in
theorem fc_J0_of (D : DD) (l : Launch) {KS : Nat → Prop} {Hb : Heap} (x : Nat) : Fc D l yJ0_of cJ0_of 1 (Option.some (ClassFile.FieldType.object "java/util/List")) 5 1 2 101 KS Hb [.ref x] ([]) ([]) (fun r w i => ∃ b, r = some (.ref b) ∧ w = [oC b 18 [.ref x, .ref (D.2.2.1 0)]] ∧ i = []) := by
  refine Fc.of (by decide) (Nat.le_of_ble_eq_true rfl) (fun s F hF hR => ?_)
  show F 0 0 ([]) ([]) 0 [] [(0, .ref x)]
  refine f_new 3 hF (ci := 18) [.null, .null] okJ4 rfl q213 q214 q110 dvJ4 ⟨Nat.le_of_ble_eq_true rfl, Nat.le_of_ble_eq_true rfl⟩ dJ0_of_0 rfl (fun a1_ => ?_)
  refine r_dup 4 (hF.pu _ _ _ _) dJ0_of_3 rfl rfl ?_
  refine r_aload_n 5 0 (hF.pu _ _ _ _) dJ0_of_4 rfl rfl ?_
  refine f_callI 8 hF (fc_J4_init (KS := KS) (Hb := Hb) D l a1_ x) (wr := ([])) rfl (imk [] rfl) q217 q110 q215 q216 rfl 1 yk_J4_init rfl ⟨by decide, by decide⟩ rfl (Nat.le_of_ble_eq_true rfl) dJ0_of_5 ⟨Nat.le_of_ble_eq_true rfl, Nat.le_of_ble_eq_true rfl⟩ rfl (fun r ws_ im' hp => ?_)
  obtain ⟨rfl, rfl, rfl⟩ := hp
  show F 1 2 ([oC a1_ 18 [.ref x, .ref (D.2.2.1 0)]]) ([]) 8 [.ref a1_] [(0, .ref x)]
  exact FR.a hR (Or.inl ⟨_, rfl⟩) dJ0_of_8 (Nat.le_of_ble_eq_true rfl) (Nat.le_of_ble_eq_true rfl) ⟨_, rfl, rfl, rfl⟩
set_option maxHeartbeats 4000000 in
theorem fc_J8_grow_2 (D : DD) (l : Launch) {KS : Nat → Prop} {Hb : Heap} (a m : Nat) (mc sz : Int32) (hm : m ≤ 10) : Fc D l yJ8_grow_2 cJ8_grow_2 4 (Option.some (ClassFile.FieldType.array (ClassFile.FieldType.object "java/lang/Object"))) 1 1 10 23 KS Hb [.ref a, .int (nI m)] ([oC a 12 [.int mc, .ref (D.2.2.1 1), .int sz]]) ([]) (fun r w i => ∃ b, r = some (.ref b) ∧ w = [oC a 12 [.int mc, .ref b, .int sz], aC D 3 b (qA 10 (fun _ => none))] ∧ i = []) := by
  refine Fc.of (by decide) (Nat.le_of_ble_eq_true rfl) (fun s F hF hR => ?_)
  show F 0 0 ([oC a 12 [.int mc, .ref (D.2.2.1 1), .int sz]]) ([]) 0 [] [(0, .ref a), (1, .int (nI m))]
  refine f_c1 hF ?_
  refine r_aload_n 1 0 (hF.pu _ _ _ _) dJ8_grow_2_0 rfl rfl ?_
  refine f_getf 4 hF (T := TJ8) (C := RJ8) 1 (v := .ref (D.2.2.1 1)) okJ8 (fun _ z => ((z.o 0 rfl).fld 1 rfl)) rfl (by decide) (Or.inl q251) (Or.inl rfl) dJ8_grow_2_1 rfl ?_
  refine f_alen 5 hF (fun _ z => (z.ma 0 rfl)) rfl dJ8_grow_2_4 rfl ?_
  refine r_istore_n 6 [(2, .int (nI 0)), (0, .ref a), (1, .int (nI m))] (hF.pu _ _ _ _) dJ8_grow_2_5 rfl (by decide) rfl rfl ?_
  refine r_iload_n 7 0 (hF.pu _ _ _ _) dJ8_grow_2_6 rfl rfl ?_
  refine r_if_gt 10 20 (hF.pu _ _ _ _) dJ8_grow_2_7 (by decide) (fun c => absurd c (by decide)) rfl (fun _ => ?_)
  refine r_aload_n 11 1 (hF.pu _ _ _ _) dJ8_grow_2_10 rfl rfl ?_
  refine f_getf 14 hF (T := TJ8) (C := RJ8) 1 (v := .ref (D.2.2.1 1)) okJ8 (fun _ z => ((z.o 0 rfl).fld 1 rfl)) rfl (by decide) (Or.inl q251) (Or.inl rfl) dJ8_grow_2_11 rfl ?_
  refine f_gets 17 hF (i := 1) (List.mem_of_getElem? (i := 1) rfl) (Or.inl q249) dJ8_grow_2_14 rfl ?_
  refine r_acmp_eq 20 45 (rx := (some (D.2.2.1 1))) (ry := (some (D.2.2.1 1))) (hF.pu _ _ _ _) dJ8_grow_2_17 (by decide) (fun c17 => ?_) rfl (fun c17 => absurd c17 (fun z => z rfl))
  refine r_aload_n 46 1 (hF.pu _ _ _ _) dJ8_grow_2_45 rfl rfl ?_
  refine r_bipush 48 10 (hF.pu _ _ _ _) dJ8_grow_2_46 (by decide) rfl ?_
  refine r_iload_n 49 2 (hF.pu _ _ _ _) dJ8_grow_2_48 rfl rfl ?_
  refine f_maxJ 52 hF q444 ⟨by decide, by decide⟩ (Nat.le_of_ble_eq_true rfl) dJ8_grow_2_49 ⟨Nat.le_of_ble_eq_true rfl, Nat.le_of_ble_eq_true rfl⟩ rfl ?_
  refine r_eqi (nI 10) (maxJ10 hm) ?_
  refine f_newq 55 hF (t := 3) (List.mem_of_getElem? (i := 0) rfl) q445 rfl rfl (by decide) ⟨Nat.le_of_ble_eq_true rfl, Nat.le_of_ble_eq_true rfl⟩ dJ8_grow_2_52 rfl (fun a1_ => ?_)
  refine r_dup_x1 56 (hF.pu _ _ _ _) dJ8_grow_2_55 rfl rfl rfl ?_
  refine f_put 59 hF 1 (T := TJ8) (C := RJ8) ([aC D 3 a1_ (qA 10 (fun _ => none)), oC a 12 [.int mc, .ref a1_, .int sz]]) okJ8 rfl rfl 1 (by decide) (Or.inl q251) (Or.inl rfl) rfl rfl rfl (Nat.le_of_ble_eq_true rfl) rfl dJ8_grow_2_56 rfl ?_
  refine f_ups hF [1] ([oC a 12 [.int mc, .ref a1_, .int sz], aC D 3 a1_ (qA 10 (fun _ => none))]) rfl ?_
  refine f_imsub hF [] (imk [] rfl) ?_
  exact FR.a hR (Or.inr ⟨_, rfl⟩) dJ8_grow_2_59 (Nat.le_of_ble_eq_true rfl) (Nat.le_of_ble_eq_true rfl) ⟨_, rfl, rfl, rfl⟩
theorem lk_J8_69 : GoodIn lw_all (wsV RJ8 69 yJ8_grow_2.cls yJ8_grow_2 (ws_ yJ8_grow_2 cJ8_grow_2 4 (Option.some (ClassFile.FieldType.array (ClassFile.FieldType.object "java/lang/Object"))))) := lw_V q366 q368 qs2 q114 q369
theorem yk_J8_grow_2 : yOk yJ8_grow_2 1 := by decide +kernel
set_option maxHeartbeats 4000000 in
theorem fc_J8_grow (D : DD) (l : Launch) {KS : Nat → Prop} {Hb : Heap} (a n : Nat) (mc : Int32) (hn : n < 10) : Fc D l yJ8_grow cJ8_grow 1 (Option.some (ClassFile.FieldType.array (ClassFile.FieldType.object "java/lang/Object"))) 2 1 10 46 KS Hb [.ref a] ([oC a 12 [.int mc, .ref (D.2.2.1 1), .int (nI n)]]) ([]) (fun r w i => ∃ b, r = some (.ref b) ∧ w = [oC a 12 [.int mc, .ref b, .int (nI n)], aC D 3 b (qA 10 (fun _ => none))] ∧ i = []) := by
  refine Fc.of (by decide) (Nat.le_of_ble_eq_true rfl) (fun s F hF hR => ?_)
  show F 0 0 ([oC a 12 [.int mc, .ref (D.2.2.1 1), .int (nI n)]]) ([]) 0 [] [(0, .ref a)]
  refine r_aload_n 1 0 (hF.pu _ _ _ _) dJ8_grow_0 rfl rfl ?_
  refine r_aload_n 2 0 (hF.pu _ _ _ _) dJ8_grow_1 rfl rfl ?_
  refine f_getf 5 hF (T := TJ8) (C := RJ8) 2 (v := .int (nI n)) okJ8 (fun _ z => ((z.o 0 rfl).fld 2 rfl)) rfl (by decide) (Or.inl q257) (Or.inl rfl) dJ8_grow_2 rfl ?_
  refine r_iconst 6 1 (hF.pu _ _ _ _) dJ8_grow_5 (by decide) rfl ?_
  refine r_iaddN n 1 (n + 1) 7 (hF.pu _ _ _ _) dJ8_grow_6 rfl rfl ?_
  refine f_callV 10 hF (fc_J8_grow_2 (KS := KS) (Hb := Hb) D l a (n + 1) mc (nI n) (by omega)) (wr := ([])) rfl (imk [] rfl) lk_J8_69 1 yk_J8_grow_2 rfl ⟨by decide, by decide⟩ (fun _ z => ((z.o 0 rfl).fld 0 rfl)) rfl rfl (Nat.le_of_ble_eq_true rfl) dJ8_grow_7 ⟨Nat.le_of_ble_eq_true rfl, Nat.le_of_ble_eq_true rfl⟩ rfl (fun r ws_ im' hp => ?_)
  obtain ⟨a1_, rfl, rfl, rfl⟩ := hp
  show F 1 10 ([oC a 12 [.int mc, .ref a1_, .int (nI n)], aC D 3 a1_ (qA 10 (fun _ => none))]) ([]) 10 [.ref a1_] [(0, .ref a)]
  exact FR.a hR (Or.inr ⟨_, rfl⟩) dJ8_grow_10 (Nat.le_of_ble_eq_true rfl) (Nat.le_of_ble_eq_true rfl) ⟨_, rfl, rfl, rfl⟩
theorem lk_J8_129 : GoodIn lw_all (wsV RJ8 129 yJ8_grow.cls yJ8_grow (ws_ yJ8_grow cJ8_grow 1 (Option.some (ClassFile.FieldType.array (ClassFile.FieldType.object "java/lang/Object"))))) := lw_V q362 q364 qs1 q114 q365
theorem yk_J8_grow : yOk yJ8_grow 0 := by decide +kernel
set_option maxHeartbeats 4000000 in
theorem fc_J8_add_2_e (D : DD) (l : Launch) {KS : Nat → Prop} {Hb : Heap} (a x : Nat) (mc : Int32) (wv iv : va_W) (hx : ∀ H, (∀ q ∈ wv ++ iv, va_at D.1 aCl q H) → anyK D "java/lang/Object" x H) : Fc D l yJ8_add_2 cJ8_add_2 4 none 3 1 10 66 KS Hb [.ref a, .ref x, .ref (D.2.2.1 1), .int (nI 0)] ((oC a 12 [.int mc, .ref (D.2.2.1 1), .int (nI 0)]) :: wv) iv (fun r w i => ∃ b, r = none ∧ w = oC a 12 [.int mc, .ref b, .int (nI 1)] :: aC D 3 b (qA 10 (va_up (fun _ => none) 0 (some x))) :: wv ∧ i = []) := by
  refine Fc.of (by decide) (Nat.le_of_ble_eq_true rfl) (fun s F hF hR => ?_)
  show F 0 0 ((oC a 12 [.int mc, .ref (D.2.2.1 1), .int (nI 0)]) :: wv) iv 0 [] [(0, .ref a), (1, .ref x), (2, .ref (D.2.2.1 1)), (3, .int (nI 0))]
  refine f_c1 hF ?_
  refine r_iload_n 1 3 (hF.pu _ _ _ _) dJ8_add_2_0 rfl rfl ?_
  refine r_aload_n 2 2 (hF.pu _ _ _ _) dJ8_add_2_1 rfl rfl ?_
  refine f_alen 3 hF (fun _ z => (z.ma 0 rfl)) rfl dJ8_add_2_2 rfl ?_
  refine r_icmp_neN 0 0 6 11 (hF.pu _ _ _ _) dJ8_add_2_3 (by omega) (by omega) (by decide) (fun c3 => absurd c3 (by decide)) rfl (fun c3 => ?_)
  refine r_aload_n 7 0 (hF.pu _ _ _ _) dJ8_add_2_6 rfl rfl ?_
  refine f_callV 10 hF (fc_J8_grow (KS := KS) (Hb := Hb) D l a 0 mc (by omega)) (wr := wv) rfl (imk [] rfl) lk_J8_129 0 yk_J8_grow rfl ⟨by decide, by decide⟩ (fun _ z => ((z.o 0 rfl).fld 0 rfl)) rfl rfl (Nat.le_of_ble_eq_true rfl) dJ8_add_2_7 ⟨Nat.le_of_ble_eq_true rfl, Nat.le_of_ble_eq_true rfl⟩ rfl (fun r ws_ im' hp => ?_)
  obtain ⟨a1_, rfl, rfl, rfl⟩ := hp
  show F 1 10 ((oC a 12 [.int mc, .ref a1_, .int (nI 0)]) :: (aC D 3 a1_ (qA 10 (fun _ => none))) :: wv) ((aC D 3 (D.2.2.1 1) (qA 0 (fun _ => none))) :: iv) 10 [.ref a1_] [(0, .ref a), (1, .ref x), (2, .ref (D.2.2.1 1)), (3, .int (nI 0))]
  refine r_astore_n 11 [(2, .ref a1_), (0, .ref a), (1, .ref x), (3, .int (nI 0))] (hF.pu _ _ _ _) dJ8_add_2_10 rfl (by decide) rfl rfl ?_
  refine r_aload_n 12 0 (hF.pu _ _ _ _) dJ8_add_2_11 rfl rfl ?_
  refine r_iload_n 13 3 (hF.pu _ _ _ _) dJ8_add_2_12 rfl rfl ?_
  refine r_aload_n 14 2 (hF.pu _ _ _ _) dJ8_add_2_13 rfl rfl ?_
  refine f_aast 15 hF 1 ((oC a 12 [.int mc, .ref a1_, .int (nI 0)]) :: (aC D 3 a1_ (qA 10 (va_up (fun _ => none) 0 (some x)))) :: wv) rfl rfl (fun _ z => (hx _ (fun q hq => (List.mem_append.mp hq).elim (fun h => z.2.1 q (by simp [h])) (fun h => z.2.2 q (by simp [h]))))) 0 rfl (by decide) (by decide) rfl dJ8_add_2_14 rfl ?_
  refine r_aload_n 16 1 (hF.pu _ _ _ _) dJ8_add_2_15 rfl rfl ?_
  refine r_iload_n 17 3 (hF.pu _ _ _ _) dJ8_add_2_16 rfl rfl ?_
  refine r_iconst 18 1 (hF.pu _ _ _ _) dJ8_add_2_17 (by decide) rfl ?_
  refine r_iaddN 0 1 1 19 (hF.pu _ _ _ _) dJ8_add_2_18 (by omega) rfl ?_
  refine f_put 22 hF 0 (T := TJ8) (C := RJ8) ((oC a 12 [.int mc, .ref a1_, .int (nI 1)]) :: (aC D 3 a1_ (qA 10 (va_up (fun _ => none) 0 (some x)))) :: wv) okJ8 rfl rfl 2 (by decide) (Or.inl q257) (Or.inl rfl) rfl rfl rfl (Nat.le_of_ble_eq_true rfl) rfl dJ8_add_2_19 rfl ?_
  refine f_imsub hF [] (imk [] rfl) ?_
  exact FR.v hR dJ8_add_2_22 (Nat.le_of_ble_eq_true rfl) (Nat.le_of_ble_eq_true rfl) ⟨_, rfl, rfl, rfl⟩
set_option maxHeartbeats 4000000 in
theorem fc_J8_add_2_n (D : DD) (l : Launch) {KS : Nat → Prop} {Hb : Heap} (a b n x : Nat) (mc : Int32) (f : Nat → Option Nat) (hn : n < 10) (wv iv : va_W) (hx : ∀ H, (∀ q ∈ wv ++ iv, va_at D.1 aCl q H) → anyK D "java/lang/Object" x H) : Fc D l yJ8_add_2 cJ8_add_2 4 none 0 0 0 0 KS Hb [.ref a, .ref x, .ref b, .int (nI n)] ((oC a 12 [.int mc, .ref b, .int (nI n)]) :: (aC D 3 b (qA 10 f)) :: wv) iv (fun r w i => r = none ∧ w = oC a 12 [.int mc, .ref b, .int (nI (n + 1))] :: aC D 3 b (qA 10 (va_up f n (some x))) :: wv ∧ i = []) := by
  refine Fc.of (by decide) (Nat.le_of_ble_eq_true rfl) (fun s F hF hR => ?_)
  show F 0 0 ((oC a 12 [.int mc, .ref b, .int (nI n)]) :: (aC D 3 b (qA 10 f)) :: wv) iv 0 [] [(0, .ref a), (1, .ref x), (2, .ref b), (3, .int (nI n))]
  refine r_iload_n 1 3 (hF.pu _ _ _ _) dJ8_add_2_0 rfl rfl ?_
  refine r_aload_n 2 2 (hF.pu _ _ _ _) dJ8_add_2_1 rfl rfl ?_
  refine f_alen 3 hF (fun _ z => (z.a 1 rfl)) rfl dJ8_add_2_2 rfl ?_
  refine r_icmp_neN n 10 6 11 (hF.pu _ _ _ _) dJ8_add_2_3 (by omega) (by omega) (by decide) (fun c3 => ?_) rfl (fun c3 => absurd c3 (by omega))
  refine r_aload_n 12 2 (hF.pu _ _ _ _) dJ8_add_2_11 rfl rfl ?_
  refine r_iload_n 13 3 (hF.pu _ _ _ _) dJ8_add_2_12 rfl rfl ?_
  refine r_aload_n 14 1 (hF.pu _ _ _ _) dJ8_add_2_13 rfl rfl ?_
  refine f_aast 15 hF 1 ((oC a 12 [.int mc, .ref b, .int (nI n)]) :: (aC D 3 b (qA 10 (va_up f n (some x)))) :: wv) rfl rfl (fun _ z => (hx _ (fun q hq => (List.mem_append.mp hq).elim (fun h => z.2.1 q (by simp [h])) (fun h => z.2.2 q (by simp [h]))))) n rfl (by omega) (by omega) rfl dJ8_add_2_14 rfl ?_
  refine r_aload_n 16 0 (hF.pu _ _ _ _) dJ8_add_2_15 rfl rfl ?_
  refine r_iload_n 17 3 (hF.pu _ _ _ _) dJ8_add_2_16 rfl rfl ?_
  refine r_iconst 18 1 (hF.pu _ _ _ _) dJ8_add_2_17 (by decide) rfl ?_
  refine r_iaddN n 1 (n + 1) 19 (hF.pu _ _ _ _) dJ8_add_2_18 rfl rfl ?_
  refine f_put 22 hF 0 (T := TJ8) (C := RJ8) ((oC a 12 [.int mc, .ref b, .int (nI (n + 1))]) :: (aC D 3 b (qA 10 (va_up f n (some x)))) :: wv) okJ8 rfl rfl 2 (by decide) (Or.inl q257) (Or.inl rfl) rfl rfl rfl (Nat.le_of_ble_eq_true rfl) rfl dJ8_add_2_19 rfl ?_
  refine f_imsub hF [] (imk [] rfl) ?_
  exact FR.v hR dJ8_add_2_22 (Nat.le_of_ble_eq_true rfl) (Nat.le_of_ble_eq_true rfl) ⟨rfl, rfl, rfl⟩
theorem lk_J8_131 : GoodIn lw_all (wsV RJ8 131 yJ8_add_2.cls yJ8_add_2 (ws_ yJ8_add_2 cJ8_add_2 4 none)) := lw_V q358 q360 qs0 q114 q361
theorem yk_J8_add_2 : yOk yJ8_add_2 3 := by decide +kernel
set_option maxHeartbeats 4000000 in
theorem fc_J8_add_e (D : DD) (l : Launch) {KS : Nat → Prop} {Hb : Heap} (a x : Nat) (mc : Int32) (wv iv : va_W) (hx : ∀ H, (∀ q ∈ wv ++ iv, va_at D.1 aCl q H) → anyK D "java/lang/Object" x H) : Fc D l yJ8_add cJ8_add 2 (some .boolean) 4 1 10 89 KS Hb [.ref a, .ref x] ((oC a 12 [.int mc, .ref (D.2.2.1 1), .int (nI 0)]) :: wv) iv (fun r w i => ∃ b, r = some (.int 1) ∧ w = oC a 12 [.int (mc + 1), .ref b, .int (nI 1)] :: aC D 3 b (qA 10 (va_up (fun _ => none) 0 (some x))) :: wv ∧ i = []) := by
  refine Fc.of (by decide) (Nat.le_of_ble_eq_true rfl) (fun s F hF hR => ?_)
  show F 0 0 ((oC a 12 [.int mc, .ref (D.2.2.1 1), .int (nI 0)]) :: wv) iv 0 [] [(0, .ref a), (1, .ref x)]
  refine r_aload_n 1 0 (hF.pu _ _ _ _) dJ8_add_0 rfl rfl ?_
  refine r_dup 2 (hF.pu _ _ _ _) dJ8_add_1 rfl rfl ?_
  refine f_getf 5 hF (T := TJ8) (C := RJ8) 0 (v := .int mc) okJ8 (fun _ z => ((z.o 0 rfl).fld 0 rfl)) rfl (by decide) (Or.inl q274) (Or.inr q262) dJ8_add_2 rfl ?_
  refine r_iconst 6 1 (hF.pu _ _ _ _) dJ8_add_5 (by decide) rfl ?_
  refine r_iadd 7 (hF.pu _ _ _ _) dJ8_add_6 rfl ?_
  refine f_put 10 hF 0 (T := TJ8) (C := RJ8) ((oC a 12 [.int (mc + 1), .ref (D.2.2.1 1), .int (nI 0)]) :: wv) okJ8 rfl rfl 0 (by decide) (Or.inl q274) (Or.inr q262) rfl rfl rfl (Nat.le_of_ble_eq_true rfl) rfl dJ8_add_7 rfl ?_
  refine r_aload_n 11 0 (hF.pu _ _ _ _) dJ8_add_10 rfl rfl ?_
  refine r_aload_n 12 1 (hF.pu _ _ _ _) dJ8_add_11 rfl rfl ?_
  refine r_aload_n 13 0 (hF.pu _ _ _ _) dJ8_add_12 rfl rfl ?_
  refine f_getf 16 hF (T := TJ8) (C := RJ8) 1 (v := .ref (D.2.2.1 1)) okJ8 (fun _ z => ((z.o 0 rfl).fld 1 rfl)) rfl (by decide) (Or.inl q251) (Or.inl rfl) dJ8_add_13 rfl ?_
  refine r_aload_n 17 0 (hF.pu _ _ _ _) dJ8_add_16 rfl rfl ?_
  refine f_getf 20 hF (T := TJ8) (C := RJ8) 2 (v := .int (nI 0)) okJ8 (fun _ z => ((z.o 0 rfl).fld 2 rfl)) rfl (by decide) (Or.inl q257) (Or.inl rfl) dJ8_add_17 rfl ?_
  refine f_callV 23 hF (fc_J8_add_2_e (KS := KS) (Hb := Hb) D l a x (mc + 1) wv iv hx) (wr := []) (List.append_nil _).symm (fun _ h => h) lk_J8_131 3 yk_J8_add_2 rfl ⟨by decide, by decide⟩ (fun _ z => ((z.o 0 rfl).fld 0 rfl)) rfl rfl (Nat.le_of_ble_eq_true rfl) dJ8_add_20 ⟨Nat.le_of_ble_eq_true rfl, Nat.le_of_ble_eq_true rfl⟩ rfl (fun r ws_ im' hp => ?_)
  obtain ⟨a1_, rfl, rfl, rfl⟩ := hp
  refine f_eqw _ (List.append_nil _) ?_
  show F 1 10 ((oC a 12 [.int (mc + 1), .ref a1_, .int (nI 1)]) :: (aC D 3 a1_ (qA 10 (va_up (fun _ => none) 0 (some x)))) :: wv) iv 23 [] [(0, .ref a), (1, .ref x)]
  refine r_iconst 24 1 (hF.pu _ _ _ _) dJ8_add_23 (by decide) rfl ?_
  refine f_imsub hF [] (imk [] rfl) ?_
  exact FR.i hR rfl dJ8_add_24 (Nat.le_of_ble_eq_true rfl) (Nat.le_of_ble_eq_true rfl) ⟨_, rfl, rfl, rfl⟩
set_option maxHeartbeats 4000000 in
theorem fc_J8_add_n (D : DD) (l : Launch) {KS : Nat → Prop} {Hb : Heap} (a b n x : Nat) (mc : Int32) (f : Nat → Option Nat) (hn : n < 10) (wv iv : va_W) (hx : ∀ H, (∀ q ∈ wv ++ iv, va_at D.1 aCl q H) → anyK D "java/lang/Object" x H) : Fc D l yJ8_add cJ8_add 2 (some .boolean) 1 0 0 23 KS Hb [.ref a, .ref x] ((oC a 12 [.int mc, .ref b, .int (nI n)]) :: (aC D 3 b (qA 10 f)) :: wv) iv (fun r w i => r = some (.int 1) ∧ w = oC a 12 [.int (mc + 1), .ref b, .int (nI (n + 1))] :: aC D 3 b (qA 10 (va_up f n (some x))) :: wv ∧ i = []) := by
  refine Fc.of (by decide) (Nat.le_of_ble_eq_true rfl) (fun s F hF hR => ?_)
  show F 0 0 ((oC a 12 [.int mc, .ref b, .int (nI n)]) :: (aC D 3 b (qA 10 f)) :: wv) iv 0 [] [(0, .ref a), (1, .ref x)]
  refine r_aload_n 1 0 (hF.pu _ _ _ _) dJ8_add_0 rfl rfl ?_
  refine r_dup 2 (hF.pu _ _ _ _) dJ8_add_1 rfl rfl ?_
  refine f_getf 5 hF (T := TJ8) (C := RJ8) 0 (v := .int mc) okJ8 (fun _ z => ((z.o 0 rfl).fld 0 rfl)) rfl (by decide) (Or.inl q274) (Or.inr q262) dJ8_add_2 rfl ?_
  refine r_iconst 6 1 (hF.pu _ _ _ _) dJ8_add_5 (by decide) rfl ?_
  refine r_iadd 7 (hF.pu _ _ _ _) dJ8_add_6 rfl ?_
  refine f_put 10 hF 0 (T := TJ8) (C := RJ8) ((oC a 12 [.int (mc + 1), .ref b, .int (nI n)]) :: (aC D 3 b (qA 10 f)) :: wv) okJ8 rfl rfl 0 (by decide) (Or.inl q274) (Or.inr q262) rfl rfl rfl (Nat.le_of_ble_eq_true rfl) rfl dJ8_add_7 rfl ?_
  refine r_aload_n 11 0 (hF.pu _ _ _ _) dJ8_add_10 rfl rfl ?_
  refine r_aload_n 12 1 (hF.pu _ _ _ _) dJ8_add_11 rfl rfl ?_
  refine r_aload_n 13 0 (hF.pu _ _ _ _) dJ8_add_12 rfl rfl ?_
  refine f_getf 16 hF (T := TJ8) (C := RJ8) 1 (v := .ref b) okJ8 (fun _ z => ((z.o 0 rfl).fld 1 rfl)) rfl (by decide) (Or.inl q251) (Or.inl rfl) dJ8_add_13 rfl ?_
  refine r_aload_n 17 0 (hF.pu _ _ _ _) dJ8_add_16 rfl rfl ?_
  refine f_getf 20 hF (T := TJ8) (C := RJ8) 2 (v := .int (nI n)) okJ8 (fun _ z => ((z.o 0 rfl).fld 2 rfl)) rfl (by decide) (Or.inl q257) (Or.inl rfl) dJ8_add_17 rfl ?_
  refine f_callV 23 hF (fc_J8_add_2_n (KS := KS) (Hb := Hb) D l a b n x (mc + 1) f (by omega) wv iv hx) (wr := []) (List.append_nil _).symm (fun _ h => h) lk_J8_131 3 yk_J8_add_2 rfl ⟨by decide, by decide⟩ (fun _ z => ((z.o 0 rfl).fld 0 rfl)) rfl rfl (Nat.le_of_ble_eq_true rfl) dJ8_add_20 ⟨Nat.le_of_ble_eq_true rfl, Nat.le_of_ble_eq_true rfl⟩ rfl (fun r ws_ im' hp => ?_)
  obtain ⟨rfl, rfl, rfl⟩ := hp
  refine f_eqw _ (List.append_nil _) ?_
  show F 0 0 ((oC a 12 [.int (mc + 1), .ref b, .int (nI (n + 1))]) :: (aC D 3 b (qA 10 (va_up f n (some x)))) :: wv) iv 23 [] [(0, .ref a), (1, .ref x)]
  refine r_iconst 24 1 (hF.pu _ _ _ _) dJ8_add_23 (by decide) rfl ?_
  refine f_imsub hF [] (imk [] rfl) ?_
  exact FR.i hR rfl dJ8_add_24 (Nat.le_of_ble_eq_true rfl) (Nat.le_of_ble_eq_true rfl) ⟨rfl, rfl, rfl⟩
set_option maxHeartbeats 4000000 in
theorem fc_J8_set (D : DD) (l : Launch) {KS : Nat → Prop} {Hb : Heap} (a e cap n i x x0 : Nat) (mc : Int32) (f : Nat → Option Nat) (hi : i < n) (hn : n ≤ cap) (hc : cap < 2 ^ 31) (hf : f i = some x0) (wv iv : va_W) (hx : ∀ H, (∀ q ∈ wv ++ iv, va_at D.1 aCl q H) → anyK D "java/lang/Object" x H) : Fc D l yJ8_set cJ8_set 4 (Option.some (ClassFile.FieldType.object "java/lang/Object")) 2 0 0 43 KS Hb [.ref a, .int (nI i), .ref x] ((oC a 12 [.int mc, .ref e, .int (nI n)]) :: (aC D 3 e (qA cap f)) :: wv) iv (fun r w j => r = some (.ref x0) ∧ w = oC a 12 [.int mc, .ref e, .int (nI n)] :: aC D 3 e (qA cap (va_up f i (some x))) :: wv ∧ j = []) := by
  refine Fc.of (by decide) (Nat.le_of_ble_eq_true rfl) (fun s F hF hR => ?_)
  show F 0 0 ((oC a 12 [.int mc, .ref e, .int (nI n)]) :: (aC D 3 e (qA cap f)) :: wv) iv 0 [] [(0, .ref a), (1, .int (nI i)), (2, .ref x)]
  refine r_iload_n 1 1 (hF.pu _ _ _ _) dJ8_set_0 rfl rfl ?_
  refine r_aload_n 2 0 (hF.pu _ _ _ _) dJ8_set_1 rfl rfl ?_
  refine f_getf 5 hF (T := TJ8) (C := RJ8) 2 (v := .int (nI n)) okJ8 (fun _ z => ((z.o 0 rfl).fld 2 rfl)) rfl (by decide) (Or.inl q257) (Or.inl rfl) dJ8_set_2 rfl ?_
  refine f_callS' 8 hF (ts_J5_checkIndex D l i n (by omega) (by omega)) lk_J8_118 2 yk_J5_checkIndex rfl ⟨by decide, by decide⟩ rfl (Nat.le_of_ble_eq_true rfl) dJ8_set_5 ⟨Nat.le_of_ble_eq_true rfl, Nat.le_of_ble_eq_true rfl⟩ rfl ?_
  refine r_pop 9 (hF.pu _ _ _ _) dJ8_set_8 rfl rfl ?_
  refine r_aload_n 10 0 (hF.pu _ _ _ _) dJ8_set_9 rfl rfl ?_
  refine r_iload_n 11 1 (hF.pu _ _ _ _) dJ8_set_10 rfl rfl ?_
  refine f_callp 14 hF (fun _ z => cp_J8_elementData D l a e cap i x0 ((z.o 0 rfl).fld 1 rfl) ⟨_, (z.a 1 rfl), hf⟩ (by omega) hc) lk_J8_123 1 yk_J8_elementData rfl ⟨by decide, by decide⟩ (fun _ z => ((z.o 0 rfl).fld 0 rfl)) rfl rfl (Nat.le_of_ble_eq_true rfl) dJ8_set_11 ⟨Nat.le_of_ble_eq_true rfl, Nat.le_of_ble_eq_true rfl⟩ rfl ?_
  refine r_astore_n 15 [(3, .ref x0), (0, .ref a), (1, .int (nI i)), (2, .ref x)] (hF.pu _ _ _ _) dJ8_set_14 rfl (by decide) rfl rfl ?_
  refine r_aload_n 16 1 (hF.pu _ _ _ _) dJ8_set_15 rfl rfl ?_
  refine f_getf 19 hF (T := TJ8) (C := RJ8) 1 (v := .ref e) okJ8 (fun _ z => ((z.o 0 rfl).fld 1 rfl)) rfl (by decide) (Or.inl q251) (Or.inl rfl) dJ8_set_16 rfl ?_
  refine r_iload_n 20 2 (hF.pu _ _ _ _) dJ8_set_19 rfl rfl ?_
  refine r_aload_n 21 3 (hF.pu _ _ _ _) dJ8_set_20 rfl rfl ?_
  refine f_aast 22 hF 1 ((oC a 12 [.int mc, .ref e, .int (nI n)]) :: (aC D 3 e (qA cap (va_up f i (some x)))) :: wv) rfl rfl (fun _ z => (hx _ (fun q hq => (List.mem_append.mp hq).elim (fun h => z.2.1 q (by simp [h])) (fun h => z.2.2 q (by simp [h]))))) i rfl (by omega) (by omega) rfl dJ8_set_21 rfl ?_
  refine r_aload_n 23 0 (hF.pu _ _ _ _) dJ8_set_22 rfl rfl ?_
  refine f_imsub hF [] (imk [] rfl) ?_
  exact FR.a hR (Or.inl ⟨_, rfl⟩) dJ8_set_23 (Nat.le_of_ble_eq_true rfl) (Nat.le_of_ble_eq_true rfl) ⟨rfl, rfl, rfl⟩
