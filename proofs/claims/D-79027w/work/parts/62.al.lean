theorem f_lsSize {D : DD} {l : Launch} {s : State} {own : String} {args : Array Value} {cc : ByteArray} {nL : Nat} {R : Room} {nm : String} {KS : Nat → Prop} {Hb : Heap} {F : FJ} {k n pc index cnt : Nat} {ws im : va_W} {rest : List Value} {lv : List (Nat × Value)} {K : Nat → Prop} {ci a ea nn : Nat} {fl : Nat → Nat} (q : Nat) (hF : Fx D l s own args cc nL R nm KS Hb F) (h : ∀ H, Fk D KS Hb ws im H → lsK K D ci a ea nn fl H) (w1 : GoodIn lw_all (va_wsF own index "java/util/ArrayList" ⟨"java/util/List", "size", "()I"⟩ yJ8_size (ws_ yJ8_size cJ8_size 1 (some .int)))) (w2 : GoodIn lw_all (va_wsF own index "java/util/ImmutableCollections$List12" ⟨"java/util/List", "size", "()I"⟩ yJ4_size (ws_ yJ4_size cJ4_size 1 (some .int)))) (hR : 1 ≤ R.frames ∧ 20 ≤ R.locals) (hrest : (rest.map fun v => v.category).sum ≤ 8) (d : decode cc pc = .ok (.invokeinterface index cnt, 5)) (hf : k ≤ R.cells ∧ n ≤ R.slots) (e : pc + 5 = q) (kk : F k n ws im q (.int (nI nn) :: rest) lv) : F k n ws im pc (.ref a :: rest) lv := by
  obtain ⟨A, B, H0, J, hJ, hB, hAK, hAB, hBB, rfl⟩ := hF
  intro H hH
  exact j_lsSize q hJ (h H hH.k) w1 w2 hR hrest d hf e (kk H hH)
theorem f_lsGet {D : DD} {l : Launch} {s : State} {own : String} {args : Array Value} {cc : ByteArray} {nL : Nat} {R : Room} {nm : String} {KS : Nat → Prop} {Hb : Heap} {F : FJ} {k n pc index cnt : Nat} {ws im : va_W} {rest : List Value} {lv : List (Nat × Value)} {K : Nat → Prop} {ci a ea nn : Nat} {fl : Nat → Nat} (q : Nat) (hF : Fx D l s own args cc nL R nm KS Hb F) (h : ∀ H, Fk D KS Hb ws im H → lsK K D ci a ea nn fl H) (i : Nat) (hi : i < nn) (w1 : GoodIn lw_all (va_wsF own index "java/util/ArrayList" ⟨"java/util/List", "get", "(I)Ljava/lang/Object;"⟩ yJ8_get (ws_ yJ8_get cJ8_get 2 (Option.some (ClassFile.FieldType.object "java/lang/Object"))))) (w2 : GoodIn lw_all (va_wsF own index "java/util/ImmutableCollections$List12" ⟨"java/util/List", "get", "(I)Ljava/lang/Object;"⟩ yJ4_get (ws_ yJ4_get cJ4_get 2 (Option.some (ClassFile.FieldType.object "java/lang/Object"))))) (hR : 4 ≤ R.frames ∧ 120 ≤ R.locals) (hrest : (rest.map fun v => v.category).sum ≤ 8) (d : decode cc pc = .ok (.invokeinterface index cnt, 5)) (hf : k ≤ R.cells ∧ n ≤ R.slots) (e : pc + 5 = q) (kk : F k n ws im q (.ref (fl i) :: rest) lv) : F k n ws im pc (.int (nI i) :: .ref a :: rest) lv := by
  obtain ⟨A, B, H0, J, hJ, hB, hAK, hAB, hBB, rfl⟩ := hF
  intro H hH
  exact j_lsGet q hJ (h H hH.k) i hi w1 w2 hR hrest d hf e (kk H hH)
theorem br_of {D : DD} {g : Nat → Int32} {rb nb : Nat} {iv : va_W} (h : brS D g rb nb iv) : ∃ eb cb fb, ∀ (K : Nat → Prop) (H : Heap), (∀ q ∈ iv, va_at D.1 aCl q H ∧ ¬ K q.1) → lsK K D cb rb eb nb fb H ∧ ∀ k, k < nb → obK K D 4 [.int (g (1 + 2 * k)), .int (g (1 + 2 * k + 1))] (fb k) H := by
  rcases h with ⟨rfl, x, b1, b2⟩ | ⟨b0, mc, e, f, fb, b1, b2, b3⟩
  · exact ⟨0, 18, fun _ => x, fun K H hq => ⟨Or.inr ⟨rfl, rfl, hq _ b1⟩, fun k hk => (show k = 0 by omega) ▸ hq _ b2⟩⟩
  · exact ⟨e, 12, fb, fun K H hq => ⟨Or.inl ⟨rfl, ⟨mc, hq _ b1⟩, 10, f, hq _ b2, by omega, by decide, fun i hi => (b3 i hi).1⟩, fun k hk => hq _ (b3 k hk).2⟩⟩
/-- the brackets one by one, the credits one by one -/
def brB (g : Nat → Int32) (k : Nat) : Bool := decide (¬ 999 < g (1 + 2 * k + 1)) && (decide (k = 0) || decide (¬ g (1 + 2 * k) ≤ g (1 + 2 * (k - 1))))
def brA (g : Nat → Int32) : Nat → Bool → Bool
  | 0, a => a
  | k + 1, a => brA g k a && brB g k
def crB (g : Nat → Int32) (j : Nat) : Bool := decide (¬ 999 < g (28 + 6 * j + 2)) && decide (¬ 999 < g (28 + 6 * j + 4))
def crA (g : Nat → Int32) : Nat → Bool → Bool
  | 0, a => a
  | j + 1, a => crA g j a && crB g j
def alB (g : Nat → Int32) (al mi : Nat → Int32) (nb nch ncr : Nat) : Bool := crA g ncr (brA g nb (decide (g (1 + 2 * 0) = 0))) && (decide (¬ 999 < al 2) && (decide (¬ 999 < mi 1) && decide (nch ≤ 4)))
theorem zB_and {a b : Bool} : zB a &&& zB b = zB (a && b) := by cases a <;> cases b <;> rfl
theorem brB_n {g : Nat → Int32} {k : Nat} (h : 999 < g (1 + 2 * k + 1)) : (0 : Int32) = zB (brB g k) := by simp [brB, h, zB]
theorem brB_0 {g : Nat → Int32} {k : Nat} (h : ¬ 999 < g (1 + 2 * k + 1)) (hk : k = 0) : (1 : Int32) = zB (brB g k) := by unfold brB; rw [decide_eq_true h, decide_eq_true hk]; rfl
theorem brB_s {g : Nat → Int32} {k : Nat} (h : ¬ 999 < g (1 + 2 * k + 1)) (hk : ¬ g (1 + 2 * k) ≤ g (1 + 2 * (k - 1))) : (1 : Int32) = zB (brB g k) := by unfold brB; rw [decide_eq_true h, decide_eq_true hk, Bool.or_true]; rfl
theorem brB_f {g : Nat → Int32} {k : Nat} (h2 : ¬ k = 0) (hk : g (1 + 2 * k) ≤ g (1 + 2 * (k - 1))) : (0 : Int32) = zB (brB g k) := by unfold brB; rw [decide_eq_false h2, decide_eq_false (show ¬ ¬ g (1 + 2 * k) ≤ g (1 + 2 * (k - 1)) from fun z => z hk), Bool.or_false, Bool.and_false]; rfl
theorem q_1 {a : Bool} {P Q R : Prop} [Decidable P] [Decidable Q] [Decidable R] (h1 : a = true) (h2 : P) (h3 : Q) (h4 : R) : (1 : Int32) = zB (a && (decide P && (decide Q && decide R))) := by rw [h1, decide_eq_true h2, decide_eq_true h3, decide_eq_true h4]; rfl
theorem q_a {a : Bool} {P Q R : Prop} [Decidable P] [Decidable Q] [Decidable R] (h1 : a = false) : (0 : Int32) = zB (a && (decide P && (decide Q && decide R))) := by rw [h1]; rfl
theorem q_b {a : Bool} {P Q R : Prop} [Decidable P] [Decidable Q] [Decidable R] (h1 : ¬ P) : (0 : Int32) = zB (a && (decide P && (decide Q && decide R))) := by rw [decide_eq_false h1, Bool.false_and, Bool.and_false]; rfl
theorem q_c {a : Bool} {P Q R : Prop} [Decidable P] [Decidable Q] [Decidable R] (h1 : ¬ Q) : (0 : Int32) = zB (a && (decide P && (decide Q && decide R))) := by rw [decide_eq_false h1, Bool.false_and, Bool.and_false, Bool.and_false]; rfl
theorem q_d {a : Bool} {P Q R : Prop} [Decidable P] [Decidable Q] [Decidable R] (h1 : ¬ R) : (0 : Int32) = zB (a && (decide P && (decide Q && decide R))) := by rw [decide_eq_false h1, Bool.and_false, Bool.and_false, Bool.and_false]; rfl
theorem lu_X3_78_J9_iterator : GoodIn lw_all (va_wsU RX3 78 "java/util/LinkedList" "java/util/AbstractSequentialList" ⟨"java/util/LinkedList", "iterator", "()Ljava/util/Iterator;"⟩ yJ9_iterator (ws_ yJ9_iterator cJ9_iterator 1 (Option.some (ClassFile.FieldType.object "java/util/Iterator")))) := lw_U q2351 q2352 q2354 q1235 q115 q1236
theorem yu_AbstractSequentialList_iterator_0 : uOk "java/util/AbstractSequentialList" ⟨"java/util/LinkedList", "iterator", "()Ljava/util/Iterator;"⟩ 0 := by decide +kernel
theorem lf_X3_82_J35_hasNext : GoodIn lw_all (va_wsF RX3 82 "java/util/LinkedList$ListItr" ⟨"java/util/Iterator", "hasNext", "()Z"⟩ yJ35_hasNext (ws_ yJ35_hasNext cJ35_hasNext 1 (some .boolean))) := lw_F q2356 q1362 q1356 q147 q1358
theorem yf_Iterator_hasNext_0 : yOk ⟨"java/util/Iterator", "hasNext", "()Z"⟩ 0 := by decide +kernel
theorem fo_J35_hasNext_Iterator_hasNext : fwOk ("java/util/LinkedList$ListItr", ⟨"java/util/Iterator", "hasNext", "()Z"⟩, yJ35_hasNext) = true := by decide +kernel
theorem lk_X3_98 : GoodIn lw_all (wsV RX3 98 yJ10_size.cls yJ10_size (ws_ yJ10_size cJ10_size 1 (some .int))) := lw_V q2364 q588 q589 q116 q590
set_option maxHeartbeats 4000000 in
theorem fc_X3_isAllowed_0 (D : DD) (l : Launch) {KS : Nat → Prop} {Hb : Heap} (R rb r2 r3 r4 r6 e4 nb nch : Nat) (m4 m6 : Int32) (al mi g : Nat → Int32) (pf f4 f6 : Nat → Nat) (iv : va_W) (hn1 : 0 < nb) (hn6 : nb ≤ 6) (hch : nch ≤ 4) (hi : ivS D g pf rb nb nch f4 0 f6 iv) : Fc D l yX3_isAllowed cX3_isAllowed 4 (some .boolean) 5 1 5 120 KS Hb [.ref R] ([]) ((oC R 3 [.ref rb, .ref r2, .ref r3, .ref r4, .ref r6]) :: (aC D 0 r2 (iA 3 al)) :: (aC D 0 r3 (iA 2 mi)) :: (oC r4 12 [.int m4, .ref e4, .int (nI nch)]) :: (oC r6 13 [.int m6, .int 0, .null, .null]) :: iv) (fun r w i => r = some (.int (zB (alB g al mi nb nch 0))) ∧ w = [] ∧ i = []) := by
  obtain ⟨eb, cb, fb, hbr⟩ := br_of hi.2.2.2.2
  refine Fc.of (by decide) (Nat.le_of_ble_eq_true rfl) (fun s F hF hR => ?_)
  show F 0 0 ([]) ((oC R 3 [.ref rb, .ref r2, .ref r3, .ref r4, .ref r6]) :: (aC D 0 r2 (iA 3 al)) :: (aC D 0 r3 (iA 2 mi)) :: (oC r4 12 [.int m4, .ref e4, .int (nI nch)]) :: (oC r6 13 [.int m6, .int 0, .null, .null]) :: iv) 0 [] [(0, .ref R)]
  refine r_aload_n 1 0 (hF.pu _ _ _ _) dX3_isAllowed_0 rfl rfl ?_
  refine f_getf 4 hF (T := TX3) (C := RX3) 0 (v := .ref rb) okX3 (fun _ z => ((z.mo 0 rfl).fld 0 rfl)) rfl (by decide) (Or.inl q305) (Or.inl rfl) dX3_isAllowed_1 rfl ?_
  refine f_lsSize 9 hF (fun _ z => (hbr (fun _ => False) _ (fun q hq => ⟨z.2.2 q (List.mem_cons_of_mem _ (List.mem_cons_of_mem _ (List.mem_cons_of_mem _ (List.mem_cons_of_mem _ (List.mem_cons_of_mem _ hq))))), id⟩)).1) lf_X3_59_J8_size lf_X3_59_J4_size ⟨by decide, by decide⟩ (Nat.le_of_ble_eq_true rfl) dX3_isAllowed_4 ⟨Nat.le_of_ble_eq_true rfl, Nat.le_of_ble_eq_true rfl⟩ rfl ?_
  refine r_iconst 10 1 (hF.pu _ _ _ _) dX3_isAllowed_9 (by decide) rfl ?_
  refine r_bipush 12 6 (hF.pu _ _ _ _) dX3_isAllowed_10 (by decide) rfl ?_
  refine f_callSN' 15 hF (ts_X1_isBetween D l (nI nb) 1 6) q2017 q102 nw_q2350 q2016 3 yk_X1_isBetween rfl ⟨by decide, by decide⟩ rfl (Nat.le_of_ble_eq_true rfl) dX3_isAllowed_12 ⟨Nat.le_of_ble_eq_true rfl, Nat.le_of_ble_eq_true rfl⟩ rfl ?_
  refine r_eqi 1 (by rcases (show nb = 1 ∨ nb = 2 ∨ nb = 3 ∨ nb = 4 ∨ nb = 5 ∨ nb = 6 by omega) with rfl | rfl | rfl | rfl | rfl | rfl <;> rfl) ?_
  refine r_if_eq 18 41 (hF.pu _ _ _ _) dX3_isAllowed_15 (by decide) (fun c => absurd c (by decide)) rfl (fun _ => ?_)
  refine r_aload_n 19 0 (hF.pu _ _ _ _) dX3_isAllowed_18 rfl rfl ?_
  refine f_getf 22 hF (T := TX3) (C := RX3) 0 (v := .ref rb) okX3 (fun _ z => ((z.mo 0 rfl).fld 0 rfl)) rfl (by decide) (Or.inl q305) (Or.inl rfl) dX3_isAllowed_19 rfl ?_
  refine r_iconst 23 0 (hF.pu _ _ _ _) dX3_isAllowed_22 (by decide) rfl ?_
  refine f_lsGet 28 hF (fun _ z => (hbr (fun _ => False) _ (fun q hq => ⟨z.2.2 q (List.mem_cons_of_mem _ (List.mem_cons_of_mem _ (List.mem_cons_of_mem _ (List.mem_cons_of_mem _ (List.mem_cons_of_mem _ hq))))), id⟩)).1) 0 (by omega) lf_X3_67_J8_get lf_X3_67_J4_get ⟨by decide, by decide⟩ (Nat.le_of_ble_eq_true rfl) dX3_isAllowed_23 ⟨Nat.le_of_ble_eq_true rfl, Nat.le_of_ble_eq_true rfl⟩ rfl ?_
  refine f_castf 31 hF (fun _ z => (((hbr (fun _ => False) _ (fun q hq => ⟨z.2.2 q (List.mem_cons_of_mem _ (List.mem_cons_of_mem _ (List.mem_cons_of_mem _ (List.mem_cons_of_mem _ (List.mem_cons_of_mem _ hq))))), id⟩)).2 0 (by omega)).fld 0 rfl)) rfl q193 dX3_isAllowed_28 rfl ?_
  refine f_getf 34 hF (T := TX4) (C := RX4) 0 (v := .int (g (1 + 0))) okX4 (fun _ z => (((hbr (fun _ => False) _ (fun q hq => ⟨z.2.2 q (List.mem_cons_of_mem _ (List.mem_cons_of_mem _ (List.mem_cons_of_mem _ (List.mem_cons_of_mem _ (List.mem_cons_of_mem _ hq))))), id⟩)).2 0 (by omega)).fld 0 rfl)) rfl (by decide) (Or.inr ⟨_, nw_q200⟩) (Or.inl rfl) dX3_isAllowed_31 rfl ?_
  have hj_34 : F 0 0 ([]) ((oC R 3 [.ref rb, .ref r2, .ref r3, .ref r4, .ref r6]) :: (aC D 0 r2 (iA 3 al)) :: (aC D 0 r3 (iA 2 mi)) :: (oC r4 12 [.int m4, .ref e4, .int (nI nch)]) :: (oC r6 13 [.int m6, .int 0, .null, .null]) :: iv) 42 [.int (zB (decide (g (1 + 2 * 0) = 0)))] [(0, .ref R)] := by
    refine r_istore_n 43 [(1, .int (zB (decide (g (1 + 2 * 0) = 0)))), (0, .ref R)] (hF.pu _ _ _ _) dX3_isAllowed_42 rfl (by decide) rfl rfl ?_
    refine r_iconst 44 0 (hF.pu _ _ _ _) dX3_isAllowed_43 (by decide) rfl ?_
    refine r_istore_n 45 [(2, .int 0), (1, .int (zB (decide (g (1 + 2 * 0) = 0)))), (0, .ref R)] (hF.pu _ _ _ _) dX3_isAllowed_44 rfl (by decide) rfl rfl ?_
    have lp_45 : ∀ (m : Nat) (k : Nat), (k ≤ nb) → (nb - k) < m → F 0 0 ([]) ((oC R 3 [.ref rb, .ref r2, .ref r3, .ref r4, .ref r6]) :: (aC D 0 r2 (iA 3 al)) :: (aC D 0 r3 (iA 2 mi)) :: (oC r4 12 [.int m4, .ref e4, .int (nI nch)]) :: (oC r6 13 [.int m6, .int 0, .null, .null]) :: iv) 45 [] [(2, .int (nI k)), (1, .int (zB (brA g k (decide (g (1 + 2 * 0) = 0))))), (0, .ref R)] := by
      intro m
      induction m with
      | zero => intro k hk hm; exact absurd hm (Nat.not_lt_zero _)
      | succ m ih =>
        intro k hk hm
        refine r_iload_n 46 0 (hF.pu _ _ _ _) dX3_isAllowed_45 rfl rfl ?_
        refine r_aload_n 47 2 (hF.pu _ _ _ _) dX3_isAllowed_46 rfl rfl ?_
        refine f_getf 50 hF (T := TX3) (C := RX3) 0 (v := .ref rb) okX3 (fun _ z => ((z.mo 0 rfl).fld 0 rfl)) rfl (by decide) (Or.inl q305) (Or.inl rfl) dX3_isAllowed_47 rfl ?_
        refine f_lsSize 55 hF (fun _ z => (hbr (fun _ => False) _ (fun q hq => ⟨z.2.2 q (List.mem_cons_of_mem _ (List.mem_cons_of_mem _ (List.mem_cons_of_mem _ (List.mem_cons_of_mem _ (List.mem_cons_of_mem _ hq))))), id⟩)).1) lf_X3_59_J8_size lf_X3_59_J4_size ⟨by decide, by decide⟩ (Nat.le_of_ble_eq_true rfl) dX3_isAllowed_50 ⟨Nat.le_of_ble_eq_true rfl, Nat.le_of_ble_eq_true rfl⟩ rfl ?_
        refine r_icmp_geN k nb 58 135 (hF.pu _ _ _ _) dX3_isAllowed_55 (by omega) (by omega) (by decide) (fun c55 => ?_) rfl (fun c55 => ?_)
        · have hkn : nb = k := by omega
          subst hkn
          refine r_aload_n 136 2 (hF.pu _ _ _ _) dX3_isAllowed_135 rfl rfl ?_
          refine f_getf 139 hF (T := TX3) (C := RX3) 4 (v := .ref r6) okX3 (fun _ z => ((z.mo 0 rfl).fld 4 rfl)) rfl (by decide) (Or.inl q317) (Or.inl rfl) dX3_isAllowed_136 rfl ?_
          refine f_callU 142 hF (fc_J9_iterator_0 (KS := KS) (Hb := Hb) D l r6 m6) (wr := ([])) rfl (imk [4] rfl) lu_X3_78_J9_iterator nw_q2353 0 yu_AbstractSequentialList_iterator_0 rfl ⟨by decide, by decide⟩ (fun _ z => ((z.mo 4 rfl).fld 0 rfl)) rfl rfl (Nat.le_of_ble_eq_true rfl) dX3_isAllowed_139 ⟨Nat.le_of_ble_eq_true rfl, Nat.le_of_ble_eq_true rfl⟩ rfl (fun r ws_ im' hp => ?_)
          obtain ⟨a1_, rfl, rfl, rfl⟩ := hp
          show F 1 5 ([oC a1_ 15 [.null, .null, .int (nI 0), .int m6, .ref r6]]) ((oC R 3 [.ref rb, .ref r2, .ref r3, .ref r4, .ref r6]) :: (aC D 0 r2 (iA 3 al)) :: (aC D 0 r3 (iA 2 mi)) :: (oC r4 12 [.int m4, .ref e4, .int (nI nch)]) :: (oC r6 13 [.int m6, .int 0, .null, .null]) :: iv) 142 [.ref a1_] [(2, .int (nI nb)), (1, .int (zB (brA g nb (decide (g (1 + 2 * 0) = 0))))), (0, .ref R)]
          refine r_astore_n 143 [(2, .ref a1_), (1, .int (zB (brA g nb (decide (g (1 + 2 * 0) = 0))))), (0, .ref R)] (hF.pu _ _ _ _) dX3_isAllowed_142 rfl (by decide) rfl rfl ?_
          refine r_aload_n 144 0 (hF.pu _ _ _ _) dX3_isAllowed_143 rfl rfl ?_
          refine f_callFp 149 hF (fun _ z => cp_J35_hasNext D l a1_ r6 0 0 ((z.o 0 rfl).fld 2 rfl) ((z.o 0 rfl).fld 4 rfl) ((z.mo 4 rfl).fld 1 rfl) (by decide) (by decide)) lf_X3_82_J35_hasNext fw_40 fo_J35_hasNext_Iterator_hasNext 0 yf_Iterator_hasNext_0 rfl ⟨by decide, by decide⟩ (fun _ z => ((z.o 0 rfl).fld 0 rfl)) rfl rfl (Nat.le_of_ble_eq_true rfl) dX3_isAllowed_144 ⟨Nat.le_of_ble_eq_true rfl, Nat.le_of_ble_eq_true rfl⟩ rfl ?_
          refine r_if_eq 152 172 (hF.pu _ _ _ _) dX3_isAllowed_149 (by decide) (fun _ => ?_) rfl (fun c => absurd (by decide) c)
          refine r_iload_n 173 1 (hF.pu _ _ _ _) dX3_isAllowed_172 rfl rfl ?_
          have hj_173 : F 1 5 ([oC a1_ 15 [.null, .null, .int (nI 0), .int m6, .ref r6]]) ((oC R 3 [.ref rb, .ref r2, .ref r3, .ref r4, .ref r6]) :: (aC D 0 r2 (iA 3 al)) :: (aC D 0 r3 (iA 2 mi)) :: (oC r4 12 [.int m4, .ref e4, .int (nI nch)]) :: (oC r6 13 [.int m6, .int 0, .null, .null]) :: iv) 228 [.int (zB (alB g al mi nb nch 0))] [(2, .ref a1_), (1, .int (zB (brA g nb (decide (g (1 + 2 * 0) = 0))))), (0, .ref R)] := by
            refine f_kp hF [false] ([]) rfl ?_
            refine f_imsub hF [] (imk [] rfl) ?_
            exact FR.i hR (zB_narrow _) dX3_isAllowed_228 (Nat.le_of_ble_eq_true rfl) (Nat.le_of_ble_eq_true rfl) ⟨rfl, rfl, rfl⟩
          refine r_if_eqZ (brA g nb (decide (g (1 + 2 * 0) = 0))) 176 227 (hF.pu _ _ _ _) dX3_isAllowed_173 (by decide) (fun c173 => ?_) rfl (fun c173 => ?_)
          · refine r_iconst 228 0 (hF.pu _ _ _ _) dX3_isAllowed_227 (by decide) rfl ?_
            refine r_eqi (zB (alB g al mi nb nch 0)) (by first | exact q_1 c173 c185 c197 c208 | exact q_a c173 | exact q_b (fun z => z c185) | exact q_c (fun z => z c197) | exact q_d (by omega)) ?_
            exact hj_173
          · refine r_aload_n 177 2 (hF.pu _ _ _ _) dX3_isAllowed_176 rfl rfl ?_
            refine f_getf 180 hF (T := TX3) (C := RX3) 1 (v := .ref r2) okX3 (fun _ z => ((z.mo 0 rfl).fld 1 rfl)) rfl (by decide) (Or.inl q308) (Or.inl rfl) dX3_isAllowed_177 rfl ?_
            refine r_iconst 181 2 (hF.pu _ _ _ _) dX3_isAllowed_180 (by decide) rfl ?_
            refine f_iald 182 hF 2 (x := al 2) (fun _ z => ⟨_, (z.ma 1 rfl), rfl⟩) rfl (by decide) (by decide) dX3_isAllowed_181 rfl ?_
            refine r_sipush 185 999 (hF.pu _ _ _ _) dX3_isAllowed_182 (by decide) rfl ?_
            refine r_icmp_gt 188 227 (hF.pu _ _ _ _) dX3_isAllowed_185 (by decide) (fun c185 => ?_) rfl (fun c185 => ?_)
            · refine r_iconst 228 0 (hF.pu _ _ _ _) dX3_isAllowed_227 (by decide) rfl ?_
              refine r_eqi (zB (alB g al mi nb nch 0)) (by first | exact q_1 c173 c185 c197 c208 | exact q_a c173 | exact q_b (fun z => z c185) | exact q_c (fun z => z c197) | exact q_d (by omega)) ?_
              exact hj_173
            · refine r_aload_n 189 2 (hF.pu _ _ _ _) dX3_isAllowed_188 rfl rfl ?_
              refine f_getf 192 hF (T := TX3) (C := RX3) 2 (v := .ref r3) okX3 (fun _ z => ((z.mo 0 rfl).fld 2 rfl)) rfl (by decide) (Or.inl q311) (Or.inl rfl) dX3_isAllowed_189 rfl ?_
              refine r_iconst 193 1 (hF.pu _ _ _ _) dX3_isAllowed_192 (by decide) rfl ?_
              refine f_iald 194 hF 1 (x := mi 1) (fun _ z => ⟨_, (z.ma 2 rfl), rfl⟩) rfl (by decide) (by decide) dX3_isAllowed_193 rfl ?_
              refine r_sipush 197 999 (hF.pu _ _ _ _) dX3_isAllowed_194 (by decide) rfl ?_
              refine r_icmp_gt 200 227 (hF.pu _ _ _ _) dX3_isAllowed_197 (by decide) (fun c197 => ?_) rfl (fun c197 => ?_)
              · refine r_iconst 228 0 (hF.pu _ _ _ _) dX3_isAllowed_227 (by decide) rfl ?_
                refine r_eqi (zB (alB g al mi nb nch 0)) (by first | exact q_1 c173 c185 c197 c208 | exact q_a c173 | exact q_b (fun z => z c185) | exact q_c (fun z => z c197) | exact q_d (by omega)) ?_
                exact hj_173
              · refine r_aload_n 201 2 (hF.pu _ _ _ _) dX3_isAllowed_200 rfl rfl ?_
                refine f_getf 204 hF (T := TX3) (C := RX3) 3 (v := .ref r4) okX3 (fun _ z => ((z.mo 0 rfl).fld 3 rfl)) rfl (by decide) (Or.inl q314) (Or.inl rfl) dX3_isAllowed_201 rfl ?_
                refine f_callp 207 hF (fun _ z => cp_J8_size2 D l r4 nch ((z.mo 3 rfl).fld 2 rfl)) lk_X3_97 0 yk_J8_size rfl ⟨by decide, by decide⟩ (fun _ z => ((z.mo 3 rfl).fld 0 rfl)) rfl rfl (Nat.le_of_ble_eq_true rfl) dX3_isAllowed_204 ⟨Nat.le_of_ble_eq_true rfl, Nat.le_of_ble_eq_true rfl⟩ rfl ?_
                refine r_iconst 208 4 (hF.pu _ _ _ _) dX3_isAllowed_207 (by decide) rfl ?_
                refine r_icmp_gtN nch 4 211 227 (hF.pu _ _ _ _) dX3_isAllowed_208 (by omega) (by omega) (by decide) (fun c208 => ?_) rfl (fun c208 => ?_)
                · refine r_iconst 228 0 (hF.pu _ _ _ _) dX3_isAllowed_227 (by decide) rfl ?_
                  refine r_eqi (zB (alB g al mi nb nch 0)) (by first | exact q_1 c173 c185 c197 c208 | exact q_a c173 | exact q_b (fun z => z c185) | exact q_c (fun z => z c197) | exact q_d (by omega)) ?_
                  exact hj_173
                · refine r_aload_n 212 2 (hF.pu _ _ _ _) dX3_isAllowed_211 rfl rfl ?_
                  refine f_getf 215 hF (T := TX3) (C := RX3) 4 (v := .ref r6) okX3 (fun _ z => ((z.mo 0 rfl).fld 4 rfl)) rfl (by decide) (Or.inl q317) (Or.inl rfl) dX3_isAllowed_212 rfl ?_
                  refine f_callp 218 hF (fun _ z => cp_J10_size2 D l r6 0 ((z.mo 4 rfl).fld 1 rfl)) lk_X3_98 0 yk_J10_size rfl ⟨by decide, by decide⟩ (fun _ z => ((z.mo 4 rfl).fld 0 rfl)) rfl rfl (Nat.le_of_ble_eq_true rfl) dX3_isAllowed_215 ⟨Nat.le_of_ble_eq_true rfl, Nat.le_of_ble_eq_true rfl⟩ rfl ?_
                  refine r_bipush 220 6 (hF.pu _ _ _ _) dX3_isAllowed_218 (by decide) rfl ?_
                  refine r_icmp_gtN 0 6 223 227 (hF.pu _ _ _ _) dX3_isAllowed_220 (by omega) (by omega) (by decide) (fun c220 => absurd c220 (by decide)) rfl (fun c220 => ?_)
                  refine r_iconst 224 1 (hF.pu _ _ _ _) dX3_isAllowed_223 (by decide) rfl ?_
                  refine r_goto 228 (hF.pu _ _ _ _) dX3_isAllowed_224 (by decide) ?_
                  refine r_eqi (zB (alB g al mi nb nch 0)) (by first | exact q_1 c173 c185 c197 c208 | exact q_a c173 | exact q_b (fun z => z c185) | exact q_c (fun z => z c197) | exact q_d (by omega)) ?_
                  exact hj_173
        · refine r_iload_n 59 1 (hF.pu _ _ _ _) dX3_isAllowed_58 rfl rfl ?_
          refine r_aload_n 60 2 (hF.pu _ _ _ _) dX3_isAllowed_59 rfl rfl ?_
          refine f_getf 63 hF (T := TX3) (C := RX3) 0 (v := .ref rb) okX3 (fun _ z => ((z.mo 0 rfl).fld 0 rfl)) rfl (by decide) (Or.inl q305) (Or.inl rfl) dX3_isAllowed_60 rfl ?_
          refine r_iload_n 64 0 (hF.pu _ _ _ _) dX3_isAllowed_63 rfl rfl ?_
          refine f_lsGet 69 hF (fun _ z => (hbr (fun _ => False) _ (fun q hq => ⟨z.2.2 q (List.mem_cons_of_mem _ (List.mem_cons_of_mem _ (List.mem_cons_of_mem _ (List.mem_cons_of_mem _ (List.mem_cons_of_mem _ hq))))), id⟩)).1) k (by omega) lf_X3_67_J8_get lf_X3_67_J4_get ⟨by decide, by decide⟩ (Nat.le_of_ble_eq_true rfl) dX3_isAllowed_64 ⟨Nat.le_of_ble_eq_true rfl, Nat.le_of_ble_eq_true rfl⟩ rfl ?_
          refine f_castf 72 hF (fun _ z => (((hbr (fun _ => False) _ (fun q hq => ⟨z.2.2 q (List.mem_cons_of_mem _ (List.mem_cons_of_mem _ (List.mem_cons_of_mem _ (List.mem_cons_of_mem _ (List.mem_cons_of_mem _ hq))))), id⟩)).2 k (by omega)).fld 0 rfl)) rfl q193 dX3_isAllowed_69 rfl ?_
          refine f_getf 75 hF (T := TX4) (C := RX4) 1 (v := .int (g (1 + 2 * k + 1))) okX4 (fun _ z => (((hbr (fun _ => False) _ (fun q hq => ⟨z.2.2 q (List.mem_cons_of_mem _ (List.mem_cons_of_mem _ (List.mem_cons_of_mem _ (List.mem_cons_of_mem _ (List.mem_cons_of_mem _ hq))))), id⟩)).2 k (by omega)).fld 1 rfl)) rfl (by decide) (Or.inr ⟨_, nw_q203⟩) (Or.inl rfl) dX3_isAllowed_72 rfl ?_
          refine r_sipush 78 999 (hF.pu _ _ _ _) dX3_isAllowed_75 (by decide) rfl ?_
          have hj_78 : F 0 0 ([]) ((oC R 3 [.ref rb, .ref r2, .ref r3, .ref r4, .ref r6]) :: (aC D 0 r2 (iA 3 al)) :: (aC D 0 r3 (iA 2 mi)) :: (oC r4 12 [.int m4, .ref e4, .int (nI nch)]) :: (oC r6 13 [.int m6, .int 0, .null, .null]) :: iv) 127 [.int (zB (brB g k)), .int (zB (brA g k (decide (g (1 + 2 * 0) = 0))))] [(2, .int (nI k)), (1, .int (zB (brA g k (decide (g (1 + 2 * 0) = 0))))), (0, .ref R)] := by
            refine r_iand 128 (hF.pu _ _ _ _) dX3_isAllowed_127 rfl ?_
            refine r_eqi (zB (brA g (k + 1) (decide (g (1 + 2 * 0) = 0)))) zB_and ?_
            refine r_istore_n 129 [(1, .int (zB (brA g (k + 1) (decide (g (1 + 2 * 0) = 0))))), (2, .int (nI k)), (0, .ref R)] (hF.pu _ _ _ _) dX3_isAllowed_128 rfl (by decide) rfl rfl ?_
            refine r_iinc 132 (nI (k + 1)) 1 [(2, .int (nI (k + 1))), (1, .int (zB (brA g (k + 1) (decide (g (1 + 2 * 0) = 0))))), (0, .ref R)] (hF.pu _ _ _ _) dX3_isAllowed_129 rfl (nI_1 k) (by decide) rfl rfl ?_
            refine r_goto 45 (hF.pu _ _ _ _) dX3_isAllowed_132 (by decide) ?_
            exact ih (k + 1) (by omega) (by omega)
          refine r_icmp_gt 81 126 (hF.pu _ _ _ _) dX3_isAllowed_78 (by decide) (fun c78 => ?_) rfl (fun c78 => ?_)
          · refine r_iconst 127 0 (hF.pu _ _ _ _) dX3_isAllowed_126 (by decide) rfl ?_
            refine r_eqi (zB (brB g k)) (by first | exact brB_n c78 | exact brB_0 c78 c82 | exact brB_s c78 c119 | exact brB_f c82 c119) ?_
            exact hj_78
          · refine r_iload_n 82 0 (hF.pu _ _ _ _) dX3_isAllowed_81 rfl rfl ?_
            refine r_if_eqN k 85 122 (hF.pu _ _ _ _) dX3_isAllowed_82 (by omega) (by decide) (fun c82 => ?_) rfl (fun c82 => ?_)
            · refine r_iconst 123 1 (hF.pu _ _ _ _) dX3_isAllowed_122 (by decide) rfl ?_
              refine r_goto 127 (hF.pu _ _ _ _) dX3_isAllowed_123 (by decide) ?_
              refine r_eqi (zB (brB g k)) (by first | exact brB_n c78 | exact brB_0 c78 c82 | exact brB_s c78 c119 | exact brB_f c82 c119) ?_
              exact hj_78
            · refine r_aload_n 86 2 (hF.pu _ _ _ _) dX3_isAllowed_85 rfl rfl ?_
              refine f_getf 89 hF (T := TX3) (C := RX3) 0 (v := .ref rb) okX3 (fun _ z => ((z.mo 0 rfl).fld 0 rfl)) rfl (by decide) (Or.inl q305) (Or.inl rfl) dX3_isAllowed_86 rfl ?_
              refine r_iload_n 90 0 (hF.pu _ _ _ _) dX3_isAllowed_89 rfl rfl ?_
              refine f_lsGet 95 hF (fun _ z => (hbr (fun _ => False) _ (fun q hq => ⟨z.2.2 q (List.mem_cons_of_mem _ (List.mem_cons_of_mem _ (List.mem_cons_of_mem _ (List.mem_cons_of_mem _ (List.mem_cons_of_mem _ hq))))), id⟩)).1) k (by omega) lf_X3_67_J8_get lf_X3_67_J4_get ⟨by decide, by decide⟩ (Nat.le_of_ble_eq_true rfl) dX3_isAllowed_90 ⟨Nat.le_of_ble_eq_true rfl, Nat.le_of_ble_eq_true rfl⟩ rfl ?_
              refine f_castf 98 hF (fun _ z => (((hbr (fun _ => False) _ (fun q hq => ⟨z.2.2 q (List.mem_cons_of_mem _ (List.mem_cons_of_mem _ (List.mem_cons_of_mem _ (List.mem_cons_of_mem _ (List.mem_cons_of_mem _ hq))))), id⟩)).2 k (by omega)).fld 0 rfl)) rfl q193 dX3_isAllowed_95 rfl ?_
              refine f_getf 101 hF (T := TX4) (C := RX4) 0 (v := .int (g (1 + 2 * k))) okX4 (fun _ z => (((hbr (fun _ => False) _ (fun q hq => ⟨z.2.2 q (List.mem_cons_of_mem _ (List.mem_cons_of_mem _ (List.mem_cons_of_mem _ (List.mem_cons_of_mem _ (List.mem_cons_of_mem _ hq))))), id⟩)).2 k (by omega)).fld 0 rfl)) rfl (by decide) (Or.inr ⟨_, nw_q200⟩) (Or.inl rfl) dX3_isAllowed_98 rfl ?_
              refine r_aload_n 102 2 (hF.pu _ _ _ _) dX3_isAllowed_101 rfl rfl ?_
              refine f_getf 105 hF (T := TX3) (C := RX3) 0 (v := .ref rb) okX3 (fun _ z => ((z.mo 0 rfl).fld 0 rfl)) rfl (by decide) (Or.inl q305) (Or.inl rfl) dX3_isAllowed_102 rfl ?_
              refine r_iload_n 106 0 (hF.pu _ _ _ _) dX3_isAllowed_105 rfl rfl ?_
              refine r_iconst 107 1 (hF.pu _ _ _ _) dX3_isAllowed_106 (by decide) rfl ?_
              refine r_isub 108 (hF.pu _ _ _ _) dX3_isAllowed_107 rfl ?_
              refine r_eqi (nI (k - 1)) (by rw [show (1 : Int32) = nI 1 from rfl, pk_sub (by omega)]) ?_
              refine f_lsGet 113 hF (fun _ z => (hbr (fun _ => False) _ (fun q hq => ⟨z.2.2 q (List.mem_cons_of_mem _ (List.mem_cons_of_mem _ (List.mem_cons_of_mem _ (List.mem_cons_of_mem _ (List.mem_cons_of_mem _ hq))))), id⟩)).1) (k - 1) (by omega) lf_X3_67_J8_get lf_X3_67_J4_get ⟨by decide, by decide⟩ (Nat.le_of_ble_eq_true rfl) dX3_isAllowed_108 ⟨Nat.le_of_ble_eq_true rfl, Nat.le_of_ble_eq_true rfl⟩ rfl ?_
              refine f_castf 116 hF (fun _ z => (((hbr (fun _ => False) _ (fun q hq => ⟨z.2.2 q (List.mem_cons_of_mem _ (List.mem_cons_of_mem _ (List.mem_cons_of_mem _ (List.mem_cons_of_mem _ (List.mem_cons_of_mem _ hq))))), id⟩)).2 (k - 1) (by omega)).fld 0 rfl)) rfl q193 dX3_isAllowed_113 rfl ?_
              refine f_getf 119 hF (T := TX4) (C := RX4) 0 (v := .int (g (1 + 2 * (k - 1)))) okX4 (fun _ z => (((hbr (fun _ => False) _ (fun q hq => ⟨z.2.2 q (List.mem_cons_of_mem _ (List.mem_cons_of_mem _ (List.mem_cons_of_mem _ (List.mem_cons_of_mem _ (List.mem_cons_of_mem _ hq))))), id⟩)).2 (k - 1) (by omega)).fld 0 rfl)) rfl (by decide) (Or.inr ⟨_, nw_q200⟩) (Or.inl rfl) dX3_isAllowed_116 rfl ?_
              refine r_icmp_le 122 126 (hF.pu _ _ _ _) dX3_isAllowed_119 (by decide) (fun c119 => ?_) rfl (fun c119 => ?_)
              · refine r_iconst 127 0 (hF.pu _ _ _ _) dX3_isAllowed_126 (by decide) rfl ?_
                refine r_eqi (zB (brB g k)) (by first | exact brB_n c78 | exact brB_0 c78 c82 | exact brB_s c78 c119 | exact brB_f c82 c119) ?_
                exact hj_78
              · refine r_iconst 123 1 (hF.pu _ _ _ _) dX3_isAllowed_122 (by decide) rfl ?_
                refine r_goto 127 (hF.pu _ _ _ _) dX3_isAllowed_123 (by decide) ?_
                refine r_eqi (zB (brB g k)) (by first | exact brB_n c78 | exact brB_0 c78 c82 | exact brB_s c78 c119 | exact brB_f c82 c119) ?_
                exact hj_78
    exact lp_45 (nb + 1) 0 (by omega) (by omega)
  refine r_if_ne 37 41 (hF.pu _ _ _ _) dX3_isAllowed_34 (by decide) (fun c34 => ?_) rfl (fun c34 => ?_)
  · refine r_iconst 42 0 (hF.pu _ _ _ _) dX3_isAllowed_41 (by decide) rfl ?_
    refine r_eqi (zB (decide (g (1 + 2 * 0) = 0))) (by first | exact zd_1 c34 | exact zd_0 c34) ?_
    exact hj_34
  · refine r_iconst 38 1 (hF.pu _ _ _ _) dX3_isAllowed_37 (by decide) rfl ?_
    refine r_goto 42 (hF.pu _ _ _ _) dX3_isAllowed_38 (by decide) ?_
    refine r_eqi (zB (decide (g (1 + 2 * 0) = 0))) (by first | exact zd_1 c34 | exact zd_0 c34) ?_
    exact hj_34
theorem lf_X3_88_J35_next : GoodIn lw_all (va_wsF RX3 88 "java/util/LinkedList$ListItr" ⟨"java/util/Iterator", "next", "()Ljava/lang/Object;"⟩ yJ35_next (ws_ yJ35_next cJ35_next 1 (Option.some (ClassFile.FieldType.object "java/lang/Object")))) := lw_F q2358 q1640 q1609 q147 q1611
theorem yf_Iterator_next_0 : yOk ⟨"java/util/Iterator", "next", "()Ljava/lang/Object;"⟩ 0 := by decide +kernel
theorem fo_J35_next_Iterator_next : fwOk ("java/util/LinkedList$ListItr", ⟨"java/util/Iterator", "next", "()Ljava/lang/Object;"⟩, yJ35_next) = true := by decide +kernel
theorem lk_X3_94 : GoodIn lw_all (wsV RX3 94 yX12_isAllowed.cls yX12_isAllowed (ws_ yX12_isAllowed cX12_isAllowed 1 (some .boolean))) := lw_V q2360 q2361 q2362 q160 q2363
theorem yk_X12_isAllowed : yOk yX12_isAllowed 0 := by decide +kernel
set_option maxHeartbeats 4000000 in
theorem fc_X3_isAllowed_1 (D : DD) (l : Launch) {KS : Nat → Prop} {Hb : Heap} (R rb r2 r3 r4 r6 e4 nb nch : Nat) (m4 m6 : Int32) (al mi g : Nat → Int32) (pf f4 f6 : Nat → Nat) (iv : va_W) (hn1 : 0 < nb) (hn6 : nb ≤ 6) (hch : nch ≤ 4) (hi : ivS D g pf rb nb nch f4 1 f6 iv) (b6 : Nat) : Fc D l yX3_isAllowed cX3_isAllowed 4 (some .boolean) 5 1 5 120 KS Hb [.ref R] ([]) ((oC R 3 [.ref rb, .ref r2, .ref r3, .ref r4, .ref r6]) :: (aC D 0 r2 (iA 3 al)) :: (aC D 0 r3 (iA 2 mi)) :: (oC r4 12 [.int m4, .ref e4, .int (nI nch)]) :: (oC r6 13 [.int m6, .int 1, .ref b6, .ref b6]) :: (oC b6 14 [.ref (f6 0), .null, .null]) :: iv) (fun r w i => r = some (.int (zB (alB g al mi nb nch 1))) ∧ w = [] ∧ i = []) := by
  obtain ⟨eb, cb, fb, hbr⟩ := br_of hi.2.2.2.2
  refine Fc.of (by decide) (Nat.le_of_ble_eq_true rfl) (fun s F hF hR => ?_)
  show F 0 0 ([]) ((oC R 3 [.ref rb, .ref r2, .ref r3, .ref r4, .ref r6]) :: (aC D 0 r2 (iA 3 al)) :: (aC D 0 r3 (iA 2 mi)) :: (oC r4 12 [.int m4, .ref e4, .int (nI nch)]) :: (oC r6 13 [.int m6, .int 1, .ref b6, .ref b6]) :: (oC b6 14 [.ref (f6 0), .null, .null]) :: iv) 0 [] [(0, .ref R)]
  refine r_aload_n 1 0 (hF.pu _ _ _ _) dX3_isAllowed_0 rfl rfl ?_
  refine f_getf 4 hF (T := TX3) (C := RX3) 0 (v := .ref rb) okX3 (fun _ z => ((z.mo 0 rfl).fld 0 rfl)) rfl (by decide) (Or.inl q305) (Or.inl rfl) dX3_isAllowed_1 rfl ?_
  refine f_lsSize 9 hF (fun _ z => (hbr (fun _ => False) _ (fun q hq => ⟨z.2.2 q (List.mem_cons_of_mem _ (List.mem_cons_of_mem _ (List.mem_cons_of_mem _ (List.mem_cons_of_mem _ (List.mem_cons_of_mem _ (List.mem_cons_of_mem _ hq)))))), id⟩)).1) lf_X3_59_J8_size lf_X3_59_J4_size ⟨by decide, by decide⟩ (Nat.le_of_ble_eq_true rfl) dX3_isAllowed_4 ⟨Nat.le_of_ble_eq_true rfl, Nat.le_of_ble_eq_true rfl⟩ rfl ?_
  refine r_iconst 10 1 (hF.pu _ _ _ _) dX3_isAllowed_9 (by decide) rfl ?_
  refine r_bipush 12 6 (hF.pu _ _ _ _) dX3_isAllowed_10 (by decide) rfl ?_
  refine f_callSN' 15 hF (ts_X1_isBetween D l (nI nb) 1 6) q2017 q102 nw_q2350 q2016 3 yk_X1_isBetween rfl ⟨by decide, by decide⟩ rfl (Nat.le_of_ble_eq_true rfl) dX3_isAllowed_12 ⟨Nat.le_of_ble_eq_true rfl, Nat.le_of_ble_eq_true rfl⟩ rfl ?_
  refine r_eqi 1 (by rcases (show nb = 1 ∨ nb = 2 ∨ nb = 3 ∨ nb = 4 ∨ nb = 5 ∨ nb = 6 by omega) with rfl | rfl | rfl | rfl | rfl | rfl <;> rfl) ?_
  refine r_if_eq 18 41 (hF.pu _ _ _ _) dX3_isAllowed_15 (by decide) (fun c => absurd c (by decide)) rfl (fun _ => ?_)
  refine r_aload_n 19 0 (hF.pu _ _ _ _) dX3_isAllowed_18 rfl rfl ?_
  refine f_getf 22 hF (T := TX3) (C := RX3) 0 (v := .ref rb) okX3 (fun _ z => ((z.mo 0 rfl).fld 0 rfl)) rfl (by decide) (Or.inl q305) (Or.inl rfl) dX3_isAllowed_19 rfl ?_
  refine r_iconst 23 0 (hF.pu _ _ _ _) dX3_isAllowed_22 (by decide) rfl ?_
  refine f_lsGet 28 hF (fun _ z => (hbr (fun _ => False) _ (fun q hq => ⟨z.2.2 q (List.mem_cons_of_mem _ (List.mem_cons_of_mem _ (List.mem_cons_of_mem _ (List.mem_cons_of_mem _ (List.mem_cons_of_mem _ (List.mem_cons_of_mem _ hq)))))), id⟩)).1) 0 (by omega) lf_X3_67_J8_get lf_X3_67_J4_get ⟨by decide, by decide⟩ (Nat.le_of_ble_eq_true rfl) dX3_isAllowed_23 ⟨Nat.le_of_ble_eq_true rfl, Nat.le_of_ble_eq_true rfl⟩ rfl ?_
  refine f_castf 31 hF (fun _ z => (((hbr (fun _ => False) _ (fun q hq => ⟨z.2.2 q (List.mem_cons_of_mem _ (List.mem_cons_of_mem _ (List.mem_cons_of_mem _ (List.mem_cons_of_mem _ (List.mem_cons_of_mem _ (List.mem_cons_of_mem _ hq)))))), id⟩)).2 0 (by omega)).fld 0 rfl)) rfl q193 dX3_isAllowed_28 rfl ?_
  refine f_getf 34 hF (T := TX4) (C := RX4) 0 (v := .int (g (1 + 0))) okX4 (fun _ z => (((hbr (fun _ => False) _ (fun q hq => ⟨z.2.2 q (List.mem_cons_of_mem _ (List.mem_cons_of_mem _ (List.mem_cons_of_mem _ (List.mem_cons_of_mem _ (List.mem_cons_of_mem _ (List.mem_cons_of_mem _ hq)))))), id⟩)).2 0 (by omega)).fld 0 rfl)) rfl (by decide) (Or.inr ⟨_, nw_q200⟩) (Or.inl rfl) dX3_isAllowed_31 rfl ?_
  have hj_34 : F 0 0 ([]) ((oC R 3 [.ref rb, .ref r2, .ref r3, .ref r4, .ref r6]) :: (aC D 0 r2 (iA 3 al)) :: (aC D 0 r3 (iA 2 mi)) :: (oC r4 12 [.int m4, .ref e4, .int (nI nch)]) :: (oC r6 13 [.int m6, .int 1, .ref b6, .ref b6]) :: (oC b6 14 [.ref (f6 0), .null, .null]) :: iv) 42 [.int (zB (decide (g (1 + 2 * 0) = 0)))] [(0, .ref R)] := by
    refine r_istore_n 43 [(1, .int (zB (decide (g (1 + 2 * 0) = 0)))), (0, .ref R)] (hF.pu _ _ _ _) dX3_isAllowed_42 rfl (by decide) rfl rfl ?_
    refine r_iconst 44 0 (hF.pu _ _ _ _) dX3_isAllowed_43 (by decide) rfl ?_
    refine r_istore_n 45 [(2, .int 0), (1, .int (zB (decide (g (1 + 2 * 0) = 0)))), (0, .ref R)] (hF.pu _ _ _ _) dX3_isAllowed_44 rfl (by decide) rfl rfl ?_
    have lp_45 : ∀ (m : Nat) (k : Nat), (k ≤ nb) → (nb - k) < m → F 0 0 ([]) ((oC R 3 [.ref rb, .ref r2, .ref r3, .ref r4, .ref r6]) :: (aC D 0 r2 (iA 3 al)) :: (aC D 0 r3 (iA 2 mi)) :: (oC r4 12 [.int m4, .ref e4, .int (nI nch)]) :: (oC r6 13 [.int m6, .int 1, .ref b6, .ref b6]) :: (oC b6 14 [.ref (f6 0), .null, .null]) :: iv) 45 [] [(2, .int (nI k)), (1, .int (zB (brA g k (decide (g (1 + 2 * 0) = 0))))), (0, .ref R)] := by
      intro m
      induction m with
      | zero => intro k hk hm; exact absurd hm (Nat.not_lt_zero _)
      | succ m ih =>
        intro k hk hm
        refine r_iload_n 46 0 (hF.pu _ _ _ _) dX3_isAllowed_45 rfl rfl ?_
        refine r_aload_n 47 2 (hF.pu _ _ _ _) dX3_isAllowed_46 rfl rfl ?_
        refine f_getf 50 hF (T := TX3) (C := RX3) 0 (v := .ref rb) okX3 (fun _ z => ((z.mo 0 rfl).fld 0 rfl)) rfl (by decide) (Or.inl q305) (Or.inl rfl) dX3_isAllowed_47 rfl ?_
        refine f_lsSize 55 hF (fun _ z => (hbr (fun _ => False) _ (fun q hq => ⟨z.2.2 q (List.mem_cons_of_mem _ (List.mem_cons_of_mem _ (List.mem_cons_of_mem _ (List.mem_cons_of_mem _ (List.mem_cons_of_mem _ (List.mem_cons_of_mem _ hq)))))), id⟩)).1) lf_X3_59_J8_size lf_X3_59_J4_size ⟨by decide, by decide⟩ (Nat.le_of_ble_eq_true rfl) dX3_isAllowed_50 ⟨Nat.le_of_ble_eq_true rfl, Nat.le_of_ble_eq_true rfl⟩ rfl ?_
        refine r_icmp_geN k nb 58 135 (hF.pu _ _ _ _) dX3_isAllowed_55 (by omega) (by omega) (by decide) (fun c55 => ?_) rfl (fun c55 => ?_)
        · have hkn : nb = k := by omega
          subst hkn
          refine r_aload_n 136 2 (hF.pu _ _ _ _) dX3_isAllowed_135 rfl rfl ?_
          refine f_getf 139 hF (T := TX3) (C := RX3) 4 (v := .ref r6) okX3 (fun _ z => ((z.mo 0 rfl).fld 4 rfl)) rfl (by decide) (Or.inl q317) (Or.inl rfl) dX3_isAllowed_136 rfl ?_
          refine f_callU 142 hF (fc_J9_iterator_1 (KS := KS) (Hb := Hb) D l r6 b6 (f6 0) m6) (wr := ([])) rfl (imk [4, 5] rfl) lu_X3_78_J9_iterator nw_q2353 0 yu_AbstractSequentialList_iterator_0 rfl ⟨by decide, by decide⟩ (fun _ z => ((z.mo 4 rfl).fld 0 rfl)) rfl rfl (Nat.le_of_ble_eq_true rfl) dX3_isAllowed_139 ⟨Nat.le_of_ble_eq_true rfl, Nat.le_of_ble_eq_true rfl⟩ rfl (fun r ws_ im' hp => ?_)
          obtain ⟨a1_, rfl, rfl, rfl⟩ := hp
          show F 1 5 ([oC a1_ 15 [.null, .ref b6, .int (nI 0), .int m6, .ref r6]]) ((oC R 3 [.ref rb, .ref r2, .ref r3, .ref r4, .ref r6]) :: (aC D 0 r2 (iA 3 al)) :: (aC D 0 r3 (iA 2 mi)) :: (oC r4 12 [.int m4, .ref e4, .int (nI nch)]) :: (oC r6 13 [.int m6, .int 1, .ref b6, .ref b6]) :: (oC b6 14 [.ref (f6 0), .null, .null]) :: iv) 142 [.ref a1_] [(2, .int (nI nb)), (1, .int (zB (brA g nb (decide (g (1 + 2 * 0) = 0))))), (0, .ref R)]
          refine r_astore_n 143 [(2, .ref a1_), (1, .int (zB (brA g nb (decide (g (1 + 2 * 0) = 0))))), (0, .ref R)] (hF.pu _ _ _ _) dX3_isAllowed_142 rfl (by decide) rfl rfl ?_
          refine r_aload_n 144 0 (hF.pu _ _ _ _) dX3_isAllowed_143 rfl rfl ?_
          refine f_callFp 149 hF (fun _ z => cp_J35_hasNext D l a1_ r6 0 1 ((z.o 0 rfl).fld 2 rfl) ((z.o 0 rfl).fld 4 rfl) ((z.mo 4 rfl).fld 1 rfl) (by decide) (by decide)) lf_X3_82_J35_hasNext fw_40 fo_J35_hasNext_Iterator_hasNext 0 yf_Iterator_hasNext_0 rfl ⟨by decide, by decide⟩ (fun _ z => ((z.o 0 rfl).fld 0 rfl)) rfl rfl (Nat.le_of_ble_eq_true rfl) dX3_isAllowed_144 ⟨Nat.le_of_ble_eq_true rfl, Nat.le_of_ble_eq_true rfl⟩ rfl ?_
          refine r_if_eq 152 172 (hF.pu _ _ _ _) dX3_isAllowed_149 (by decide) (fun c => absurd c (by decide)) rfl (fun _ => ?_)
          refine r_aload_n 153 0 (hF.pu _ _ _ _) dX3_isAllowed_152 rfl rfl ?_
          refine f_callF 158 hF (fc_J35_next_e (KS := KS) (Hb := Hb) D l a1_ r6 b6 (f6 0) 0 1 m6 .null (.ref b6) (.ref b6) .null (by decide) (by decide)) (wr := ([])) rfl (imk [4, 5] rfl) lf_X3_88_J35_next fw_41 fo_J35_next_Iterator_next 0 yf_Iterator_next_0 rfl ⟨by decide, by decide⟩ (fun _ z => ((z.o 0 rfl).fld 0 rfl)) rfl rfl (Nat.le_of_ble_eq_true rfl) dX3_isAllowed_153 ⟨Nat.le_of_ble_eq_true rfl, Nat.le_of_ble_eq_true rfl⟩ rfl (fun r ws_ im' hp => ?_)
          obtain ⟨rfl, rfl, rfl⟩ := hp
          show F 1 5 ([oC a1_ 15 [.ref b6, .null, .int (nI 1), .int m6, .ref r6]]) ((oC R 3 [.ref rb, .ref r2, .ref r3, .ref r4, .ref r6]) :: (aC D 0 r2 (iA 3 al)) :: (aC D 0 r3 (iA 2 mi)) :: (oC r4 12 [.int m4, .ref e4, .int (nI nch)]) :: (oC r6 13 [.int m6, .int 1, .ref b6, .ref b6]) :: (oC b6 14 [.ref (f6 0), .null, .null]) :: iv) 158 [.ref (f6 0)] [(2, .ref a1_), (1, .int (zB (brA g nb (decide (g (1 + 2 * 0) = 0))))), (0, .ref R)]
          refine f_castf 161 hF (fun _ z => ((show ob D 11 _ (f6 0) _ from z.2.2 _ (List.mem_cons_of_mem _ (List.mem_cons_of_mem _ (List.mem_cons_of_mem _ (List.mem_cons_of_mem _ (List.mem_cons_of_mem _ (List.mem_cons_of_mem _ (hi.2.2.2.1 0 (by decide))))))))).fld 0 rfl)) rfl q2359 dX3_isAllowed_158 rfl ?_
          refine r_astore_n 162 [(3, .ref (f6 0)), (2, .ref a1_), (1, .int (zB (brA g nb (decide (g (1 + 2 * 0) = 0))))), (0, .ref R)] (hF.pu _ _ _ _) dX3_isAllowed_161 rfl (by decide) rfl rfl ?_
          refine r_iload_n 163 2 (hF.pu _ _ _ _) dX3_isAllowed_162 rfl rfl ?_
          refine r_aload_n 164 0 (hF.pu _ _ _ _) dX3_isAllowed_163 rfl rfl ?_
          refine f_callp 167 hF (fun _ z => cp_X12_isAllowed D l (K := fun _ => False) (f6 0) (fun i => g (28 + 6 * 0 + i)) ⟨z.2.2 _ (List.mem_cons_of_mem _ (List.mem_cons_of_mem _ (List.mem_cons_of_mem _ (List.mem_cons_of_mem _ (List.mem_cons_of_mem _ (List.mem_cons_of_mem _ (hi.2.2.2.1 0 (by decide)))))))), id⟩) lk_X3_94 0 yk_X12_isAllowed rfl ⟨by decide, by decide⟩ (fun _ z => ((show ob D 11 _ (f6 0) _ from z.2.2 _ (List.mem_cons_of_mem _ (List.mem_cons_of_mem _ (List.mem_cons_of_mem _ (List.mem_cons_of_mem _ (List.mem_cons_of_mem _ (List.mem_cons_of_mem _ (hi.2.2.2.1 0 (by decide))))))))).fld 0 rfl)) rfl rfl (Nat.le_of_ble_eq_true rfl) dX3_isAllowed_164 ⟨Nat.le_of_ble_eq_true rfl, Nat.le_of_ble_eq_true rfl⟩ rfl ?_
          refine r_iand 168 (hF.pu _ _ _ _) dX3_isAllowed_167 rfl ?_
          refine r_eqi (zB (crA g 1 (brA g nb (decide (g (1 + 2 * 0) = 0))))) zB_and ?_
          refine r_istore_n 169 [(1, .int (zB (crA g 1 (brA g nb (decide (g (1 + 2 * 0) = 0)))))), (3, .ref (f6 0)), (2, .ref a1_), (0, .ref R)] (hF.pu _ _ _ _) dX3_isAllowed_168 rfl (by decide) rfl rfl ?_
          refine r_goto 143 (hF.pu _ _ _ _) dX3_isAllowed_169 (by decide) ?_
          refine r_aload_n 144 2 (hF.pu _ _ _ _) dX3_isAllowed_143 rfl rfl ?_
          refine f_callFp 149 hF (fun _ z => cp_J35_hasNext D l a1_ r6 1 1 ((z.o 0 rfl).fld 2 rfl) ((z.o 0 rfl).fld 4 rfl) ((z.mo 4 rfl).fld 1 rfl) (by decide) (by decide)) lf_X3_82_J35_hasNext fw_40 fo_J35_hasNext_Iterator_hasNext 0 yf_Iterator_hasNext_0 rfl ⟨by decide, by decide⟩ (fun _ z => ((z.o 0 rfl).fld 0 rfl)) rfl rfl (Nat.le_of_ble_eq_true rfl) dX3_isAllowed_144 ⟨Nat.le_of_ble_eq_true rfl, Nat.le_of_ble_eq_true rfl⟩ rfl ?_
          refine r_if_eq 152 172 (hF.pu _ _ _ _) dX3_isAllowed_149 (by decide) (fun _ => ?_) rfl (fun c => absurd (by decide) c)
          refine r_iload_n 173 0 (hF.pu _ _ _ _) dX3_isAllowed_172 rfl rfl ?_
          have hj_173 : F 1 5 ([oC a1_ 15 [.ref b6, .null, .int (nI 1), .int m6, .ref r6]]) ((oC R 3 [.ref rb, .ref r2, .ref r3, .ref r4, .ref r6]) :: (aC D 0 r2 (iA 3 al)) :: (aC D 0 r3 (iA 2 mi)) :: (oC r4 12 [.int m4, .ref e4, .int (nI nch)]) :: (oC r6 13 [.int m6, .int 1, .ref b6, .ref b6]) :: (oC b6 14 [.ref (f6 0), .null, .null]) :: iv) 228 [.int (zB (alB g al mi nb nch 1))] [(1, .int (zB (crA g 1 (brA g nb (decide (g (1 + 2 * 0) = 0)))))), (3, .ref (f6 0)), (2, .ref a1_), (0, .ref R)] := by
            refine f_kp hF [false] ([]) rfl ?_
            refine f_imsub hF [] (imk [] rfl) ?_
            exact FR.i hR (zB_narrow _) dX3_isAllowed_228 (Nat.le_of_ble_eq_true rfl) (Nat.le_of_ble_eq_true rfl) ⟨rfl, rfl, rfl⟩
          refine r_if_eqZ (crA g 1 (brA g nb (decide (g (1 + 2 * 0) = 0)))) 176 227 (hF.pu _ _ _ _) dX3_isAllowed_173 (by decide) (fun c173 => ?_) rfl (fun c173 => ?_)
          · refine r_iconst 228 0 (hF.pu _ _ _ _) dX3_isAllowed_227 (by decide) rfl ?_
            refine r_eqi (zB (alB g al mi nb nch 1)) (by first | exact q_1 c173 c185 c197 c208 | exact q_a c173 | exact q_b (fun z => z c185) | exact q_c (fun z => z c197) | exact q_d (by omega)) ?_
            exact hj_173
          · refine r_aload_n 177 3 (hF.pu _ _ _ _) dX3_isAllowed_176 rfl rfl ?_
            refine f_getf 180 hF (T := TX3) (C := RX3) 1 (v := .ref r2) okX3 (fun _ z => ((z.mo 0 rfl).fld 1 rfl)) rfl (by decide) (Or.inl q308) (Or.inl rfl) dX3_isAllowed_177 rfl ?_
            refine r_iconst 181 2 (hF.pu _ _ _ _) dX3_isAllowed_180 (by decide) rfl ?_
            refine f_iald 182 hF 2 (x := al 2) (fun _ z => ⟨_, (z.ma 1 rfl), rfl⟩) rfl (by decide) (by decide) dX3_isAllowed_181 rfl ?_
            refine r_sipush 185 999 (hF.pu _ _ _ _) dX3_isAllowed_182 (by decide) rfl ?_
            refine r_icmp_gt 188 227 (hF.pu _ _ _ _) dX3_isAllowed_185 (by decide) (fun c185 => ?_) rfl (fun c185 => ?_)
            · refine r_iconst 228 0 (hF.pu _ _ _ _) dX3_isAllowed_227 (by decide) rfl ?_
              refine r_eqi (zB (alB g al mi nb nch 1)) (by first | exact q_1 c173 c185 c197 c208 | exact q_a c173 | exact q_b (fun z => z c185) | exact q_c (fun z => z c197) | exact q_d (by omega)) ?_
              exact hj_173
            · refine r_aload_n 189 3 (hF.pu _ _ _ _) dX3_isAllowed_188 rfl rfl ?_
              refine f_getf 192 hF (T := TX3) (C := RX3) 2 (v := .ref r3) okX3 (fun _ z => ((z.mo 0 rfl).fld 2 rfl)) rfl (by decide) (Or.inl q311) (Or.inl rfl) dX3_isAllowed_189 rfl ?_
              refine r_iconst 193 1 (hF.pu _ _ _ _) dX3_isAllowed_192 (by decide) rfl ?_
              refine f_iald 194 hF 1 (x := mi 1) (fun _ z => ⟨_, (z.ma 2 rfl), rfl⟩) rfl (by decide) (by decide) dX3_isAllowed_193 rfl ?_
              refine r_sipush 197 999 (hF.pu _ _ _ _) dX3_isAllowed_194 (by decide) rfl ?_
              refine r_icmp_gt 200 227 (hF.pu _ _ _ _) dX3_isAllowed_197 (by decide) (fun c197 => ?_) rfl (fun c197 => ?_)
              · refine r_iconst 228 0 (hF.pu _ _ _ _) dX3_isAllowed_227 (by decide) rfl ?_
                refine r_eqi (zB (alB g al mi nb nch 1)) (by first | exact q_1 c173 c185 c197 c208 | exact q_a c173 | exact q_b (fun z => z c185) | exact q_c (fun z => z c197) | exact q_d (by omega)) ?_
                exact hj_173
              · refine r_aload_n 201 3 (hF.pu _ _ _ _) dX3_isAllowed_200 rfl rfl ?_
                refine f_getf 204 hF (T := TX3) (C := RX3) 3 (v := .ref r4) okX3 (fun _ z => ((z.mo 0 rfl).fld 3 rfl)) rfl (by decide) (Or.inl q314) (Or.inl rfl) dX3_isAllowed_201 rfl ?_
                refine f_callp 207 hF (fun _ z => cp_J8_size2 D l r4 nch ((z.mo 3 rfl).fld 2 rfl)) lk_X3_97 0 yk_J8_size rfl ⟨by decide, by decide⟩ (fun _ z => ((z.mo 3 rfl).fld 0 rfl)) rfl rfl (Nat.le_of_ble_eq_true rfl) dX3_isAllowed_204 ⟨Nat.le_of_ble_eq_true rfl, Nat.le_of_ble_eq_true rfl⟩ rfl ?_
                refine r_iconst 208 4 (hF.pu _ _ _ _) dX3_isAllowed_207 (by decide) rfl ?_
                refine r_icmp_gtN nch 4 211 227 (hF.pu _ _ _ _) dX3_isAllowed_208 (by omega) (by omega) (by decide) (fun c208 => ?_) rfl (fun c208 => ?_)
                · refine r_iconst 228 0 (hF.pu _ _ _ _) dX3_isAllowed_227 (by decide) rfl ?_
                  refine r_eqi (zB (alB g al mi nb nch 1)) (by first | exact q_1 c173 c185 c197 c208 | exact q_a c173 | exact q_b (fun z => z c185) | exact q_c (fun z => z c197) | exact q_d (by omega)) ?_
                  exact hj_173
                · refine r_aload_n 212 3 (hF.pu _ _ _ _) dX3_isAllowed_211 rfl rfl ?_
                  refine f_getf 215 hF (T := TX3) (C := RX3) 4 (v := .ref r6) okX3 (fun _ z => ((z.mo 0 rfl).fld 4 rfl)) rfl (by decide) (Or.inl q317) (Or.inl rfl) dX3_isAllowed_212 rfl ?_
                  refine f_callp 218 hF (fun _ z => cp_J10_size2 D l r6 1 ((z.mo 4 rfl).fld 1 rfl)) lk_X3_98 0 yk_J10_size rfl ⟨by decide, by decide⟩ (fun _ z => ((z.mo 4 rfl).fld 0 rfl)) rfl rfl (Nat.le_of_ble_eq_true rfl) dX3_isAllowed_215 ⟨Nat.le_of_ble_eq_true rfl, Nat.le_of_ble_eq_true rfl⟩ rfl ?_
                  refine r_bipush 220 6 (hF.pu _ _ _ _) dX3_isAllowed_218 (by decide) rfl ?_
                  refine r_icmp_gtN 1 6 223 227 (hF.pu _ _ _ _) dX3_isAllowed_220 (by omega) (by omega) (by decide) (fun c220 => absurd c220 (by decide)) rfl (fun c220 => ?_)
                  refine r_iconst 224 1 (hF.pu _ _ _ _) dX3_isAllowed_223 (by decide) rfl ?_
                  refine r_goto 228 (hF.pu _ _ _ _) dX3_isAllowed_224 (by decide) ?_
                  refine r_eqi (zB (alB g al mi nb nch 1)) (by first | exact q_1 c173 c185 c197 c208 | exact q_a c173 | exact q_b (fun z => z c185) | exact q_c (fun z => z c197) | exact q_d (by omega)) ?_
                  exact hj_173
        · refine r_iload_n 59 1 (hF.pu _ _ _ _) dX3_isAllowed_58 rfl rfl ?_
          refine r_aload_n 60 2 (hF.pu _ _ _ _) dX3_isAllowed_59 rfl rfl ?_
          refine f_getf 63 hF (T := TX3) (C := RX3) 0 (v := .ref rb) okX3 (fun _ z => ((z.mo 0 rfl).fld 0 rfl)) rfl (by decide) (Or.inl q305) (Or.inl rfl) dX3_isAllowed_60 rfl ?_
          refine r_iload_n 64 0 (hF.pu _ _ _ _) dX3_isAllowed_63 rfl rfl ?_
          refine f_lsGet 69 hF (fun _ z => (hbr (fun _ => False) _ (fun q hq => ⟨z.2.2 q (List.mem_cons_of_mem _ (List.mem_cons_of_mem _ (List.mem_cons_of_mem _ (List.mem_cons_of_mem _ (List.mem_cons_of_mem _ (List.mem_cons_of_mem _ hq)))))), id⟩)).1) k (by omega) lf_X3_67_J8_get lf_X3_67_J4_get ⟨by decide, by decide⟩ (Nat.le_of_ble_eq_true rfl) dX3_isAllowed_64 ⟨Nat.le_of_ble_eq_true rfl, Nat.le_of_ble_eq_true rfl⟩ rfl ?_
          refine f_castf 72 hF (fun _ z => (((hbr (fun _ => False) _ (fun q hq => ⟨z.2.2 q (List.mem_cons_of_mem _ (List.mem_cons_of_mem _ (List.mem_cons_of_mem _ (List.mem_cons_of_mem _ (List.mem_cons_of_mem _ (List.mem_cons_of_mem _ hq)))))), id⟩)).2 k (by omega)).fld 0 rfl)) rfl q193 dX3_isAllowed_69 rfl ?_
          refine f_getf 75 hF (T := TX4) (C := RX4) 1 (v := .int (g (1 + 2 * k + 1))) okX4 (fun _ z => (((hbr (fun _ => False) _ (fun q hq => ⟨z.2.2 q (List.mem_cons_of_mem _ (List.mem_cons_of_mem _ (List.mem_cons_of_mem _ (List.mem_cons_of_mem _ (List.mem_cons_of_mem _ (List.mem_cons_of_mem _ hq)))))), id⟩)).2 k (by omega)).fld 1 rfl)) rfl (by decide) (Or.inr ⟨_, nw_q203⟩) (Or.inl rfl) dX3_isAllowed_72 rfl ?_
          refine r_sipush 78 999 (hF.pu _ _ _ _) dX3_isAllowed_75 (by decide) rfl ?_
          have hj_78 : F 0 0 ([]) ((oC R 3 [.ref rb, .ref r2, .ref r3, .ref r4, .ref r6]) :: (aC D 0 r2 (iA 3 al)) :: (aC D 0 r3 (iA 2 mi)) :: (oC r4 12 [.int m4, .ref e4, .int (nI nch)]) :: (oC r6 13 [.int m6, .int 1, .ref b6, .ref b6]) :: (oC b6 14 [.ref (f6 0), .null, .null]) :: iv) 127 [.int (zB (brB g k)), .int (zB (brA g k (decide (g (1 + 2 * 0) = 0))))] [(2, .int (nI k)), (1, .int (zB (brA g k (decide (g (1 + 2 * 0) = 0))))), (0, .ref R)] := by
            refine r_iand 128 (hF.pu _ _ _ _) dX3_isAllowed_127 rfl ?_
            refine r_eqi (zB (brA g (k + 1) (decide (g (1 + 2 * 0) = 0)))) zB_and ?_
            refine r_istore_n 129 [(1, .int (zB (brA g (k + 1) (decide (g (1 + 2 * 0) = 0))))), (2, .int (nI k)), (0, .ref R)] (hF.pu _ _ _ _) dX3_isAllowed_128 rfl (by decide) rfl rfl ?_
            refine r_iinc 132 (nI (k + 1)) 1 [(2, .int (nI (k + 1))), (1, .int (zB (brA g (k + 1) (decide (g (1 + 2 * 0) = 0))))), (0, .ref R)] (hF.pu _ _ _ _) dX3_isAllowed_129 rfl (nI_1 k) (by decide) rfl rfl ?_
            refine r_goto 45 (hF.pu _ _ _ _) dX3_isAllowed_132 (by decide) ?_
            exact ih (k + 1) (by omega) (by omega)
          refine r_icmp_gt 81 126 (hF.pu _ _ _ _) dX3_isAllowed_78 (by decide) (fun c78 => ?_) rfl (fun c78 => ?_)
          · refine r_iconst 127 0 (hF.pu _ _ _ _) dX3_isAllowed_126 (by decide) rfl ?_
            refine r_eqi (zB (brB g k)) (by first | exact brB_n c78 | exact brB_0 c78 c82 | exact brB_s c78 c119 | exact brB_f c82 c119) ?_
            exact hj_78
          · refine r_iload_n 82 0 (hF.pu _ _ _ _) dX3_isAllowed_81 rfl rfl ?_
            refine r_if_eqN k 85 122 (hF.pu _ _ _ _) dX3_isAllowed_82 (by omega) (by decide) (fun c82 => ?_) rfl (fun c82 => ?_)
            · refine r_iconst 123 1 (hF.pu _ _ _ _) dX3_isAllowed_122 (by decide) rfl ?_
              refine r_goto 127 (hF.pu _ _ _ _) dX3_isAllowed_123 (by decide) ?_
              refine r_eqi (zB (brB g k)) (by first | exact brB_n c78 | exact brB_0 c78 c82 | exact brB_s c78 c119 | exact brB_f c82 c119) ?_
              exact hj_78
            · refine r_aload_n 86 2 (hF.pu _ _ _ _) dX3_isAllowed_85 rfl rfl ?_
              refine f_getf 89 hF (T := TX3) (C := RX3) 0 (v := .ref rb) okX3 (fun _ z => ((z.mo 0 rfl).fld 0 rfl)) rfl (by decide) (Or.inl q305) (Or.inl rfl) dX3_isAllowed_86 rfl ?_
              refine r_iload_n 90 0 (hF.pu _ _ _ _) dX3_isAllowed_89 rfl rfl ?_
              refine f_lsGet 95 hF (fun _ z => (hbr (fun _ => False) _ (fun q hq => ⟨z.2.2 q (List.mem_cons_of_mem _ (List.mem_cons_of_mem _ (List.mem_cons_of_mem _ (List.mem_cons_of_mem _ (List.mem_cons_of_mem _ (List.mem_cons_of_mem _ hq)))))), id⟩)).1) k (by omega) lf_X3_67_J8_get lf_X3_67_J4_get ⟨by decide, by decide⟩ (Nat.le_of_ble_eq_true rfl) dX3_isAllowed_90 ⟨Nat.le_of_ble_eq_true rfl, Nat.le_of_ble_eq_true rfl⟩ rfl ?_
              refine f_castf 98 hF (fun _ z => (((hbr (fun _ => False) _ (fun q hq => ⟨z.2.2 q (List.mem_cons_of_mem _ (List.mem_cons_of_mem _ (List.mem_cons_of_mem _ (List.mem_cons_of_mem _ (List.mem_cons_of_mem _ (List.mem_cons_of_mem _ hq)))))), id⟩)).2 k (by omega)).fld 0 rfl)) rfl q193 dX3_isAllowed_95 rfl ?_
              refine f_getf 101 hF (T := TX4) (C := RX4) 0 (v := .int (g (1 + 2 * k))) okX4 (fun _ z => (((hbr (fun _ => False) _ (fun q hq => ⟨z.2.2 q (List.mem_cons_of_mem _ (List.mem_cons_of_mem _ (List.mem_cons_of_mem _ (List.mem_cons_of_mem _ (List.mem_cons_of_mem _ (List.mem_cons_of_mem _ hq)))))), id⟩)).2 k (by omega)).fld 0 rfl)) rfl (by decide) (Or.inr ⟨_, nw_q200⟩) (Or.inl rfl) dX3_isAllowed_98 rfl ?_
              refine r_aload_n 102 2 (hF.pu _ _ _ _) dX3_isAllowed_101 rfl rfl ?_
              refine f_getf 105 hF (T := TX3) (C := RX3) 0 (v := .ref rb) okX3 (fun _ z => ((z.mo 0 rfl).fld 0 rfl)) rfl (by decide) (Or.inl q305) (Or.inl rfl) dX3_isAllowed_102 rfl ?_
              refine r_iload_n 106 0 (hF.pu _ _ _ _) dX3_isAllowed_105 rfl rfl ?_
              refine r_iconst 107 1 (hF.pu _ _ _ _) dX3_isAllowed_106 (by decide) rfl ?_
              refine r_isub 108 (hF.pu _ _ _ _) dX3_isAllowed_107 rfl ?_
              refine r_eqi (nI (k - 1)) (by rw [show (1 : Int32) = nI 1 from rfl, pk_sub (by omega)]) ?_
              refine f_lsGet 113 hF (fun _ z => (hbr (fun _ => False) _ (fun q hq => ⟨z.2.2 q (List.mem_cons_of_mem _ (List.mem_cons_of_mem _ (List.mem_cons_of_mem _ (List.mem_cons_of_mem _ (List.mem_cons_of_mem _ (List.mem_cons_of_mem _ hq)))))), id⟩)).1) (k - 1) (by omega) lf_X3_67_J8_get lf_X3_67_J4_get ⟨by decide, by decide⟩ (Nat.le_of_ble_eq_true rfl) dX3_isAllowed_108 ⟨Nat.le_of_ble_eq_true rfl, Nat.le_of_ble_eq_true rfl⟩ rfl ?_
              refine f_castf 116 hF (fun _ z => (((hbr (fun _ => False) _ (fun q hq => ⟨z.2.2 q (List.mem_cons_of_mem _ (List.mem_cons_of_mem _ (List.mem_cons_of_mem _ (List.mem_cons_of_mem _ (List.mem_cons_of_mem _ (List.mem_cons_of_mem _ hq)))))), id⟩)).2 (k - 1) (by omega)).fld 0 rfl)) rfl q193 dX3_isAllowed_113 rfl ?_
              refine f_getf 119 hF (T := TX4) (C := RX4) 0 (v := .int (g (1 + 2 * (k - 1)))) okX4 (fun _ z => (((hbr (fun _ => False) _ (fun q hq => ⟨z.2.2 q (List.mem_cons_of_mem _ (List.mem_cons_of_mem _ (List.mem_cons_of_mem _ (List.mem_cons_of_mem _ (List.mem_cons_of_mem _ (List.mem_cons_of_mem _ hq)))))), id⟩)).2 (k - 1) (by omega)).fld 0 rfl)) rfl (by decide) (Or.inr ⟨_, nw_q200⟩) (Or.inl rfl) dX3_isAllowed_116 rfl ?_
              refine r_icmp_le 122 126 (hF.pu _ _ _ _) dX3_isAllowed_119 (by decide) (fun c119 => ?_) rfl (fun c119 => ?_)
              · refine r_iconst 127 0 (hF.pu _ _ _ _) dX3_isAllowed_126 (by decide) rfl ?_
                refine r_eqi (zB (brB g k)) (by first | exact brB_n c78 | exact brB_0 c78 c82 | exact brB_s c78 c119 | exact brB_f c82 c119) ?_
                exact hj_78
              · refine r_iconst 123 1 (hF.pu _ _ _ _) dX3_isAllowed_122 (by decide) rfl ?_
                refine r_goto 127 (hF.pu _ _ _ _) dX3_isAllowed_123 (by decide) ?_
                refine r_eqi (zB (brB g k)) (by first | exact brB_n c78 | exact brB_0 c78 c82 | exact brB_s c78 c119 | exact brB_f c82 c119) ?_
                exact hj_78
    exact lp_45 (nb + 1) 0 (by omega) (by omega)
  refine r_if_ne 37 41 (hF.pu _ _ _ _) dX3_isAllowed_34 (by decide) (fun c34 => ?_) rfl (fun c34 => ?_)
  · refine r_iconst 42 0 (hF.pu _ _ _ _) dX3_isAllowed_41 (by decide) rfl ?_
    refine r_eqi (zB (decide (g (1 + 2 * 0) = 0))) (by first | exact zd_1 c34 | exact zd_0 c34) ?_
    exact hj_34
  · refine r_iconst 38 1 (hF.pu _ _ _ _) dX3_isAllowed_37 (by decide) rfl ?_
    refine r_goto 42 (hF.pu _ _ _ _) dX3_isAllowed_38 (by decide) ?_
    refine r_eqi (zB (decide (g (1 + 2 * 0) = 0))) (by first | exact zd_1 c34 | exact zd_0 c34) ?_
    exact hj_34
set_option maxHeartbeats 4000000 in
theorem fc_X3_isAllowed_2 (D : DD) (l : Launch) {KS : Nat → Prop} {Hb : Heap} (R rb r2 r3 r4 r6 e4 nb nch : Nat) (m4 m6 : Int32) (al mi g : Nat → Int32) (pf f4 f6 : Nat → Nat) (iv : va_W) (hn1 : 0 < nb) (hn6 : nb ≤ 6) (hch : nch ≤ 4) (hi : ivS D g pf rb nb nch f4 2 f6 iv) (b6 c6 : Nat) : Fc D l yX3_isAllowed cX3_isAllowed 4 (some .boolean) 5 1 5 120 KS Hb [.ref R] ([]) ((oC R 3 [.ref rb, .ref r2, .ref r3, .ref r4, .ref r6]) :: (aC D 0 r2 (iA 3 al)) :: (aC D 0 r3 (iA 2 mi)) :: (oC r4 12 [.int m4, .ref e4, .int (nI nch)]) :: (oC r6 13 [.int m6, .int 2, .ref b6, .ref c6]) :: (oC b6 14 [.ref (f6 0), .ref c6, .null]) :: (oC c6 14 [.ref (f6 1), .null, .ref b6]) :: iv) (fun r w i => r = some (.int (zB (alB g al mi nb nch 2))) ∧ w = [] ∧ i = []) := by
  obtain ⟨eb, cb, fb, hbr⟩ := br_of hi.2.2.2.2
  refine Fc.of (by decide) (Nat.le_of_ble_eq_true rfl) (fun s F hF hR => ?_)
  show F 0 0 ([]) ((oC R 3 [.ref rb, .ref r2, .ref r3, .ref r4, .ref r6]) :: (aC D 0 r2 (iA 3 al)) :: (aC D 0 r3 (iA 2 mi)) :: (oC r4 12 [.int m4, .ref e4, .int (nI nch)]) :: (oC r6 13 [.int m6, .int 2, .ref b6, .ref c6]) :: (oC b6 14 [.ref (f6 0), .ref c6, .null]) :: (oC c6 14 [.ref (f6 1), .null, .ref b6]) :: iv) 0 [] [(0, .ref R)]
  refine r_aload_n 1 0 (hF.pu _ _ _ _) dX3_isAllowed_0 rfl rfl ?_
  refine f_getf 4 hF (T := TX3) (C := RX3) 0 (v := .ref rb) okX3 (fun _ z => ((z.mo 0 rfl).fld 0 rfl)) rfl (by decide) (Or.inl q305) (Or.inl rfl) dX3_isAllowed_1 rfl ?_
  refine f_lsSize 9 hF (fun _ z => (hbr (fun _ => False) _ (fun q hq => ⟨z.2.2 q (List.mem_cons_of_mem _ (List.mem_cons_of_mem _ (List.mem_cons_of_mem _ (List.mem_cons_of_mem _ (List.mem_cons_of_mem _ (List.mem_cons_of_mem _ (List.mem_cons_of_mem _ hq))))))), id⟩)).1) lf_X3_59_J8_size lf_X3_59_J4_size ⟨by decide, by decide⟩ (Nat.le_of_ble_eq_true rfl) dX3_isAllowed_4 ⟨Nat.le_of_ble_eq_true rfl, Nat.le_of_ble_eq_true rfl⟩ rfl ?_
  refine r_iconst 10 1 (hF.pu _ _ _ _) dX3_isAllowed_9 (by decide) rfl ?_
  refine r_bipush 12 6 (hF.pu _ _ _ _) dX3_isAllowed_10 (by decide) rfl ?_
  refine f_callSN' 15 hF (ts_X1_isBetween D l (nI nb) 1 6) q2017 q102 nw_q2350 q2016 3 yk_X1_isBetween rfl ⟨by decide, by decide⟩ rfl (Nat.le_of_ble_eq_true rfl) dX3_isAllowed_12 ⟨Nat.le_of_ble_eq_true rfl, Nat.le_of_ble_eq_true rfl⟩ rfl ?_
  refine r_eqi 1 (by rcases (show nb = 1 ∨ nb = 2 ∨ nb = 3 ∨ nb = 4 ∨ nb = 5 ∨ nb = 6 by omega) with rfl | rfl | rfl | rfl | rfl | rfl <;> rfl) ?_
  refine r_if_eq 18 41 (hF.pu _ _ _ _) dX3_isAllowed_15 (by decide) (fun c => absurd c (by decide)) rfl (fun _ => ?_)
  refine r_aload_n 19 0 (hF.pu _ _ _ _) dX3_isAllowed_18 rfl rfl ?_
  refine f_getf 22 hF (T := TX3) (C := RX3) 0 (v := .ref rb) okX3 (fun _ z => ((z.mo 0 rfl).fld 0 rfl)) rfl (by decide) (Or.inl q305) (Or.inl rfl) dX3_isAllowed_19 rfl ?_
  refine r_iconst 23 0 (hF.pu _ _ _ _) dX3_isAllowed_22 (by decide) rfl ?_
  refine f_lsGet 28 hF (fun _ z => (hbr (fun _ => False) _ (fun q hq => ⟨z.2.2 q (List.mem_cons_of_mem _ (List.mem_cons_of_mem _ (List.mem_cons_of_mem _ (List.mem_cons_of_mem _ (List.mem_cons_of_mem _ (List.mem_cons_of_mem _ (List.mem_cons_of_mem _ hq))))))), id⟩)).1) 0 (by omega) lf_X3_67_J8_get lf_X3_67_J4_get ⟨by decide, by decide⟩ (Nat.le_of_ble_eq_true rfl) dX3_isAllowed_23 ⟨Nat.le_of_ble_eq_true rfl, Nat.le_of_ble_eq_true rfl⟩ rfl ?_
  refine f_castf 31 hF (fun _ z => (((hbr (fun _ => False) _ (fun q hq => ⟨z.2.2 q (List.mem_cons_of_mem _ (List.mem_cons_of_mem _ (List.mem_cons_of_mem _ (List.mem_cons_of_mem _ (List.mem_cons_of_mem _ (List.mem_cons_of_mem _ (List.mem_cons_of_mem _ hq))))))), id⟩)).2 0 (by omega)).fld 0 rfl)) rfl q193 dX3_isAllowed_28 rfl ?_
  refine f_getf 34 hF (T := TX4) (C := RX4) 0 (v := .int (g (1 + 0))) okX4 (fun _ z => (((hbr (fun _ => False) _ (fun q hq => ⟨z.2.2 q (List.mem_cons_of_mem _ (List.mem_cons_of_mem _ (List.mem_cons_of_mem _ (List.mem_cons_of_mem _ (List.mem_cons_of_mem _ (List.mem_cons_of_mem _ (List.mem_cons_of_mem _ hq))))))), id⟩)).2 0 (by omega)).fld 0 rfl)) rfl (by decide) (Or.inr ⟨_, nw_q200⟩) (Or.inl rfl) dX3_isAllowed_31 rfl ?_
  have hj_34 : F 0 0 ([]) ((oC R 3 [.ref rb, .ref r2, .ref r3, .ref r4, .ref r6]) :: (aC D 0 r2 (iA 3 al)) :: (aC D 0 r3 (iA 2 mi)) :: (oC r4 12 [.int m4, .ref e4, .int (nI nch)]) :: (oC r6 13 [.int m6, .int 2, .ref b6, .ref c6]) :: (oC b6 14 [.ref (f6 0), .ref c6, .null]) :: (oC c6 14 [.ref (f6 1), .null, .ref b6]) :: iv) 42 [.int (zB (decide (g (1 + 2 * 0) = 0)))] [(0, .ref R)] := by
    refine r_istore_n 43 [(1, .int (zB (decide (g (1 + 2 * 0) = 0)))), (0, .ref R)] (hF.pu _ _ _ _) dX3_isAllowed_42 rfl (by decide) rfl rfl ?_
    refine r_iconst 44 0 (hF.pu _ _ _ _) dX3_isAllowed_43 (by decide) rfl ?_
    refine r_istore_n 45 [(2, .int 0), (1, .int (zB (decide (g (1 + 2 * 0) = 0)))), (0, .ref R)] (hF.pu _ _ _ _) dX3_isAllowed_44 rfl (by decide) rfl rfl ?_
    have lp_45 : ∀ (m : Nat) (k : Nat), (k ≤ nb) → (nb - k) < m → F 0 0 ([]) ((oC R 3 [.ref rb, .ref r2, .ref r3, .ref r4, .ref r6]) :: (aC D 0 r2 (iA 3 al)) :: (aC D 0 r3 (iA 2 mi)) :: (oC r4 12 [.int m4, .ref e4, .int (nI nch)]) :: (oC r6 13 [.int m6, .int 2, .ref b6, .ref c6]) :: (oC b6 14 [.ref (f6 0), .ref c6, .null]) :: (oC c6 14 [.ref (f6 1), .null, .ref b6]) :: iv) 45 [] [(2, .int (nI k)), (1, .int (zB (brA g k (decide (g (1 + 2 * 0) = 0))))), (0, .ref R)] := by
      intro m
      induction m with
      | zero => intro k hk hm; exact absurd hm (Nat.not_lt_zero _)
      | succ m ih =>
        intro k hk hm
        refine r_iload_n 46 0 (hF.pu _ _ _ _) dX3_isAllowed_45 rfl rfl ?_
        refine r_aload_n 47 2 (hF.pu _ _ _ _) dX3_isAllowed_46 rfl rfl ?_
        refine f_getf 50 hF (T := TX3) (C := RX3) 0 (v := .ref rb) okX3 (fun _ z => ((z.mo 0 rfl).fld 0 rfl)) rfl (by decide) (Or.inl q305) (Or.inl rfl) dX3_isAllowed_47 rfl ?_
        refine f_lsSize 55 hF (fun _ z => (hbr (fun _ => False) _ (fun q hq => ⟨z.2.2 q (List.mem_cons_of_mem _ (List.mem_cons_of_mem _ (List.mem_cons_of_mem _ (List.mem_cons_of_mem _ (List.mem_cons_of_mem _ (List.mem_cons_of_mem _ (List.mem_cons_of_mem _ hq))))))), id⟩)).1) lf_X3_59_J8_size lf_X3_59_J4_size ⟨by decide, by decide⟩ (Nat.le_of_ble_eq_true rfl) dX3_isAllowed_50 ⟨Nat.le_of_ble_eq_true rfl, Nat.le_of_ble_eq_true rfl⟩ rfl ?_
        refine r_icmp_geN k nb 58 135 (hF.pu _ _ _ _) dX3_isAllowed_55 (by omega) (by omega) (by decide) (fun c55 => ?_) rfl (fun c55 => ?_)
        · have hkn : nb = k := by omega
          subst hkn
          refine r_aload_n 136 2 (hF.pu _ _ _ _) dX3_isAllowed_135 rfl rfl ?_
          refine f_getf 139 hF (T := TX3) (C := RX3) 4 (v := .ref r6) okX3 (fun _ z => ((z.mo 0 rfl).fld 4 rfl)) rfl (by decide) (Or.inl q317) (Or.inl rfl) dX3_isAllowed_136 rfl ?_
          refine f_callU 142 hF (fc_J9_iterator_2 (KS := KS) (Hb := Hb) D l r6 b6 (f6 0) c6 (f6 1) m6) (wr := ([])) rfl (imk [4, 5, 6] rfl) lu_X3_78_J9_iterator nw_q2353 0 yu_AbstractSequentialList_iterator_0 rfl ⟨by decide, by decide⟩ (fun _ z => ((z.mo 4 rfl).fld 0 rfl)) rfl rfl (Nat.le_of_ble_eq_true rfl) dX3_isAllowed_139 ⟨Nat.le_of_ble_eq_true rfl, Nat.le_of_ble_eq_true rfl⟩ rfl (fun r ws_ im' hp => ?_)
          obtain ⟨a1_, rfl, rfl, rfl⟩ := hp
          show F 1 5 ([oC a1_ 15 [.null, .ref b6, .int (nI 0), .int m6, .ref r6]]) ((oC R 3 [.ref rb, .ref r2, .ref r3, .ref r4, .ref r6]) :: (aC D 0 r2 (iA 3 al)) :: (aC D 0 r3 (iA 2 mi)) :: (oC r4 12 [.int m4, .ref e4, .int (nI nch)]) :: (oC r6 13 [.int m6, .int 2, .ref b6, .ref c6]) :: (oC b6 14 [.ref (f6 0), .ref c6, .null]) :: (oC c6 14 [.ref (f6 1), .null, .ref b6]) :: iv) 142 [.ref a1_] [(2, .int (nI nb)), (1, .int (zB (brA g nb (decide (g (1 + 2 * 0) = 0))))), (0, .ref R)]
          refine r_astore_n 143 [(2, .ref a1_), (1, .int (zB (brA g nb (decide (g (1 + 2 * 0) = 0))))), (0, .ref R)] (hF.pu _ _ _ _) dX3_isAllowed_142 rfl (by decide) rfl rfl ?_
          refine r_aload_n 144 0 (hF.pu _ _ _ _) dX3_isAllowed_143 rfl rfl ?_
          refine f_callFp 149 hF (fun _ z => cp_J35_hasNext D l a1_ r6 0 2 ((z.o 0 rfl).fld 2 rfl) ((z.o 0 rfl).fld 4 rfl) ((z.mo 4 rfl).fld 1 rfl) (by decide) (by decide)) lf_X3_82_J35_hasNext fw_40 fo_J35_hasNext_Iterator_hasNext 0 yf_Iterator_hasNext_0 rfl ⟨by decide, by decide⟩ (fun _ z => ((z.o 0 rfl).fld 0 rfl)) rfl rfl (Nat.le_of_ble_eq_true rfl) dX3_isAllowed_144 ⟨Nat.le_of_ble_eq_true rfl, Nat.le_of_ble_eq_true rfl⟩ rfl ?_
          refine r_if_eq 152 172 (hF.pu _ _ _ _) dX3_isAllowed_149 (by decide) (fun c => absurd c (by decide)) rfl (fun _ => ?_)
          refine r_aload_n 153 0 (hF.pu _ _ _ _) dX3_isAllowed_152 rfl rfl ?_
          refine f_callF 158 hF (fc_J35_next_c (KS := KS) (Hb := Hb) D l a1_ r6 b6 (f6 0) c6 0 2 m6 .null (.ref b6) (.ref c6) .null (by decide) (by decide)) (wr := ([])) rfl (imk [4, 5] rfl) lf_X3_88_J35_next fw_41 fo_J35_next_Iterator_next 0 yf_Iterator_next_0 rfl ⟨by decide, by decide⟩ (fun _ z => ((z.o 0 rfl).fld 0 rfl)) rfl rfl (Nat.le_of_ble_eq_true rfl) dX3_isAllowed_153 ⟨Nat.le_of_ble_eq_true rfl, Nat.le_of_ble_eq_true rfl⟩ rfl (fun r ws_ im' hp => ?_)
          obtain ⟨rfl, rfl, rfl⟩ := hp
          show F 1 5 ([oC a1_ 15 [.ref b6, .ref c6, .int (nI 1), .int m6, .ref r6]]) ((oC R 3 [.ref rb, .ref r2, .ref r3, .ref r4, .ref r6]) :: (aC D 0 r2 (iA 3 al)) :: (aC D 0 r3 (iA 2 mi)) :: (oC r4 12 [.int m4, .ref e4, .int (nI nch)]) :: (oC r6 13 [.int m6, .int 2, .ref b6, .ref c6]) :: (oC b6 14 [.ref (f6 0), .ref c6, .null]) :: (oC c6 14 [.ref (f6 1), .null, .ref b6]) :: iv) 158 [.ref (f6 0)] [(2, .ref a1_), (1, .int (zB (brA g nb (decide (g (1 + 2 * 0) = 0))))), (0, .ref R)]
          refine f_castf 161 hF (fun _ z => ((show ob D 11 _ (f6 0) _ from z.2.2 _ (List.mem_cons_of_mem _ (List.mem_cons_of_mem _ (List.mem_cons_of_mem _ (List.mem_cons_of_mem _ (List.mem_cons_of_mem _ (List.mem_cons_of_mem _ (List.mem_cons_of_mem _ (hi.2.2.2.1 0 (by decide)))))))))).fld 0 rfl)) rfl q2359 dX3_isAllowed_158 rfl ?_
          refine r_astore_n 162 [(3, .ref (f6 0)), (2, .ref a1_), (1, .int (zB (brA g nb (decide (g (1 + 2 * 0) = 0))))), (0, .ref R)] (hF.pu _ _ _ _) dX3_isAllowed_161 rfl (by decide) rfl rfl ?_
          refine r_iload_n 163 2 (hF.pu _ _ _ _) dX3_isAllowed_162 rfl rfl ?_
          refine r_aload_n 164 0 (hF.pu _ _ _ _) dX3_isAllowed_163 rfl rfl ?_
          refine f_callp 167 hF (fun _ z => cp_X12_isAllowed D l (K := fun _ => False) (f6 0) (fun i => g (28 + 6 * 0 + i)) ⟨z.2.2 _ (List.mem_cons_of_mem _ (List.mem_cons_of_mem _ (List.mem_cons_of_mem _ (List.mem_cons_of_mem _ (List.mem_cons_of_mem _ (List.mem_cons_of_mem _ (List.mem_cons_of_mem _ (hi.2.2.2.1 0 (by decide))))))))), id⟩) lk_X3_94 0 yk_X12_isAllowed rfl ⟨by decide, by decide⟩ (fun _ z => ((show ob D 11 _ (f6 0) _ from z.2.2 _ (List.mem_cons_of_mem _ (List.mem_cons_of_mem _ (List.mem_cons_of_mem _ (List.mem_cons_of_mem _ (List.mem_cons_of_mem _ (List.mem_cons_of_mem _ (List.mem_cons_of_mem _ (hi.2.2.2.1 0 (by decide)))))))))).fld 0 rfl)) rfl rfl (Nat.le_of_ble_eq_true rfl) dX3_isAllowed_164 ⟨Nat.le_of_ble_eq_true rfl, Nat.le_of_ble_eq_true rfl⟩ rfl ?_
          refine r_iand 168 (hF.pu _ _ _ _) dX3_isAllowed_167 rfl ?_
          refine r_eqi (zB (crA g 1 (brA g nb (decide (g (1 + 2 * 0) = 0))))) zB_and ?_
          refine r_istore_n 169 [(1, .int (zB (crA g 1 (brA g nb (decide (g (1 + 2 * 0) = 0)))))), (3, .ref (f6 0)), (2, .ref a1_), (0, .ref R)] (hF.pu _ _ _ _) dX3_isAllowed_168 rfl (by decide) rfl rfl ?_
          refine r_goto 143 (hF.pu _ _ _ _) dX3_isAllowed_169 (by decide) ?_
          refine r_aload_n 144 2 (hF.pu _ _ _ _) dX3_isAllowed_143 rfl rfl ?_
          refine f_callFp 149 hF (fun _ z => cp_J35_hasNext D l a1_ r6 1 2 ((z.o 0 rfl).fld 2 rfl) ((z.o 0 rfl).fld 4 rfl) ((z.mo 4 rfl).fld 1 rfl) (by decide) (by decide)) lf_X3_82_J35_hasNext fw_40 fo_J35_hasNext_Iterator_hasNext 0 yf_Iterator_hasNext_0 rfl ⟨by decide, by decide⟩ (fun _ z => ((z.o 0 rfl).fld 0 rfl)) rfl rfl (Nat.le_of_ble_eq_true rfl) dX3_isAllowed_144 ⟨Nat.le_of_ble_eq_true rfl, Nat.le_of_ble_eq_true rfl⟩ rfl ?_
          refine r_if_eq 152 172 (hF.pu _ _ _ _) dX3_isAllowed_149 (by decide) (fun c => absurd c (by decide)) rfl (fun _ => ?_)
          refine r_aload_n 153 2 (hF.pu _ _ _ _) dX3_isAllowed_152 rfl rfl ?_
          refine f_callF 158 hF (fc_J35_next_e (KS := KS) (Hb := Hb) D l a1_ r6 c6 (f6 1) 1 2 m6 (.ref b6) (.ref b6) (.ref c6) (.ref b6) (by decide) (by decide)) (wr := ([])) rfl (imk [4, 6] rfl) lf_X3_88_J35_next fw_41 fo_J35_next_Iterator_next 0 yf_Iterator_next_0 rfl ⟨by decide, by decide⟩ (fun _ z => ((z.o 0 rfl).fld 0 rfl)) rfl rfl (Nat.le_of_ble_eq_true rfl) dX3_isAllowed_153 ⟨Nat.le_of_ble_eq_true rfl, Nat.le_of_ble_eq_true rfl⟩ rfl (fun r ws_ im' hp => ?_)
          obtain ⟨rfl, rfl, rfl⟩ := hp
          show F 1 5 ([oC a1_ 15 [.ref c6, .null, .int (nI 2), .int m6, .ref r6]]) ((oC R 3 [.ref rb, .ref r2, .ref r3, .ref r4, .ref r6]) :: (aC D 0 r2 (iA 3 al)) :: (aC D 0 r3 (iA 2 mi)) :: (oC r4 12 [.int m4, .ref e4, .int (nI nch)]) :: (oC r6 13 [.int m6, .int 2, .ref b6, .ref c6]) :: (oC b6 14 [.ref (f6 0), .ref c6, .null]) :: (oC c6 14 [.ref (f6 1), .null, .ref b6]) :: iv) 158 [.ref (f6 1)] [(1, .int (zB (crA g 1 (brA g nb (decide (g (1 + 2 * 0) = 0)))))), (3, .ref (f6 0)), (2, .ref a1_), (0, .ref R)]
          refine f_castf 161 hF (fun _ z => ((show ob D 11 _ (f6 1) _ from z.2.2 _ (List.mem_cons_of_mem _ (List.mem_cons_of_mem _ (List.mem_cons_of_mem _ (List.mem_cons_of_mem _ (List.mem_cons_of_mem _ (List.mem_cons_of_mem _ (List.mem_cons_of_mem _ (hi.2.2.2.1 1 (by decide)))))))))).fld 0 rfl)) rfl q2359 dX3_isAllowed_158 rfl ?_
          refine r_astore_n 162 [(3, .ref (f6 1)), (1, .int (zB (crA g 1 (brA g nb (decide (g (1 + 2 * 0) = 0)))))), (2, .ref a1_), (0, .ref R)] (hF.pu _ _ _ _) dX3_isAllowed_161 rfl (by decide) rfl rfl ?_
          refine r_iload_n 163 1 (hF.pu _ _ _ _) dX3_isAllowed_162 rfl rfl ?_
          refine r_aload_n 164 0 (hF.pu _ _ _ _) dX3_isAllowed_163 rfl rfl ?_
          refine f_callp 167 hF (fun _ z => cp_X12_isAllowed D l (K := fun _ => False) (f6 1) (fun i => g (28 + 6 * 1 + i)) ⟨z.2.2 _ (List.mem_cons_of_mem _ (List.mem_cons_of_mem _ (List.mem_cons_of_mem _ (List.mem_cons_of_mem _ (List.mem_cons_of_mem _ (List.mem_cons_of_mem _ (List.mem_cons_of_mem _ (hi.2.2.2.1 1 (by decide))))))))), id⟩) lk_X3_94 0 yk_X12_isAllowed rfl ⟨by decide, by decide⟩ (fun _ z => ((show ob D 11 _ (f6 1) _ from z.2.2 _ (List.mem_cons_of_mem _ (List.mem_cons_of_mem _ (List.mem_cons_of_mem _ (List.mem_cons_of_mem _ (List.mem_cons_of_mem _ (List.mem_cons_of_mem _ (List.mem_cons_of_mem _ (hi.2.2.2.1 1 (by decide)))))))))).fld 0 rfl)) rfl rfl (Nat.le_of_ble_eq_true rfl) dX3_isAllowed_164 ⟨Nat.le_of_ble_eq_true rfl, Nat.le_of_ble_eq_true rfl⟩ rfl ?_
          refine r_iand 168 (hF.pu _ _ _ _) dX3_isAllowed_167 rfl ?_
          refine r_eqi (zB (crA g 2 (brA g nb (decide (g (1 + 2 * 0) = 0))))) zB_and ?_
          refine r_istore_n 169 [(1, .int (zB (crA g 2 (brA g nb (decide (g (1 + 2 * 0) = 0)))))), (3, .ref (f6 1)), (2, .ref a1_), (0, .ref R)] (hF.pu _ _ _ _) dX3_isAllowed_168 rfl (by decide) rfl rfl ?_
          refine r_goto 143 (hF.pu _ _ _ _) dX3_isAllowed_169 (by decide) ?_
          refine r_aload_n 144 2 (hF.pu _ _ _ _) dX3_isAllowed_143 rfl rfl ?_
          refine f_callFp 149 hF (fun _ z => cp_J35_hasNext D l a1_ r6 2 2 ((z.o 0 rfl).fld 2 rfl) ((z.o 0 rfl).fld 4 rfl) ((z.mo 4 rfl).fld 1 rfl) (by decide) (by decide)) lf_X3_82_J35_hasNext fw_40 fo_J35_hasNext_Iterator_hasNext 0 yf_Iterator_hasNext_0 rfl ⟨by decide, by decide⟩ (fun _ z => ((z.o 0 rfl).fld 0 rfl)) rfl rfl (Nat.le_of_ble_eq_true rfl) dX3_isAllowed_144 ⟨Nat.le_of_ble_eq_true rfl, Nat.le_of_ble_eq_true rfl⟩ rfl ?_
          refine r_if_eq 152 172 (hF.pu _ _ _ _) dX3_isAllowed_149 (by decide) (fun _ => ?_) rfl (fun c => absurd (by decide) c)
          refine r_iload_n 173 0 (hF.pu _ _ _ _) dX3_isAllowed_172 rfl rfl ?_
          have hj_173 : F 1 5 ([oC a1_ 15 [.ref c6, .null, .int (nI 2), .int m6, .ref r6]]) ((oC R 3 [.ref rb, .ref r2, .ref r3, .ref r4, .ref r6]) :: (aC D 0 r2 (iA 3 al)) :: (aC D 0 r3 (iA 2 mi)) :: (oC r4 12 [.int m4, .ref e4, .int (nI nch)]) :: (oC r6 13 [.int m6, .int 2, .ref b6, .ref c6]) :: (oC b6 14 [.ref (f6 0), .ref c6, .null]) :: (oC c6 14 [.ref (f6 1), .null, .ref b6]) :: iv) 228 [.int (zB (alB g al mi nb nch 2))] [(1, .int (zB (crA g 2 (brA g nb (decide (g (1 + 2 * 0) = 0)))))), (3, .ref (f6 1)), (2, .ref a1_), (0, .ref R)] := by
            refine f_kp hF [false] ([]) rfl ?_
            refine f_imsub hF [] (imk [] rfl) ?_
            exact FR.i hR (zB_narrow _) dX3_isAllowed_228 (Nat.le_of_ble_eq_true rfl) (Nat.le_of_ble_eq_true rfl) ⟨rfl, rfl, rfl⟩
          refine r_if_eqZ (crA g 2 (brA g nb (decide (g (1 + 2 * 0) = 0)))) 176 227 (hF.pu _ _ _ _) dX3_isAllowed_173 (by decide) (fun c173 => ?_) rfl (fun c173 => ?_)
          · refine r_iconst 228 0 (hF.pu _ _ _ _) dX3_isAllowed_227 (by decide) rfl ?_
            refine r_eqi (zB (alB g al mi nb nch 2)) (by first | exact q_1 c173 c185 c197 c208 | exact q_a c173 | exact q_b (fun z => z c185) | exact q_c (fun z => z c197) | exact q_d (by omega)) ?_
            exact hj_173
          · refine r_aload_n 177 3 (hF.pu _ _ _ _) dX3_isAllowed_176 rfl rfl ?_
            refine f_getf 180 hF (T := TX3) (C := RX3) 1 (v := .ref r2) okX3 (fun _ z => ((z.mo 0 rfl).fld 1 rfl)) rfl (by decide) (Or.inl q308) (Or.inl rfl) dX3_isAllowed_177 rfl ?_
            refine r_iconst 181 2 (hF.pu _ _ _ _) dX3_isAllowed_180 (by decide) rfl ?_
            refine f_iald 182 hF 2 (x := al 2) (fun _ z => ⟨_, (z.ma 1 rfl), rfl⟩) rfl (by decide) (by decide) dX3_isAllowed_181 rfl ?_
            refine r_sipush 185 999 (hF.pu _ _ _ _) dX3_isAllowed_182 (by decide) rfl ?_
            refine r_icmp_gt 188 227 (hF.pu _ _ _ _) dX3_isAllowed_185 (by decide) (fun c185 => ?_) rfl (fun c185 => ?_)
            · refine r_iconst 228 0 (hF.pu _ _ _ _) dX3_isAllowed_227 (by decide) rfl ?_
              refine r_eqi (zB (alB g al mi nb nch 2)) (by first | exact q_1 c173 c185 c197 c208 | exact q_a c173 | exact q_b (fun z => z c185) | exact q_c (fun z => z c197) | exact q_d (by omega)) ?_
              exact hj_173
            · refine r_aload_n 189 3 (hF.pu _ _ _ _) dX3_isAllowed_188 rfl rfl ?_
              refine f_getf 192 hF (T := TX3) (C := RX3) 2 (v := .ref r3) okX3 (fun _ z => ((z.mo 0 rfl).fld 2 rfl)) rfl (by decide) (Or.inl q311) (Or.inl rfl) dX3_isAllowed_189 rfl ?_
              refine r_iconst 193 1 (hF.pu _ _ _ _) dX3_isAllowed_192 (by decide) rfl ?_
              refine f_iald 194 hF 1 (x := mi 1) (fun _ z => ⟨_, (z.ma 2 rfl), rfl⟩) rfl (by decide) (by decide) dX3_isAllowed_193 rfl ?_
              refine r_sipush 197 999 (hF.pu _ _ _ _) dX3_isAllowed_194 (by decide) rfl ?_
              refine r_icmp_gt 200 227 (hF.pu _ _ _ _) dX3_isAllowed_197 (by decide) (fun c197 => ?_) rfl (fun c197 => ?_)
              · refine r_iconst 228 0 (hF.pu _ _ _ _) dX3_isAllowed_227 (by decide) rfl ?_
                refine r_eqi (zB (alB g al mi nb nch 2)) (by first | exact q_1 c173 c185 c197 c208 | exact q_a c173 | exact q_b (fun z => z c185) | exact q_c (fun z => z c197) | exact q_d (by omega)) ?_
                exact hj_173
              · refine r_aload_n 201 3 (hF.pu _ _ _ _) dX3_isAllowed_200 rfl rfl ?_
                refine f_getf 204 hF (T := TX3) (C := RX3) 3 (v := .ref r4) okX3 (fun _ z => ((z.mo 0 rfl).fld 3 rfl)) rfl (by decide) (Or.inl q314) (Or.inl rfl) dX3_isAllowed_201 rfl ?_
                refine f_callp 207 hF (fun _ z => cp_J8_size2 D l r4 nch ((z.mo 3 rfl).fld 2 rfl)) lk_X3_97 0 yk_J8_size rfl ⟨by decide, by decide⟩ (fun _ z => ((z.mo 3 rfl).fld 0 rfl)) rfl rfl (Nat.le_of_ble_eq_true rfl) dX3_isAllowed_204 ⟨Nat.le_of_ble_eq_true rfl, Nat.le_of_ble_eq_true rfl⟩ rfl ?_
                refine r_iconst 208 4 (hF.pu _ _ _ _) dX3_isAllowed_207 (by decide) rfl ?_
                refine r_icmp_gtN nch 4 211 227 (hF.pu _ _ _ _) dX3_isAllowed_208 (by omega) (by omega) (by decide) (fun c208 => ?_) rfl (fun c208 => ?_)
                · refine r_iconst 228 0 (hF.pu _ _ _ _) dX3_isAllowed_227 (by decide) rfl ?_
                  refine r_eqi (zB (alB g al mi nb nch 2)) (by first | exact q_1 c173 c185 c197 c208 | exact q_a c173 | exact q_b (fun z => z c185) | exact q_c (fun z => z c197) | exact q_d (by omega)) ?_
                  exact hj_173
                · refine r_aload_n 212 3 (hF.pu _ _ _ _) dX3_isAllowed_211 rfl rfl ?_
                  refine f_getf 215 hF (T := TX3) (C := RX3) 4 (v := .ref r6) okX3 (fun _ z => ((z.mo 0 rfl).fld 4 rfl)) rfl (by decide) (Or.inl q317) (Or.inl rfl) dX3_isAllowed_212 rfl ?_
                  refine f_callp 218 hF (fun _ z => cp_J10_size2 D l r6 2 ((z.mo 4 rfl).fld 1 rfl)) lk_X3_98 0 yk_J10_size rfl ⟨by decide, by decide⟩ (fun _ z => ((z.mo 4 rfl).fld 0 rfl)) rfl rfl (Nat.le_of_ble_eq_true rfl) dX3_isAllowed_215 ⟨Nat.le_of_ble_eq_true rfl, Nat.le_of_ble_eq_true rfl⟩ rfl ?_
                  refine r_bipush 220 6 (hF.pu _ _ _ _) dX3_isAllowed_218 (by decide) rfl ?_
                  refine r_icmp_gtN 2 6 223 227 (hF.pu _ _ _ _) dX3_isAllowed_220 (by omega) (by omega) (by decide) (fun c220 => absurd c220 (by decide)) rfl (fun c220 => ?_)
                  refine r_iconst 224 1 (hF.pu _ _ _ _) dX3_isAllowed_223 (by decide) rfl ?_
                  refine r_goto 228 (hF.pu _ _ _ _) dX3_isAllowed_224 (by decide) ?_
                  refine r_eqi (zB (alB g al mi nb nch 2)) (by first | exact q_1 c173 c185 c197 c208 | exact q_a c173 | exact q_b (fun z => z c185) | exact q_c (fun z => z c197) | exact q_d (by omega)) ?_
                  exact hj_173
        · refine r_iload_n 59 1 (hF.pu _ _ _ _) dX3_isAllowed_58 rfl rfl ?_
          refine r_aload_n 60 2 (hF.pu _ _ _ _) dX3_isAllowed_59 rfl rfl ?_
          refine f_getf 63 hF (T := TX3) (C := RX3) 0 (v := .ref rb) okX3 (fun _ z => ((z.mo 0 rfl).fld 0 rfl)) rfl (by decide) (Or.inl q305) (Or.inl rfl) dX3_isAllowed_60 rfl ?_
          refine r_iload_n 64 0 (hF.pu _ _ _ _) dX3_isAllowed_63 rfl rfl ?_
          refine f_lsGet 69 hF (fun _ z => (hbr (fun _ => False) _ (fun q hq => ⟨z.2.2 q (List.mem_cons_of_mem _ (List.mem_cons_of_mem _ (List.mem_cons_of_mem _ (List.mem_cons_of_mem _ (List.mem_cons_of_mem _ (List.mem_cons_of_mem _ (List.mem_cons_of_mem _ hq))))))), id⟩)).1) k (by omega) lf_X3_67_J8_get lf_X3_67_J4_get ⟨by decide, by decide⟩ (Nat.le_of_ble_eq_true rfl) dX3_isAllowed_64 ⟨Nat.le_of_ble_eq_true rfl, Nat.le_of_ble_eq_true rfl⟩ rfl ?_
          refine f_castf 72 hF (fun _ z => (((hbr (fun _ => False) _ (fun q hq => ⟨z.2.2 q (List.mem_cons_of_mem _ (List.mem_cons_of_mem _ (List.mem_cons_of_mem _ (List.mem_cons_of_mem _ (List.mem_cons_of_mem _ (List.mem_cons_of_mem _ (List.mem_cons_of_mem _ hq))))))), id⟩)).2 k (by omega)).fld 0 rfl)) rfl q193 dX3_isAllowed_69 rfl ?_
          refine f_getf 75 hF (T := TX4) (C := RX4) 1 (v := .int (g (1 + 2 * k + 1))) okX4 (fun _ z => (((hbr (fun _ => False) _ (fun q hq => ⟨z.2.2 q (List.mem_cons_of_mem _ (List.mem_cons_of_mem _ (List.mem_cons_of_mem _ (List.mem_cons_of_mem _ (List.mem_cons_of_mem _ (List.mem_cons_of_mem _ (List.mem_cons_of_mem _ hq))))))), id⟩)).2 k (by omega)).fld 1 rfl)) rfl (by decide) (Or.inr ⟨_, nw_q203⟩) (Or.inl rfl) dX3_isAllowed_72 rfl ?_
          refine r_sipush 78 999 (hF.pu _ _ _ _) dX3_isAllowed_75 (by decide) rfl ?_
          have hj_78 : F 0 0 ([]) ((oC R 3 [.ref rb, .ref r2, .ref r3, .ref r4, .ref r6]) :: (aC D 0 r2 (iA 3 al)) :: (aC D 0 r3 (iA 2 mi)) :: (oC r4 12 [.int m4, .ref e4, .int (nI nch)]) :: (oC r6 13 [.int m6, .int 2, .ref b6, .ref c6]) :: (oC b6 14 [.ref (f6 0), .ref c6, .null]) :: (oC c6 14 [.ref (f6 1), .null, .ref b6]) :: iv) 127 [.int (zB (brB g k)), .int (zB (brA g k (decide (g (1 + 2 * 0) = 0))))] [(2, .int (nI k)), (1, .int (zB (brA g k (decide (g (1 + 2 * 0) = 0))))), (0, .ref R)] := by
            refine r_iand 128 (hF.pu _ _ _ _) dX3_isAllowed_127 rfl ?_
            refine r_eqi (zB (brA g (k + 1) (decide (g (1 + 2 * 0) = 0)))) zB_and ?_
            refine r_istore_n 129 [(1, .int (zB (brA g (k + 1) (decide (g (1 + 2 * 0) = 0))))), (2, .int (nI k)), (0, .ref R)] (hF.pu _ _ _ _) dX3_isAllowed_128 rfl (by decide) rfl rfl ?_
            refine r_iinc 132 (nI (k + 1)) 1 [(2, .int (nI (k + 1))), (1, .int (zB (brA g (k + 1) (decide (g (1 + 2 * 0) = 0))))), (0, .ref R)] (hF.pu _ _ _ _) dX3_isAllowed_129 rfl (nI_1 k) (by decide) rfl rfl ?_
            refine r_goto 45 (hF.pu _ _ _ _) dX3_isAllowed_132 (by decide) ?_
            exact ih (k + 1) (by omega) (by omega)
          refine r_icmp_gt 81 126 (hF.pu _ _ _ _) dX3_isAllowed_78 (by decide) (fun c78 => ?_) rfl (fun c78 => ?_)
          · refine r_iconst 127 0 (hF.pu _ _ _ _) dX3_isAllowed_126 (by decide) rfl ?_
            refine r_eqi (zB (brB g k)) (by first | exact brB_n c78 | exact brB_0 c78 c82 | exact brB_s c78 c119 | exact brB_f c82 c119) ?_
            exact hj_78
          · refine r_iload_n 82 0 (hF.pu _ _ _ _) dX3_isAllowed_81 rfl rfl ?_
            refine r_if_eqN k 85 122 (hF.pu _ _ _ _) dX3_isAllowed_82 (by omega) (by decide) (fun c82 => ?_) rfl (fun c82 => ?_)
            · refine r_iconst 123 1 (hF.pu _ _ _ _) dX3_isAllowed_122 (by decide) rfl ?_
              refine r_goto 127 (hF.pu _ _ _ _) dX3_isAllowed_123 (by decide) ?_
              refine r_eqi (zB (brB g k)) (by first | exact brB_n c78 | exact brB_0 c78 c82 | exact brB_s c78 c119 | exact brB_f c82 c119) ?_
              exact hj_78
            · refine r_aload_n 86 2 (hF.pu _ _ _ _) dX3_isAllowed_85 rfl rfl ?_
              refine f_getf 89 hF (T := TX3) (C := RX3) 0 (v := .ref rb) okX3 (fun _ z => ((z.mo 0 rfl).fld 0 rfl)) rfl (by decide) (Or.inl q305) (Or.inl rfl) dX3_isAllowed_86 rfl ?_
              refine r_iload_n 90 0 (hF.pu _ _ _ _) dX3_isAllowed_89 rfl rfl ?_
              refine f_lsGet 95 hF (fun _ z => (hbr (fun _ => False) _ (fun q hq => ⟨z.2.2 q (List.mem_cons_of_mem _ (List.mem_cons_of_mem _ (List.mem_cons_of_mem _ (List.mem_cons_of_mem _ (List.mem_cons_of_mem _ (List.mem_cons_of_mem _ (List.mem_cons_of_mem _ hq))))))), id⟩)).1) k (by omega) lf_X3_67_J8_get lf_X3_67_J4_get ⟨by decide, by decide⟩ (Nat.le_of_ble_eq_true rfl) dX3_isAllowed_90 ⟨Nat.le_of_ble_eq_true rfl, Nat.le_of_ble_eq_true rfl⟩ rfl ?_
              refine f_castf 98 hF (fun _ z => (((hbr (fun _ => False) _ (fun q hq => ⟨z.2.2 q (List.mem_cons_of_mem _ (List.mem_cons_of_mem _ (List.mem_cons_of_mem _ (List.mem_cons_of_mem _ (List.mem_cons_of_mem _ (List.mem_cons_of_mem _ (List.mem_cons_of_mem _ hq))))))), id⟩)).2 k (by omega)).fld 0 rfl)) rfl q193 dX3_isAllowed_95 rfl ?_
              refine f_getf 101 hF (T := TX4) (C := RX4) 0 (v := .int (g (1 + 2 * k))) okX4 (fun _ z => (((hbr (fun _ => False) _ (fun q hq => ⟨z.2.2 q (List.mem_cons_of_mem _ (List.mem_cons_of_mem _ (List.mem_cons_of_mem _ (List.mem_cons_of_mem _ (List.mem_cons_of_mem _ (List.mem_cons_of_mem _ (List.mem_cons_of_mem _ hq))))))), id⟩)).2 k (by omega)).fld 0 rfl)) rfl (by decide) (Or.inr ⟨_, nw_q200⟩) (Or.inl rfl) dX3_isAllowed_98 rfl ?_
              refine r_aload_n 102 2 (hF.pu _ _ _ _) dX3_isAllowed_101 rfl rfl ?_
              refine f_getf 105 hF (T := TX3) (C := RX3) 0 (v := .ref rb) okX3 (fun _ z => ((z.mo 0 rfl).fld 0 rfl)) rfl (by decide) (Or.inl q305) (Or.inl rfl) dX3_isAllowed_102 rfl ?_
              refine r_iload_n 106 0 (hF.pu _ _ _ _) dX3_isAllowed_105 rfl rfl ?_
              refine r_iconst 107 1 (hF.pu _ _ _ _) dX3_isAllowed_106 (by decide) rfl ?_
              refine r_isub 108 (hF.pu _ _ _ _) dX3_isAllowed_107 rfl ?_
              refine r_eqi (nI (k - 1)) (by rw [show (1 : Int32) = nI 1 from rfl, pk_sub (by omega)]) ?_
              refine f_lsGet 113 hF (fun _ z => (hbr (fun _ => False) _ (fun q hq => ⟨z.2.2 q (List.mem_cons_of_mem _ (List.mem_cons_of_mem _ (List.mem_cons_of_mem _ (List.mem_cons_of_mem _ (List.mem_cons_of_mem _ (List.mem_cons_of_mem _ (List.mem_cons_of_mem _ hq))))))), id⟩)).1) (k - 1) (by omega) lf_X3_67_J8_get lf_X3_67_J4_get ⟨by decide, by decide⟩ (Nat.le_of_ble_eq_true rfl) dX3_isAllowed_108 ⟨Nat.le_of_ble_eq_true rfl, Nat.le_of_ble_eq_true rfl⟩ rfl ?_
              refine f_castf 116 hF (fun _ z => (((hbr (fun _ => False) _ (fun q hq => ⟨z.2.2 q (List.mem_cons_of_mem _ (List.mem_cons_of_mem _ (List.mem_cons_of_mem _ (List.mem_cons_of_mem _ (List.mem_cons_of_mem _ (List.mem_cons_of_mem _ (List.mem_cons_of_mem _ hq))))))), id⟩)).2 (k - 1) (by omega)).fld 0 rfl)) rfl q193 dX3_isAllowed_113 rfl ?_
              refine f_getf 119 hF (T := TX4) (C := RX4) 0 (v := .int (g (1 + 2 * (k - 1)))) okX4 (fun _ z => (((hbr (fun _ => False) _ (fun q hq => ⟨z.2.2 q (List.mem_cons_of_mem _ (List.mem_cons_of_mem _ (List.mem_cons_of_mem _ (List.mem_cons_of_mem _ (List.mem_cons_of_mem _ (List.mem_cons_of_mem _ (List.mem_cons_of_mem _ hq))))))), id⟩)).2 (k - 1) (by omega)).fld 0 rfl)) rfl (by decide) (Or.inr ⟨_, nw_q200⟩) (Or.inl rfl) dX3_isAllowed_116 rfl ?_
              refine r_icmp_le 122 126 (hF.pu _ _ _ _) dX3_isAllowed_119 (by decide) (fun c119 => ?_) rfl (fun c119 => ?_)
              · refine r_iconst 127 0 (hF.pu _ _ _ _) dX3_isAllowed_126 (by decide) rfl ?_
                refine r_eqi (zB (brB g k)) (by first | exact brB_n c78 | exact brB_0 c78 c82 | exact brB_s c78 c119 | exact brB_f c82 c119) ?_
                exact hj_78
              · refine r_iconst 123 1 (hF.pu _ _ _ _) dX3_isAllowed_122 (by decide) rfl ?_
                refine r_goto 127 (hF.pu _ _ _ _) dX3_isAllowed_123 (by decide) ?_
                refine r_eqi (zB (brB g k)) (by first | exact brB_n c78 | exact brB_0 c78 c82 | exact brB_s c78 c119 | exact brB_f c82 c119) ?_
                exact hj_78
    exact lp_45 (nb + 1) 0 (by omega) (by omega)
  refine r_if_ne 37 41 (hF.pu _ _ _ _) dX3_isAllowed_34 (by decide) (fun c34 => ?_) rfl (fun c34 => ?_)
  · refine r_iconst 42 0 (hF.pu _ _ _ _) dX3_isAllowed_41 (by decide) rfl ?_
    refine r_eqi (zB (decide (g (1 + 2 * 0) = 0))) (by first | exact zd_1 c34 | exact zd_0 c34) ?_
    exact hj_34
  · refine r_iconst 38 1 (hF.pu _ _ _ _) dX3_isAllowed_37 (by decide) rfl ?_
    refine r_goto 42 (hF.pu _ _ _ _) dX3_isAllowed_38 (by decide) ?_
    refine r_eqi (zB (decide (g (1 + 2 * 0) = 0))) (by first | exact zd_1 c34 | exact zd_0 c34) ?_
    exact hj_34
