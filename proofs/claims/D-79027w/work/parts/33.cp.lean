section JLS
variable {D : DD} {l : Launch} {s : State} {own : String} {args : Array Value} {cc : ByteArray} {nL : Nat} {R : Room} {nm : String} {A : Nat → Prop} {H0 : Heap} {J : Heap → Nat → Nat → Nat → List Value → List (Nat × Value) → Prop} {H : Heap} {k n pc index cnt : Nat} {st rest : List Value} {lv : List (Nat × Value)} {K : Nat → Prop}
variable {y : MethodName} {b : ByteArray} {L : Nat} {ret : Option FieldType} {f lo o : Nat} {As : List Value}
theorem j_callFp {x : MethodName} {C : String} (q : Nat) (hJ : Jx D l s own args cc nL R nm A H0 J) {v : Option Value} (hc : Cp D l y b L ret f lo (.ref o :: As) H v) (hw : GoodIn lw_all (va_wsF own index C x y (ws_ y b L ret))) (hF : (C, x, y) ∈ fwL) (hFo : fwOk (C, x, y) = true) (na : Nat) (hy : yOk x na) (hna : As.length = na) (hR : f + 1 ≤ R.frames ∧ 8 + (L + 11) + lo ≤ R.locals) {ci i : Nat} {w : Value} {T : u_T} {N : Nat} (ho : fld D ci o i w H) (hcl : aCl[ci]? = some (C, T, N)) (hst : st = As.reverse ++ .ref o :: rest) (hrest : (rest.map fun v => v.category).sum ≤ 8) (d : decode cc pc = .ok (.invokeinterface index cnt, 5)) (hf : k ≤ R.cells ∧ n ≤ R.slots) (e : pc + 5 = q) (kk : J H k n q (v.toList ++ rest) lv) : J H k n pc st lv := by
  refine j_callF q hJ hc hw hF hFo na hy hna hR ho hcl hst hrest d hf (fun x hx => Or.inr hx) e ?_
  rintro r H1 ⟨rfl, rfl⟩ _
  exact kk
theorem yk_ls : yOk ⟨"java/util/List", "size", "()I"⟩ 0 := by decide +kernel
theorem yk_lg : yOk ⟨"java/util/List", "get", "(I)Ljava/lang/Object;"⟩ 1 := by decide +kernel
theorem fo_1 : fwOk ("java/util/ArrayList", ⟨"java/util/List", "size", "()I"⟩, yJ8_size) = true := by decide +kernel
theorem fo_2 : fwOk ("java/util/ImmutableCollections$List12", ⟨"java/util/List", "size", "()I"⟩, yJ4_size) = true := by decide +kernel
theorem fo_3 : fwOk ("java/util/ArrayList", ⟨"java/util/List", "get", "(I)Ljava/lang/Object;"⟩, yJ8_get) = true := by decide +kernel
theorem fo_4 : fwOk ("java/util/ImmutableCollections$List12", ⟨"java/util/List", "get", "(I)Ljava/lang/Object;"⟩, yJ4_get) = true := by decide +kernel
variable {ci a ea nn : Nat} {fl : Nat → Nat}
theorem j_lsSize (q : Nat) (hJ : Jx D l s own args cc nL R nm A H0 J) (h : lsK K D ci a ea nn fl H) (w1 : GoodIn lw_all (va_wsF own index "java/util/ArrayList" ⟨"java/util/List", "size", "()I"⟩ yJ8_size (ws_ yJ8_size cJ8_size 1 (some .int)))) (w2 : GoodIn lw_all (va_wsF own index "java/util/ImmutableCollections$List12" ⟨"java/util/List", "size", "()I"⟩ yJ4_size (ws_ yJ4_size cJ4_size 1 (some .int)))) (hR : 1 ≤ R.frames ∧ 20 ≤ R.locals) (hrest : (rest.map fun v => v.category).sum ≤ 8) (d : decode cc pc = .ok (.invokeinterface index cnt, 5)) (hf : k ≤ R.cells ∧ n ≤ R.slots) (e : pc + 5 = q) (kk : J H k n q (.int (nI nn) :: rest) lv) : J H k n pc (.ref a :: rest) lv := by
  rcases h with ⟨rfl, h⟩ | ⟨rfl, rfl, h⟩
  · exact j_callFp q hJ (cp_J8_size D l a ea nn fl h) w1 fw_6 fo_1 0 yk_ls rfl ⟨by omega, by omega⟩ h.sz rfl rfl hrest d hf e kk
  · exact j_callFp q hJ (cp_J4_size D l a (fl 0) h) w2 fw_30 fo_2 0 yk_ls rfl ⟨by omega, by omega⟩ (obK.fld h 0 rfl) rfl rfl hrest d hf e kk
theorem j_lsGet (q : Nat) (hJ : Jx D l s own args cc nL R nm A H0 J) (h : lsK K D ci a ea nn fl H) (i : Nat) (hi : i < nn) (w1 : GoodIn lw_all (va_wsF own index "java/util/ArrayList" ⟨"java/util/List", "get", "(I)Ljava/lang/Object;"⟩ yJ8_get (ws_ yJ8_get cJ8_get 2 (Option.some (ClassFile.FieldType.object "java/lang/Object"))))) (w2 : GoodIn lw_all (va_wsF own index "java/util/ImmutableCollections$List12" ⟨"java/util/List", "get", "(I)Ljava/lang/Object;"⟩ yJ4_get (ws_ yJ4_get cJ4_get 2 (Option.some (ClassFile.FieldType.object "java/lang/Object"))))) (hR : 4 ≤ R.frames ∧ 120 ≤ R.locals) (hrest : (rest.map fun v => v.category).sum ≤ 8) (d : decode cc pc = .ok (.invokeinterface index cnt, 5)) (hf : k ≤ R.cells ∧ n ≤ R.slots) (e : pc + 5 = q) (kk : J H k n q (.ref (fl i) :: rest) lv) : J H k n pc (.int (nI i) :: .ref a :: rest) lv := by
  rcases h with ⟨rfl, h⟩ | ⟨rfl, rfl, h⟩
  · exact j_callFp q hJ (cp_J8_get D l a ea nn i fl h hi) w1 fw_2 fo_3 1 yk_lg rfl ⟨by omega, by omega⟩ h.sz rfl rfl hrest d hf e kk
  · obtain rfl : i = 0 := by omega
    exact j_callFp q hJ (cp_J4_get D l a (fl 0) h) w2 fw_26 fo_4 1 yk_lg rfl ⟨by omega, by omega⟩ (obK.fld h 0 rfl) rfl rfl hrest d hf e kk
end JLS

set_option maxHeartbeats 2000000 in
theorem cp_X7_above (D : DD) (l : Launch) {H0 : Heap} (it : Nat) (x f th : Int32) (h1 : fld D 7 it 1 (.int x) H0) (h3 : fld D 7 it 3 (.int f) H0) : Cp D l yX7_above cX7_above 2 (some .long) 1 23 [.ref it, .int th] H0 (some (.long (abvK x f th))) := by
  refine Cp.of (by decide) (Nat.le_of_ble_eq_true rfl) (fun s A J hJ hR => ?_)
  show J H0 0 0 0 [] [(0, .ref it), (1, .int th)]
  refine r_lconst 1 0 (hJ.pu _ _ _) dX7_above_0 (by decide) rfl ?_
  refine r_aload_n 2 0 (hJ.pu _ _ _) dX7_above_1 rfl rfl ?_
  refine j_getf 5 hJ (T := TX7) (C := RX7) 1 (v := .int x) okX7 h1 rfl (by decide) (Or.inl q502) (Or.inl rfl) dX7_above_2 rfl ?_
  refine r_i2l 6 (hJ.pu _ _ _) dX7_above_5 rfl ?_
  refine r_iload_n 7 1 (hJ.pu _ _ _) dX7_above_6 rfl rfl ?_
  refine r_i2l 8 (hJ.pu _ _ _) dX7_above_7 rfl ?_
  refine r_aload_n 9 0 (hJ.pu _ _ _) dX7_above_8 rfl rfl ?_
  refine j_getf 12 hJ (T := TX7) (C := RX7) 3 (v := .int f) okX7 h3 rfl (by decide) (Or.inl q507) (Or.inl rfl) dX7_above_9 rfl ?_
  refine r_i2l 13 (hJ.pu _ _ _) dX7_above_12 rfl ?_
  refine r_lmul 14 (hJ.pu _ _ _) dX7_above_13 rfl ?_
  refine r_lsub 15 (hJ.pu _ _ _) dX7_above_14 rfl ?_
  refine j_maxL 18 hJ q1908 ⟨by decide, by decide⟩ (Nat.le_of_ble_eq_true rfl) dX7_above_15 ⟨Nat.zero_le _, Nat.zero_le _⟩ rfl ?_
  exact Rt.lg hR dX7_above_18 (Nat.zero_le _) (Nat.zero_le _) ⟨rfl, rfl⟩
theorem lk_X12_61 : GoodIn lw_all (wsV RX12 61 yX7_above.cls yX7_above (ws_ yX7_above cX7_above 2 (some .long))) := lw_V q1951 q1905 q1906 q124 q1907
theorem yk_X7_above : yOk yX7_above 1 := by decide +kernel
set_option maxHeartbeats 2000000 in
theorem cp_X12_value (D : DD) (l : Launch) {H0 : Heap} {K : Nat → Prop} (a : Nat) (c : Nat → Int32) (hc : obK K D 11 [.int (c 0), .int (c 1), .int (c 2), .int (c 3), .int (c 4), .int (c 5)] a H0) (it : Nat) (e x d f : Int32) (h0 : fld D 7 it 0 (.int e) H0) (h1 : fld D 7 it 1 (.int x) H0) (h2 : fld D 7 it 2 (.int d) H0) (h3 : fld D 7 it 3 (.int f) H0) : Cp D l yX12_value cX12_value 4 (some .long) 2 44 [.ref a, .ref it] H0 (some (.long (valK c e x d f))) := by
  refine Cp.of (by decide) (Nat.le_of_ble_eq_true rfl) (fun s A J hJ hR => ?_)
  show J H0 0 0 0 [] [(0, .ref a), (1, .ref it)]
  refine r_aload_n 1 0 (hJ.pu _ _ _) dX12_value_0 rfl rfl ?_
  refine j_getf 4 hJ (T := TX12) (C := RX12) 1 (v := .int (c 1)) okX12 (hc.fld 1 rfl) rfl (by decide) (Or.inl q2296) (Or.inl rfl) dX12_value_1 rfl ?_
  refine r_i2l 5 (hJ.pu _ _ _) dX12_value_4 rfl ?_
  refine r_ldc2 8 (hJ.pu _ _ _) dX12_value_5 q1948 rfl ?_
  refine r_lmul 9 (hJ.pu _ _ _) dX12_value_8 rfl ?_
  refine r_aload_n 10 0 (hJ.pu _ _ _) dX12_value_9 rfl rfl ?_
  refine j_getf 13 hJ (T := TX12) (C := RX12) 5 (v := .int (c 5)) okX12 (hc.fld 5 rfl) rfl (by decide) (Or.inl q2300) (Or.inl rfl) dX12_value_10 rfl ?_
  refine r_if_eq 16 23 (hJ.pu _ _ _) dX12_value_13 (by decide) (fun c13 => ?_) rfl (fun c13 => ?_)
  · refine r_iconst 24 1 (hJ.pu _ _ _) dX12_value_23 (by decide) rfl ?_
    refine r_i2l 25 (hJ.pu _ _ _) dX12_value_24 rfl ?_
    refine r_lmul 26 (hJ.pu _ _ _) dX12_value_25 rfl ?_
    refine r_lstore_n 27 [(2, .long (((Int32.toInt64 (c 1)) * 1000000) * (Int32.toInt64 1))), (0, .ref a), (1, .ref it)] (hJ.pu _ _ _) dX12_value_26 rfl (by decide) rfl rfl ?_
    refine r_aload_n 28 1 (hJ.pu _ _ _) dX12_value_27 rfl rfl ?_
    refine j_getf 31 hJ (T := TX12) (C := RX12) 2 (v := .int (c 2)) okX12 (hc.fld 2 rfl) rfl (by decide) (Or.inl q2297) (Or.inl rfl) dX12_value_28 rfl ?_
    refine r_if_le 34 54 (hJ.pu _ _ _) dX12_value_31 (by decide) (fun c31 => ?_) rfl (fun c31 => ?_)
    · refine r_lconst 55 0 (hJ.pu _ _ _) dX12_value_54 (by decide) rfl ?_
      refine r_lload_n 56 0 (hJ.pu _ _ _) dX12_value_55 rfl rfl ?_
      refine r_aload_n 57 1 (hJ.pu _ _ _) dX12_value_56 rfl rfl ?_
      refine j_getf 60 hJ (T := TX12) (C := RX12) 4 (v := .int (c 4)) okX12 (hc.fld 4 rfl) rfl (by decide) (Or.inl q2299) (Or.inl rfl) dX12_value_57 rfl ?_
      refine r_i2l 61 (hJ.pu _ _ _) dX12_value_60 rfl ?_
      refine r_ldc2 64 (hJ.pu _ _ _) dX12_value_61 q1949 rfl ?_
      refine r_lmul 65 (hJ.pu _ _ _) dX12_value_64 rfl ?_
      refine r_aload_n 66 2 (hJ.pu _ _ _) dX12_value_65 rfl rfl ?_
      refine r_aload_n 67 1 (hJ.pu _ _ _) dX12_value_66 rfl rfl ?_
      refine j_getf 70 hJ (T := TX12) (C := RX12) 3 (v := .int (c 3)) okX12 (hc.fld 3 rfl) rfl (by decide) (Or.inl q2298) (Or.inl rfl) dX12_value_67 rfl ?_
      refine j_callp 73 hJ (cp_X7_above D l it x f (c 3) h1 h3) lk_X12_61 1 yk_X7_above rfl ⟨by decide, by decide⟩ h0 rfl rfl (Nat.le_of_ble_eq_true rfl) dX12_value_70 ⟨Nat.zero_le _, Nat.zero_le _⟩ rfl ?_
      refine r_lmul 74 (hJ.pu _ _ _) dX12_value_73 rfl ?_
      refine r_lsub 75 (hJ.pu _ _ _) dX12_value_74 rfl ?_
      refine j_maxL 78 hJ q1952 ⟨by decide, by decide⟩ (Nat.le_of_ble_eq_true rfl) dX12_value_75 ⟨Nat.zero_le _, Nat.zero_le _⟩ rfl ?_
      exact Rt.lg hR dX12_value_78 (Nat.zero_le _) (Nat.zero_le _) ⟨(by simp [valK, valK1, valK0, *]), rfl⟩
    · refine r_lload_n 35 0 (hJ.pu _ _ _) dX12_value_34 rfl rfl ?_
      refine r_aload_n 36 1 (hJ.pu _ _ _) dX12_value_35 rfl rfl ?_
      refine j_getf 39 hJ (T := TX12) (C := RX12) 2 (v := .int (c 2)) okX12 (hc.fld 2 rfl) rfl (by decide) (Or.inl q2297) (Or.inl rfl) dX12_value_36 rfl ?_
      refine r_i2l 40 (hJ.pu _ _ _) dX12_value_39 rfl ?_
      refine r_ldc2 43 (hJ.pu _ _ _) dX12_value_40 q1949 rfl ?_
      refine r_lmul 44 (hJ.pu _ _ _) dX12_value_43 rfl ?_
      refine r_aload_n 45 2 (hJ.pu _ _ _) dX12_value_44 rfl rfl ?_
      refine j_getf 48 hJ (T := TX7) (C := RX7) 0 (v := .int e) okX7 h0 rfl (by decide) (Or.inr ⟨_, nw_q501⟩) (Or.inl rfl) dX12_value_45 rfl ?_
      refine r_i2l 49 (hJ.pu _ _ _) dX12_value_48 rfl ?_
      refine r_lmul 50 (hJ.pu _ _ _) dX12_value_49 rfl ?_
      refine j_minL 53 hJ q1950 ⟨by decide, by decide⟩ (Nat.le_of_ble_eq_true rfl) dX12_value_50 ⟨Nat.zero_le _, Nat.zero_le _⟩ rfl ?_
      refine r_lstore_n 54 [(2, .long (minL (((Int32.toInt64 (c 1)) * 1000000) * (Int32.toInt64 1)) (((Int32.toInt64 (c 2)) * 1000) * (Int32.toInt64 e)))), (0, .ref a), (1, .ref it)] (hJ.pu _ _ _) dX12_value_53 rfl (by decide) rfl rfl ?_
      refine r_lconst 55 0 (hJ.pu _ _ _) dX12_value_54 (by decide) rfl ?_
      refine r_lload_n 56 0 (hJ.pu _ _ _) dX12_value_55 rfl rfl ?_
      refine r_aload_n 57 1 (hJ.pu _ _ _) dX12_value_56 rfl rfl ?_
      refine j_getf 60 hJ (T := TX12) (C := RX12) 4 (v := .int (c 4)) okX12 (hc.fld 4 rfl) rfl (by decide) (Or.inl q2299) (Or.inl rfl) dX12_value_57 rfl ?_
      refine r_i2l 61 (hJ.pu _ _ _) dX12_value_60 rfl ?_
      refine r_ldc2 64 (hJ.pu _ _ _) dX12_value_61 q1949 rfl ?_
      refine r_lmul 65 (hJ.pu _ _ _) dX12_value_64 rfl ?_
      refine r_aload_n 66 2 (hJ.pu _ _ _) dX12_value_65 rfl rfl ?_
      refine r_aload_n 67 1 (hJ.pu _ _ _) dX12_value_66 rfl rfl ?_
      refine j_getf 70 hJ (T := TX12) (C := RX12) 3 (v := .int (c 3)) okX12 (hc.fld 3 rfl) rfl (by decide) (Or.inl q2298) (Or.inl rfl) dX12_value_67 rfl ?_
      refine j_callp 73 hJ (cp_X7_above D l it x f (c 3) h1 h3) lk_X12_61 1 yk_X7_above rfl ⟨by decide, by decide⟩ h0 rfl rfl (Nat.le_of_ble_eq_true rfl) dX12_value_70 ⟨Nat.zero_le _, Nat.zero_le _⟩ rfl ?_
      refine r_lmul 74 (hJ.pu _ _ _) dX12_value_73 rfl ?_
      refine r_lsub 75 (hJ.pu _ _ _) dX12_value_74 rfl ?_
      refine j_maxL 78 hJ q1952 ⟨by decide, by decide⟩ (Nat.le_of_ble_eq_true rfl) dX12_value_75 ⟨Nat.zero_le _, Nat.zero_le _⟩ rfl ?_
      exact Rt.lg hR dX12_value_78 (Nat.zero_le _) (Nat.zero_le _) ⟨(by simp [valK, valK1, valK0, *]), rfl⟩
  · refine r_aload_n 17 1 (hJ.pu _ _ _) dX12_value_16 rfl rfl ?_
    refine j_getf 20 hJ (T := TX7) (C := RX7) 2 (v := .int d) okX7 h2 rfl (by decide) (Or.inr ⟨_, nw_q506⟩) (Or.inl rfl) dX12_value_17 rfl ?_
    refine r_goto 24 (hJ.pu _ _ _) dX12_value_20 (by decide) ?_
    refine r_i2l 25 (hJ.pu _ _ _) dX12_value_24 rfl ?_
    refine r_lmul 26 (hJ.pu _ _ _) dX12_value_25 rfl ?_
    refine r_lstore_n 27 [(2, .long (((Int32.toInt64 (c 1)) * 1000000) * (Int32.toInt64 d))), (0, .ref a), (1, .ref it)] (hJ.pu _ _ _) dX12_value_26 rfl (by decide) rfl rfl ?_
    refine r_aload_n 28 1 (hJ.pu _ _ _) dX12_value_27 rfl rfl ?_
    refine j_getf 31 hJ (T := TX12) (C := RX12) 2 (v := .int (c 2)) okX12 (hc.fld 2 rfl) rfl (by decide) (Or.inl q2297) (Or.inl rfl) dX12_value_28 rfl ?_
    refine r_if_le 34 54 (hJ.pu _ _ _) dX12_value_31 (by decide) (fun c31 => ?_) rfl (fun c31 => ?_)
    · refine r_lconst 55 0 (hJ.pu _ _ _) dX12_value_54 (by decide) rfl ?_
      refine r_lload_n 56 0 (hJ.pu _ _ _) dX12_value_55 rfl rfl ?_
      refine r_aload_n 57 1 (hJ.pu _ _ _) dX12_value_56 rfl rfl ?_
      refine j_getf 60 hJ (T := TX12) (C := RX12) 4 (v := .int (c 4)) okX12 (hc.fld 4 rfl) rfl (by decide) (Or.inl q2299) (Or.inl rfl) dX12_value_57 rfl ?_
      refine r_i2l 61 (hJ.pu _ _ _) dX12_value_60 rfl ?_
      refine r_ldc2 64 (hJ.pu _ _ _) dX12_value_61 q1949 rfl ?_
      refine r_lmul 65 (hJ.pu _ _ _) dX12_value_64 rfl ?_
      refine r_aload_n 66 2 (hJ.pu _ _ _) dX12_value_65 rfl rfl ?_
      refine r_aload_n 67 1 (hJ.pu _ _ _) dX12_value_66 rfl rfl ?_
      refine j_getf 70 hJ (T := TX12) (C := RX12) 3 (v := .int (c 3)) okX12 (hc.fld 3 rfl) rfl (by decide) (Or.inl q2298) (Or.inl rfl) dX12_value_67 rfl ?_
      refine j_callp 73 hJ (cp_X7_above D l it x f (c 3) h1 h3) lk_X12_61 1 yk_X7_above rfl ⟨by decide, by decide⟩ h0 rfl rfl (Nat.le_of_ble_eq_true rfl) dX12_value_70 ⟨Nat.zero_le _, Nat.zero_le _⟩ rfl ?_
      refine r_lmul 74 (hJ.pu _ _ _) dX12_value_73 rfl ?_
      refine r_lsub 75 (hJ.pu _ _ _) dX12_value_74 rfl ?_
      refine j_maxL 78 hJ q1952 ⟨by decide, by decide⟩ (Nat.le_of_ble_eq_true rfl) dX12_value_75 ⟨Nat.zero_le _, Nat.zero_le _⟩ rfl ?_
      exact Rt.lg hR dX12_value_78 (Nat.zero_le _) (Nat.zero_le _) ⟨(by simp [valK, valK1, valK0, *]), rfl⟩
    · refine r_lload_n 35 0 (hJ.pu _ _ _) dX12_value_34 rfl rfl ?_
      refine r_aload_n 36 1 (hJ.pu _ _ _) dX12_value_35 rfl rfl ?_
      refine j_getf 39 hJ (T := TX12) (C := RX12) 2 (v := .int (c 2)) okX12 (hc.fld 2 rfl) rfl (by decide) (Or.inl q2297) (Or.inl rfl) dX12_value_36 rfl ?_
      refine r_i2l 40 (hJ.pu _ _ _) dX12_value_39 rfl ?_
      refine r_ldc2 43 (hJ.pu _ _ _) dX12_value_40 q1949 rfl ?_
      refine r_lmul 44 (hJ.pu _ _ _) dX12_value_43 rfl ?_
      refine r_aload_n 45 2 (hJ.pu _ _ _) dX12_value_44 rfl rfl ?_
      refine j_getf 48 hJ (T := TX7) (C := RX7) 0 (v := .int e) okX7 h0 rfl (by decide) (Or.inr ⟨_, nw_q501⟩) (Or.inl rfl) dX12_value_45 rfl ?_
      refine r_i2l 49 (hJ.pu _ _ _) dX12_value_48 rfl ?_
      refine r_lmul 50 (hJ.pu _ _ _) dX12_value_49 rfl ?_
      refine j_minL 53 hJ q1950 ⟨by decide, by decide⟩ (Nat.le_of_ble_eq_true rfl) dX12_value_50 ⟨Nat.zero_le _, Nat.zero_le _⟩ rfl ?_
      refine r_lstore_n 54 [(2, .long (minL (((Int32.toInt64 (c 1)) * 1000000) * (Int32.toInt64 d)) (((Int32.toInt64 (c 2)) * 1000) * (Int32.toInt64 e)))), (0, .ref a), (1, .ref it)] (hJ.pu _ _ _) dX12_value_53 rfl (by decide) rfl rfl ?_
      refine r_lconst 55 0 (hJ.pu _ _ _) dX12_value_54 (by decide) rfl ?_
      refine r_lload_n 56 0 (hJ.pu _ _ _) dX12_value_55 rfl rfl ?_
      refine r_aload_n 57 1 (hJ.pu _ _ _) dX12_value_56 rfl rfl ?_
      refine j_getf 60 hJ (T := TX12) (C := RX12) 4 (v := .int (c 4)) okX12 (hc.fld 4 rfl) rfl (by decide) (Or.inl q2299) (Or.inl rfl) dX12_value_57 rfl ?_
      refine r_i2l 61 (hJ.pu _ _ _) dX12_value_60 rfl ?_
      refine r_ldc2 64 (hJ.pu _ _ _) dX12_value_61 q1949 rfl ?_
      refine r_lmul 65 (hJ.pu _ _ _) dX12_value_64 rfl ?_
      refine r_aload_n 66 2 (hJ.pu _ _ _) dX12_value_65 rfl rfl ?_
      refine r_aload_n 67 1 (hJ.pu _ _ _) dX12_value_66 rfl rfl ?_
      refine j_getf 70 hJ (T := TX12) (C := RX12) 3 (v := .int (c 3)) okX12 (hc.fld 3 rfl) rfl (by decide) (Or.inl q2298) (Or.inl rfl) dX12_value_67 rfl ?_
      refine j_callp 73 hJ (cp_X7_above D l it x f (c 3) h1 h3) lk_X12_61 1 yk_X7_above rfl ⟨by decide, by decide⟩ h0 rfl rfl (Nat.le_of_ble_eq_true rfl) dX12_value_70 ⟨Nat.zero_le _, Nat.zero_le _⟩ rfl ?_
      refine r_lmul 74 (hJ.pu _ _ _) dX12_value_73 rfl ?_
      refine r_lsub 75 (hJ.pu _ _ _) dX12_value_74 rfl ?_
      refine j_maxL 78 hJ q1952 ⟨by decide, by decide⟩ (Nat.le_of_ble_eq_true rfl) dX12_value_75 ⟨Nat.zero_le _, Nat.zero_le _⟩ rfl ?_
      exact Rt.lg hR dX12_value_78 (Nat.zero_le _) (Nat.zero_le _) ⟨(by simp [valK, valK1, valK0, *]), rfl⟩
set_option maxHeartbeats 2000000 in
theorem cp_X12_isAllowed (D : DD) (l : Launch) {H0 : Heap} {K : Nat → Prop} (a : Nat) (c : Nat → Int32) (hc : obK K D 11 [.int (c 0), .int (c 1), .int (c 2), .int (c 3), .int (c 4), .int (c 5)] a H0) : Cp D l yX12_isAllowed cX12_isAllowed 1 (some .boolean) 0 0 [.ref a] H0 (some (.int (zB (decide (¬ 999 < c 2) && decide (¬ 999 < c 4))))) := by
  refine Cp.of (by decide) (Nat.le_of_ble_eq_true rfl) (fun s A J hJ hR => ?_)
  show J H0 0 0 0 [] [(0, .ref a)]
  refine r_aload_n 1 0 (hJ.pu _ _ _) dX12_isAllowed_0 rfl rfl ?_
  refine j_getf 4 hJ (T := TX12) (C := RX12) 2 (v := .int (c 2)) okX12 (hc.fld 2 rfl) rfl (by decide) (Or.inl q2297) (Or.inl rfl) dX12_isAllowed_1 rfl ?_
  refine r_sipush 7 999 (hJ.pu _ _ _) dX12_isAllowed_4 (by decide) rfl ?_
  refine r_icmp_gt 10 24 (hJ.pu _ _ _) dX12_isAllowed_7 (by decide) (fun c7 => ?_) rfl (fun c7 => ?_)
  · refine r_iconst 25 0 (hJ.pu _ _ _) dX12_isAllowed_24 (by decide) rfl ?_
    exact Rt.i hR rfl dX12_isAllowed_25 (Nat.zero_le _) (Nat.zero_le _) ⟨(by simp [zB, *]), rfl⟩
  · refine r_aload_n 11 0 (hJ.pu _ _ _) dX12_isAllowed_10 rfl rfl ?_
    refine j_getf 14 hJ (T := TX12) (C := RX12) 4 (v := .int (c 4)) okX12 (hc.fld 4 rfl) rfl (by decide) (Or.inl q2299) (Or.inl rfl) dX12_isAllowed_11 rfl ?_
    refine r_sipush 17 999 (hJ.pu _ _ _) dX12_isAllowed_14 (by decide) rfl ?_
    refine r_icmp_gt 20 24 (hJ.pu _ _ _) dX12_isAllowed_17 (by decide) (fun c17 => ?_) rfl (fun c17 => ?_)
    · refine r_iconst 25 0 (hJ.pu _ _ _) dX12_isAllowed_24 (by decide) rfl ?_
      exact Rt.i hR rfl dX12_isAllowed_25 (Nat.zero_le _) (Nat.zero_le _) ⟨(by simp [zB, *]), rfl⟩
    · refine r_iconst 21 1 (hJ.pu _ _ _) dX12_isAllowed_20 (by decide) rfl ?_
      refine r_goto 25 (hJ.pu _ _ _) dX12_isAllowed_21 (by decide) ?_
      exact Rt.i hR rfl dX12_isAllowed_25 (Nat.zero_le _) (Nat.zero_le _) ⟨(by simp [zB, *]), rfl⟩
set_option maxHeartbeats 2000000 in
theorem cp_X12_part (D : DD) (l : Launch) {H0 : Heap} {K : Nat → Prop} (a : Nat) (c : Nat → Int32) (hc : obK K D 11 [.int (c 0), .int (c 1), .int (c 2), .int (c 3), .int (c 4), .int (c 5)] a H0) (pt : Nat) (hp : pt < 6) (hb : c 5 = 0 ∨ c 5 = 1) : Cp D l yX12_part cX12_part 2 (some .int) 0 0 [.ref a, .int (nI pt)] H0 (some (.int (c pt))) := by
  refine Cp.of (by decide) (Nat.le_of_ble_eq_true rfl) (fun s A J hJ hR => ?_)
  show J H0 0 0 0 [] [(0, .ref a), (1, .int (nI pt))]
  refine r_iload_n 1 1 (hJ.pu _ _ _) dX12_part_0 rfl rfl ?_
  rcases (show pt = 0 ∨ pt = 1 ∨ pt = 2 ∨ pt = 3 ∨ pt = 4 ∨ pt = 5 by omega) with rfl | rfl | rfl | rfl | rfl | rfl
  · refine r_tableIn 36 (hJ.pu _ _ _) dX12_part_1 (by decide) (by decide) rfl (by decide) ?_
    refine r_aload_n 37 0 (hJ.pu _ _ _) dX12_part_36 rfl rfl ?_
    refine j_getf 40 hJ (T := TX12) (C := RX12) 0 (v := .int (c 0)) okX12 (hc.fld 0 rfl) rfl (by decide) (Or.inl q2294) (Or.inl rfl) dX12_part_37 rfl ?_
    exact Rt.i hR rfl dX12_part_40 (Nat.zero_le _) (Nat.zero_le _) ⟨rfl, rfl⟩
  · refine r_tableIn 41 (hJ.pu _ _ _) dX12_part_1 (by decide) (by decide) rfl (by decide) ?_
    refine r_aload_n 42 0 (hJ.pu _ _ _) dX12_part_41 rfl rfl ?_
    refine j_getf 45 hJ (T := TX12) (C := RX12) 1 (v := .int (c 1)) okX12 (hc.fld 1 rfl) rfl (by decide) (Or.inl q2296) (Or.inl rfl) dX12_part_42 rfl ?_
    exact Rt.i hR rfl dX12_part_45 (Nat.zero_le _) (Nat.zero_le _) ⟨rfl, rfl⟩
  · refine r_tableIn 46 (hJ.pu _ _ _) dX12_part_1 (by decide) (by decide) rfl (by decide) ?_
    refine r_aload_n 47 0 (hJ.pu _ _ _) dX12_part_46 rfl rfl ?_
    refine j_getf 50 hJ (T := TX12) (C := RX12) 2 (v := .int (c 2)) okX12 (hc.fld 2 rfl) rfl (by decide) (Or.inl q2297) (Or.inl rfl) dX12_part_47 rfl ?_
    exact Rt.i hR rfl dX12_part_50 (Nat.zero_le _) (Nat.zero_le _) ⟨rfl, rfl⟩
  · refine r_tableIn 51 (hJ.pu _ _ _) dX12_part_1 (by decide) (by decide) rfl (by decide) ?_
    refine r_aload_n 52 0 (hJ.pu _ _ _) dX12_part_51 rfl rfl ?_
    refine j_getf 55 hJ (T := TX12) (C := RX12) 3 (v := .int (c 3)) okX12 (hc.fld 3 rfl) rfl (by decide) (Or.inl q2298) (Or.inl rfl) dX12_part_52 rfl ?_
    exact Rt.i hR rfl dX12_part_55 (Nat.zero_le _) (Nat.zero_le _) ⟨rfl, rfl⟩
  · refine r_tableIn 56 (hJ.pu _ _ _) dX12_part_1 (by decide) (by decide) rfl (by decide) ?_
    refine r_aload_n 57 0 (hJ.pu _ _ _) dX12_part_56 rfl rfl ?_
    refine j_getf 60 hJ (T := TX12) (C := RX12) 4 (v := .int (c 4)) okX12 (hc.fld 4 rfl) rfl (by decide) (Or.inl q2299) (Or.inl rfl) dX12_part_57 rfl ?_
    exact Rt.i hR rfl dX12_part_60 (Nat.zero_le _) (Nat.zero_le _) ⟨rfl, rfl⟩
  · refine r_tableOut 61 (hJ.pu _ _ _) dX12_part_1 (by decide) (by decide) ?_
    refine r_aload_n 62 0 (hJ.pu _ _ _) dX12_part_61 rfl rfl ?_
    refine j_getf 65 hJ (T := TX12) (C := RX12) 5 (v := .int (c 5)) okX12 (hc.fld 5 rfl) rfl (by decide) (Or.inl q2300) (Or.inl rfl) dX12_part_62 rfl ?_
    refine r_if_eq 68 72 (hJ.pu _ _ _) dX12_part_65 (by decide) (fun c65 => ?_) rfl (fun c65 => ?_)
    · refine r_iconst 73 0 (hJ.pu _ _ _) dX12_part_72 (by decide) rfl ?_
      exact Rt.i hR rfl dX12_part_73 (Nat.zero_le _) (Nat.zero_le _) ⟨(by rcases hb with hb | hb <;> simp_all), rfl⟩
    · refine r_iconst 69 1 (hJ.pu _ _ _) dX12_part_68 (by decide) rfl ?_
      refine r_goto 73 (hJ.pu _ _ _) dX12_part_69 (by decide) ?_
      exact Rt.i hR rfl dX12_part_73 (Nat.zero_le _) (Nat.zero_le _) ⟨(by rcases hb with hb | hb <;> simp_all), rfl⟩
theorem lk_X3_108 : GoodIn lw_all (wsV RX3 108 yX7_above.cls yX7_above (ws_ yX7_above cX7_above 2 (some .long))) := lw_V q1904 q1905 q1906 q124 q1907
set_option maxHeartbeats 2000000 in
theorem cp_X3_allowanceLeft (D : DD) (l : Launch) {H0 : Heap} {K : Nat → Prop} (rd : Nat → Nat) (g : Nat → Int32) (nb nch ncr : Nat) (h : ruK K D rd g nb nch ncr H0) (it : Nat) (x f : Int32) (h1 : fld D 7 it 1 (.int x) H0) (h3 : fld D 7 it 3 (.int f) H0) : Cp D l yX3_allowanceLeft cX3_allowanceLeft 2 (some .long) 2 44 [.ref (rd 0), .ref it] H0 (some (.long (alwK g x f))) := by
  refine Cp.of (by decide) (Nat.le_of_ble_eq_true rfl) (fun s A J hJ hR => ?_)
  show J H0 0 0 0 [] [(0, .ref (rd 0)), (1, .ref it)]
  refine r_lconst 1 0 (hJ.pu _ _ _) dX3_allowanceLeft_0 (by decide) rfl ?_
  refine r_aload_n 2 0 (hJ.pu _ _ _) dX3_allowanceLeft_1 rfl rfl ?_
  refine j_getf 5 hJ (T := TX3) (C := RX3) 1 (v := .ref (rd 2)) okX3 (h.o.fld 1 rfl) rfl (by decide) (Or.inl q308) (Or.inl rfl) dX3_allowanceLeft_2 rfl ?_
  refine r_iconst 6 0 (hJ.pu _ _ _) dX3_allowanceLeft_5 (by decide) rfl ?_
  refine j_ialde 7 hJ 0 (h.al.el (j := 0) (by decide)) rfl (by decide) (by decide) dX3_allowanceLeft_6 rfl ?_
  refine r_i2l 8 (hJ.pu _ _ _) dX3_allowanceLeft_7 rfl ?_
  refine r_ldc2 11 (hJ.pu _ _ _) dX3_allowanceLeft_8 q1902 rfl ?_
  refine r_lmul 12 (hJ.pu _ _ _) dX3_allowanceLeft_11 rfl ?_
  refine r_aload_n 13 1 (hJ.pu _ _ _) dX3_allowanceLeft_12 rfl rfl ?_
  refine j_getf 16 hJ (T := TX7) (C := RX7) 3 (v := .int f) okX7 h3 rfl (by decide) (Or.inr ⟨_, nw_q509⟩) (Or.inl rfl) dX3_allowanceLeft_13 rfl ?_
  refine r_i2l 17 (hJ.pu _ _ _) dX3_allowanceLeft_16 rfl ?_
  refine r_lmul 18 (hJ.pu _ _ _) dX3_allowanceLeft_17 rfl ?_
  refine r_aload_n 19 0 (hJ.pu _ _ _) dX3_allowanceLeft_18 rfl rfl ?_
  refine j_getf 22 hJ (T := TX3) (C := RX3) 1 (v := .ref (rd 2)) okX3 (h.o.fld 1 rfl) rfl (by decide) (Or.inl q308) (Or.inl rfl) dX3_allowanceLeft_19 rfl ?_
  refine r_iconst 23 2 (hJ.pu _ _ _) dX3_allowanceLeft_22 (by decide) rfl ?_
  refine j_ialde 24 hJ 2 (h.al.el (j := 2) (by decide)) rfl (by decide) (by decide) dX3_allowanceLeft_23 rfl ?_
  refine r_i2l 25 (hJ.pu _ _ _) dX3_allowanceLeft_24 rfl ?_
  refine r_ldc2 28 (hJ.pu _ _ _) dX3_allowanceLeft_25 q1903 rfl ?_
  refine r_lmul 29 (hJ.pu _ _ _) dX3_allowanceLeft_28 rfl ?_
  refine r_aload_n 30 1 (hJ.pu _ _ _) dX3_allowanceLeft_29 rfl rfl ?_
  refine r_aload_n 31 0 (hJ.pu _ _ _) dX3_allowanceLeft_30 rfl rfl ?_
  refine j_getf 34 hJ (T := TX3) (C := RX3) 1 (v := .ref (rd 2)) okX3 (h.o.fld 1 rfl) rfl (by decide) (Or.inl q308) (Or.inl rfl) dX3_allowanceLeft_31 rfl ?_
  refine r_iconst 35 1 (hJ.pu _ _ _) dX3_allowanceLeft_34 (by decide) rfl ?_
  refine j_ialde 36 hJ 1 (h.al.el (j := 1) (by decide)) rfl (by decide) (by decide) dX3_allowanceLeft_35 rfl ?_
  refine j_callp 39 hJ (cp_X7_above D l it x f (g 14) h1 h3) lk_X3_108 1 yk_X7_above rfl ⟨by decide, by decide⟩ h1 rfl rfl (Nat.le_of_ble_eq_true rfl) dX3_allowanceLeft_36 ⟨Nat.zero_le _, Nat.zero_le _⟩ rfl ?_
  refine r_lmul 40 (hJ.pu _ _ _) dX3_allowanceLeft_39 rfl ?_
  refine r_lsub 41 (hJ.pu _ _ _) dX3_allowanceLeft_40 rfl ?_
  refine j_maxL 44 hJ q1911 ⟨by decide, by decide⟩ (Nat.le_of_ble_eq_true rfl) dX3_allowanceLeft_41 ⟨Nat.zero_le _, Nat.zero_le _⟩ rfl ?_
  exact Rt.lg hR dX3_allowanceLeft_44 (Nat.zero_le _) (Nat.zero_le _) ⟨rfl, rfl⟩
set_option maxHeartbeats 2000000 in
theorem cp_X3_minimum (D : DD) (l : Launch) {H0 : Heap} {K : Nat → Prop} (rd : Nat → Nat) (g : Nat → Int32) (nb nch ncr : Nat) (h : ruK K D rd g nb nch ncr H0) (it : Nat) (x f : Int32) (h1 : fld D 7 it 1 (.int x) H0) (h3 : fld D 7 it 3 (.int f) H0) : Cp D l yX3_minimum cX3_minimum 2 (some .long) 2 44 [.ref (rd 0), .ref it] H0 (some (.long (minK g x f))) := by
  refine Cp.of (by decide) (Nat.le_of_ble_eq_true rfl) (fun s A J hJ hR => ?_)
  show J H0 0 0 0 [] [(0, .ref (rd 0)), (1, .ref it)]
  refine r_aload_n 1 0 (hJ.pu _ _ _) dX3_minimum_0 rfl rfl ?_
  refine j_getf 4 hJ (T := TX3) (C := RX3) 2 (v := .ref (rd 3)) okX3 (h.o.fld 2 rfl) rfl (by decide) (Or.inl q311) (Or.inl rfl) dX3_minimum_1 rfl ?_
  refine r_iconst 5 1 (hJ.pu _ _ _) dX3_minimum_4 (by decide) rfl ?_
  refine j_ialde 6 hJ 1 (h.mi.el (j := 1) (by decide)) rfl (by decide) (by decide) dX3_minimum_5 rfl ?_
  refine r_i2l 7 (hJ.pu _ _ _) dX3_minimum_6 rfl ?_
  refine r_ldc2 10 (hJ.pu _ _ _) dX3_minimum_7 q1903 rfl ?_
  refine r_lmul 11 (hJ.pu _ _ _) dX3_minimum_10 rfl ?_
  refine r_aload_n 12 1 (hJ.pu _ _ _) dX3_minimum_11 rfl rfl ?_
  refine r_aload_n 13 0 (hJ.pu _ _ _) dX3_minimum_12 rfl rfl ?_
  refine j_getf 16 hJ (T := TX3) (C := RX3) 2 (v := .ref (rd 3)) okX3 (h.o.fld 2 rfl) rfl (by decide) (Or.inl q311) (Or.inl rfl) dX3_minimum_13 rfl ?_
  refine r_iconst 17 0 (hJ.pu _ _ _) dX3_minimum_16 (by decide) rfl ?_
  refine j_ialde 18 hJ 0 (h.mi.el (j := 0) (by decide)) rfl (by decide) (by decide) dX3_minimum_17 rfl ?_
  refine j_callp 21 hJ (cp_X7_above D l it x f (g 16) h1 h3) lk_X3_108 1 yk_X7_above rfl ⟨by decide, by decide⟩ h1 rfl rfl (Nat.le_of_ble_eq_true rfl) dX3_minimum_18 ⟨Nat.zero_le _, Nat.zero_le _⟩ rfl ?_
  refine r_lmul 22 (hJ.pu _ _ _) dX3_minimum_21 rfl ?_
  exact Rt.lg hR dX3_minimum_22 (Nat.zero_le _) (Nat.zero_le _) ⟨rfl, rfl⟩
theorem lf_X3_59_J8_size : GoodIn lw_all (va_wsF RX3 59 "java/util/ArrayList" ⟨"java/util/List", "size", "()I"⟩ yJ8_size (ws_ yJ8_size cJ8_size 1 (some .int))) := lw_F q1919 q1822 q584 q114 q586
theorem yf_List_size_0 : yOk ⟨"java/util/List", "size", "()I"⟩ 0 := by decide +kernel
theorem lf_X3_59_J4_size : GoodIn lw_all (va_wsF RX3 59 "java/util/ImmutableCollections$List12" ⟨"java/util/List", "size", "()I"⟩ yJ4_size (ws_ yJ4_size cJ4_size 1 (some .int))) := lw_F q1919 q1857 q650 q110 q651
theorem lf_X3_67_J8_get : GoodIn lw_all (va_wsF RX3 67 "java/util/ArrayList" ⟨"java/util/List", "get", "(I)Ljava/lang/Object;"⟩ yJ8_get (ws_ yJ8_get cJ8_get 2 (Option.some (ClassFile.FieldType.object "java/lang/Object")))) := lw_F q1921 q1554 q1391 q114 q1392
theorem yf_List_get_1 : yOk ⟨"java/util/List", "get", "(I)Ljava/lang/Object;"⟩ 1 := by decide +kernel
theorem lf_X3_67_J4_get : GoodIn lw_all (va_wsF RX3 67 "java/util/ImmutableCollections$List12" ⟨"java/util/List", "get", "(I)Ljava/lang/Object;"⟩ yJ4_get (ws_ yJ4_get cJ4_get 2 (Option.some (ClassFile.FieldType.object "java/lang/Object")))) := lw_F q1921 q1573 q1575 q110 q1577
set_option maxHeartbeats 2000000 in
theorem cp_X3_scheduled (D : DD) (l : Launch) {H0 : Heap} {K : Nat → Prop} (rd : Nat → Nat) (g : Nat → Int32) (nb nch ncr : Nat) (h : ruK K D rd g nb nch ncr H0) (hb : nb ≤ 6) (tx : Int64) (f : Int32) : Cp D l yX3_scheduled cX3_scheduled 11 (some .long) 4 120 [.ref (rd 0), .long tx, .int f] H0 (some (.long (schK g nb tx f nb))) := by
  refine Cp.of (by decide) (Nat.le_of_ble_eq_true rfl) (fun s A J hJ hR => ?_)
  show J H0 0 0 0 [] [(0, .ref (rd 0)), (1, .long tx), (3, .int f)]
  refine r_lconst 1 0 (hJ.pu _ _ _) dX3_scheduled_0 (by decide) rfl ?_
  refine r_lstore 3 [(4, .long 0), (0, .ref (rd 0)), (1, .long tx), (3, .int f)] (hJ.pu _ _ _) dX3_scheduled_1 (by decide) rfl rfl ?_
  refine r_iconst 4 0 (hJ.pu _ _ _) dX3_scheduled_3 (by decide) rfl ?_
  refine r_istore 6 [(6, .int 0), (4, .long 0), (0, .ref (rd 0)), (1, .long tx), (3, .int f)] (hJ.pu _ _ _) dX3_scheduled_4 (by decide) rfl rfl ?_
  have lp_6 : ∀ (m : Nat) (k : Nat), (k ≤ nb) → (nb - k) < m → J H0 0 0 6 [] [(6, .int (nI k)), (4, .long (schK g nb tx f k)), (0, .ref (rd 0)), (1, .long tx), (3, .int f)] := by
    intro m
    induction m with
    | zero => intro k hk hm; exact absurd hm (Nat.not_lt_zero _)
    | succ m ih =>
      intro k hk hm
      refine r_iload 8 0 (hJ.pu _ _ _) dX3_scheduled_6 rfl rfl ?_
      refine r_aload_n 9 2 (hJ.pu _ _ _) dX3_scheduled_8 rfl rfl ?_
      refine j_getf 12 hJ (T := TX3) (C := RX3) 0 (v := .ref (rd 1)) okX3 (h.o.fld 0 rfl) rfl (by decide) (Or.inl q305) (Or.inl rfl) dX3_scheduled_9 rfl ?_
      refine j_lsSize 17 hJ h.bl lf_X3_59_J8_size lf_X3_59_J4_size ⟨by decide, by decide⟩ (Nat.le_of_ble_eq_true rfl) dX3_scheduled_12 ⟨Nat.zero_le _, Nat.zero_le _⟩ rfl ?_
      refine r_icmp_geN k nb 20 145 (hJ.pu _ _ _) dX3_scheduled_17 (by omega) (by omega) (by decide) (fun c17 => ?_) rfl (fun c17 => ?_)
      · have hkn : k = nb := by omega
        subst hkn
        refine r_lload 147 1 (hJ.pu _ _ _) dX3_scheduled_145 rfl rfl ?_
        exact Rt.lg hR dX3_scheduled_147 (Nat.zero_le _) (Nat.zero_le _) ⟨rfl, rfl⟩
      · refine r_aload_n 21 2 (hJ.pu _ _ _) dX3_scheduled_20 rfl rfl ?_
        refine j_getf 24 hJ (T := TX3) (C := RX3) 0 (v := .ref (rd 1)) okX3 (h.o.fld 0 rfl) rfl (by decide) (Or.inl q305) (Or.inl rfl) dX3_scheduled_21 rfl ?_
        refine r_iload 26 0 (hJ.pu _ _ _) dX3_scheduled_24 rfl rfl ?_
        refine j_lsGet 31 hJ h.bl k (by omega) lf_X3_67_J8_get lf_X3_67_J4_get ⟨by decide, by decide⟩ (Nat.le_of_ble_eq_true rfl) dX3_scheduled_26 ⟨Nat.zero_le _, Nat.zero_le _⟩ rfl ?_
        refine j_castf 34 hJ ((h.b (k := k) (by omega)).fld 0 rfl) rfl q193 dX3_scheduled_31 rfl ?_
        refine j_getf 37 hJ (T := TX4) (C := RX4) 0 (v := .int (g (1 + 2 * k))) okX4 ((h.b (k := k) (by omega)).fld 0 rfl) rfl (by decide) (Or.inr ⟨_, nw_q200⟩) (Or.inl rfl) dX3_scheduled_34 rfl ?_
        refine r_i2l 38 (hJ.pu _ _ _) dX3_scheduled_37 rfl ?_
        refine r_ldc2 41 (hJ.pu _ _ _) dX3_scheduled_38 q1902 rfl ?_
        refine r_lmul 42 (hJ.pu _ _ _) dX3_scheduled_41 rfl ?_
        refine r_iload_n 43 4 (hJ.pu _ _ _) dX3_scheduled_42 rfl rfl ?_
        refine r_i2l 44 (hJ.pu _ _ _) dX3_scheduled_43 rfl ?_
        refine r_lmul 45 (hJ.pu _ _ _) dX3_scheduled_44 rfl ?_
        refine r_lstore 47 [(7, .long (((Int32.toInt64 (g (1 + 2 * k))) * 1000000) * (Int32.toInt64 f))), (6, .int (nI k)), (4, .long (schK g nb tx f k)), (0, .ref (rd 0)), (1, .long tx), (3, .int f)] (hJ.pu _ _ _) dX3_scheduled_45 (by decide) rfl rfl ?_
        refine r_iload 49 1 (hJ.pu _ _ _) dX3_scheduled_47 rfl rfl ?_
        refine r_iconst 50 1 (hJ.pu _ _ _) dX3_scheduled_49 (by decide) rfl ?_
        refine r_iaddN k 1 (k + 1) 51 (hJ.pu _ _ _) dX3_scheduled_50 rfl rfl ?_
        refine r_aload_n 52 3 (hJ.pu _ _ _) dX3_scheduled_51 rfl rfl ?_
        refine j_getf 55 hJ (T := TX3) (C := RX3) 0 (v := .ref (rd 1)) okX3 (h.o.fld 0 rfl) rfl (by decide) (Or.inl q305) (Or.inl rfl) dX3_scheduled_52 rfl ?_
        refine j_lsSize 60 hJ h.bl lf_X3_59_J8_size lf_X3_59_J4_size ⟨by decide, by decide⟩ (Nat.le_of_ble_eq_true rfl) dX3_scheduled_55 ⟨Nat.zero_le _, Nat.zero_le _⟩ rfl ?_
        have hj_60 : J H0 0 0 96 [.long (schKt g nb f k)] [(7, .long (((Int32.toInt64 (g (1 + 2 * k))) * 1000000) * (Int32.toInt64 f))), (6, .int (nI k)), (4, .long (schK g nb tx f k)), (0, .ref (rd 0)), (1, .long tx), (3, .int f)] := by
          refine r_lstore 98 [(9, .long (schKt g nb f k)), (7, .long (((Int32.toInt64 (g (1 + 2 * k))) * 1000000) * (Int32.toInt64 f))), (6, .int (nI k)), (4, .long (schK g nb tx f k)), (0, .ref (rd 0)), (1, .long tx), (3, .int f)] (hJ.pu _ _ _) dX3_scheduled_96 (by decide) rfl rfl ?_
          refine r_lload 100 3 (hJ.pu _ _ _) dX3_scheduled_98 rfl rfl ?_
          refine r_lconst 101 0 (hJ.pu _ _ _) dX3_scheduled_100 (by decide) rfl ?_
          refine r_lload_n 102 5 (hJ.pu _ _ _) dX3_scheduled_101 rfl rfl ?_
          refine r_lload 104 0 (hJ.pu _ _ _) dX3_scheduled_102 rfl rfl ?_
          refine j_minL 107 hJ q1923 ⟨by decide, by decide⟩ (Nat.le_of_ble_eq_true rfl) dX3_scheduled_104 ⟨Nat.zero_le _, Nat.zero_le _⟩ rfl ?_
          refine r_lload 109 1 (hJ.pu _ _ _) dX3_scheduled_107 rfl rfl ?_
          refine r_lsub 110 (hJ.pu _ _ _) dX3_scheduled_109 rfl ?_
          refine j_maxL 113 hJ q1911 ⟨by decide, by decide⟩ (Nat.le_of_ble_eq_true rfl) dX3_scheduled_110 ⟨Nat.zero_le _, Nat.zero_le _⟩ rfl ?_
          refine r_ldc2 116 (hJ.pu _ _ _) dX3_scheduled_113 q1903 rfl ?_
          refine r_ldiv 117 (hJ.pu _ _ _) dX3_scheduled_116 (by decide) rfl ?_
          refine r_aload_n 118 4 (hJ.pu _ _ _) dX3_scheduled_117 rfl rfl ?_
          refine j_getf 121 hJ (T := TX3) (C := RX3) 0 (v := .ref (rd 1)) okX3 (h.o.fld 0 rfl) rfl (by decide) (Or.inl q305) (Or.inl rfl) dX3_scheduled_118 rfl ?_
          refine r_iload 123 2 (hJ.pu _ _ _) dX3_scheduled_121 rfl rfl ?_
          refine j_lsGet 128 hJ h.bl k (by omega) lf_X3_67_J8_get lf_X3_67_J4_get ⟨by decide, by decide⟩ (Nat.le_of_ble_eq_true rfl) dX3_scheduled_123 ⟨Nat.zero_le _, Nat.zero_le _⟩ rfl ?_
          refine j_castf 131 hJ ((h.b (k := k) (by omega)).fld 0 rfl) rfl q193 dX3_scheduled_128 rfl ?_
          refine j_getf 134 hJ (T := TX4) (C := RX4) 1 (v := .int (g (1 + 2 * k + 1))) okX4 ((h.b (k := k) (by omega)).fld 1 rfl) rfl (by decide) (Or.inr ⟨_, nw_q203⟩) (Or.inl rfl) dX3_scheduled_131 rfl ?_
          refine r_i2l 135 (hJ.pu _ _ _) dX3_scheduled_134 rfl ?_
          refine r_lmul 136 (hJ.pu _ _ _) dX3_scheduled_135 rfl ?_
          refine r_ladd 137 (hJ.pu _ _ _) dX3_scheduled_136 rfl ?_
          refine r_lstore 139 [(4, .long ((schK g nb tx f k) + (((maxL 0 ((minL tx (schKt g nb f k)) - (((Int32.toInt64 (g (1 + 2 * k))) * 1000000) * (Int32.toInt64 f)))) / 1000) * (Int32.toInt64 (g (1 + 2 * k + 1)))))), (9, .long (schKt g nb f k)), (7, .long (((Int32.toInt64 (g (1 + 2 * k))) * 1000000) * (Int32.toInt64 f))), (6, .int (nI k)), (0, .ref (rd 0)), (1, .long tx), (3, .int f)] (hJ.pu _ _ _) dX3_scheduled_137 (by decide) rfl rfl ?_
          refine r_iinc 142 (nI (k + 1)) 3 [(6, .int (nI (k + 1))), (4, .long ((schK g nb tx f k) + (((maxL 0 ((minL tx (schKt g nb f k)) - (((Int32.toInt64 (g (1 + 2 * k))) * 1000000) * (Int32.toInt64 f)))) / 1000) * (Int32.toInt64 (g (1 + 2 * k + 1)))))), (9, .long (schKt g nb f k)), (7, .long (((Int32.toInt64 (g (1 + 2 * k))) * 1000000) * (Int32.toInt64 f))), (0, .ref (rd 0)), (1, .long tx), (3, .int f)] (hJ.pu _ _ _) dX3_scheduled_139 rfl (nI_1 k) (by decide) rfl rfl ?_
          refine r_goto 6 (hJ.pu _ _ _) dX3_scheduled_142 (by decide) ?_
          refine (hJ.pu _ _ _).lvs [0, 1, 4, 5, 6] rfl ?_
          exact ih (k + 1) (by omega) (by omega)
        refine r_icmp_geN (k + 1) nb 63 93 (hJ.pu _ _ _) dX3_scheduled_60 (by omega) (by omega) (by decide) (fun c60 => ?_) rfl (fun c60 => ?_)
        · refine r_ldc2 96 (hJ.pu _ _ _) dX3_scheduled_93 q1922 rfl ?_
          refine r_eql (schKt g nb f k) (by unfold schKt; first | rw [if_pos (by omega)] | rw [if_neg (by omega)]) ?_
          exact hj_60
        · refine r_aload_n 64 3 (hJ.pu _ _ _) dX3_scheduled_63 rfl rfl ?_
          refine j_getf 67 hJ (T := TX3) (C := RX3) 0 (v := .ref (rd 1)) okX3 (h.o.fld 0 rfl) rfl (by decide) (Or.inl q305) (Or.inl rfl) dX3_scheduled_64 rfl ?_
          refine r_iload 69 1 (hJ.pu _ _ _) dX3_scheduled_67 rfl rfl ?_
          refine r_iconst 70 1 (hJ.pu _ _ _) dX3_scheduled_69 (by decide) rfl ?_
          refine r_iaddN k 1 (k + 1) 71 (hJ.pu _ _ _) dX3_scheduled_70 rfl rfl ?_
          refine j_lsGet 76 hJ h.bl (k + 1) (by omega) lf_X3_67_J8_get lf_X3_67_J4_get ⟨by decide, by decide⟩ (Nat.le_of_ble_eq_true rfl) dX3_scheduled_71 ⟨Nat.zero_le _, Nat.zero_le _⟩ rfl ?_
          refine j_castf 79 hJ ((h.b (k := k + 1) (by omega)).fld 0 rfl) rfl q193 dX3_scheduled_76 rfl ?_
          refine j_getf 82 hJ (T := TX4) (C := RX4) 0 (v := .int (g (1 + 2 * (k + 1)))) okX4 ((h.b (k := k + 1) (by omega)).fld 0 rfl) rfl (by decide) (Or.inr ⟨_, nw_q200⟩) (Or.inl rfl) dX3_scheduled_79 rfl ?_
          refine r_i2l 83 (hJ.pu _ _ _) dX3_scheduled_82 rfl ?_
          refine r_ldc2 86 (hJ.pu _ _ _) dX3_scheduled_83 q1902 rfl ?_
          refine r_lmul 87 (hJ.pu _ _ _) dX3_scheduled_86 rfl ?_
          refine r_iload_n 88 5 (hJ.pu _ _ _) dX3_scheduled_87 rfl rfl ?_
          refine r_i2l 89 (hJ.pu _ _ _) dX3_scheduled_88 rfl ?_
          refine r_lmul 90 (hJ.pu _ _ _) dX3_scheduled_89 rfl ?_
          refine r_goto 96 (hJ.pu _ _ _) dX3_scheduled_90 (by decide) ?_
          refine r_eql (schKt g nb f k) (by unfold schKt; first | rw [if_pos (by omega)] | rw [if_neg (by omega)]) ?_
          exact hj_60
  exact lp_6 (nb + 1) 0 (by omega) (by omega)
theorem lk_X3_97 : GoodIn lw_all (wsV RX3 97 yJ8_size.cls yJ8_size (ws_ yJ8_size cJ8_size 1 (some .int))) := lw_V q1934 q584 q585 q114 q586
theorem yk_J8_size : yOk yJ8_size 0 := by decide +kernel
theorem lk_X3_125 : GoodIn lw_all (wsV RX3 125 yJ8_get.cls yJ8_get (ws_ yJ8_get cJ8_get 2 (Option.some (ClassFile.FieldType.object "java/lang/Object")))) := lw_V q1935 q1391 q3929 q114 q1392
theorem yk_J8_get : yOk yJ8_get 1 := by decide +kernel
set_option maxHeartbeats 2000000 in
theorem cp_X3_charged (D : DD) (l : Launch) {H0 : Heap} {K : Nat → Prop} (rd : Nat → Nat) (g : Nat → Int32) (nb nch ncr : Nat) (h : ruK K D rd g nb nch ncr H0) (hc : nch ≤ 4) (it : Nat) (x f : Int32) (h1 : fld D 7 it 1 (.int x) H0) (h3 : fld D 7 it 3 (.int f) H0) : Cp D l yX3_charged cX3_charged 6 (some .long) 3 64 [.ref (rd 0), .ref it] H0 (some (.long (chaK g x f nch))) := by
  refine Cp.of (by decide) (Nat.le_of_ble_eq_true rfl) (fun s A J hJ hR => ?_)
  show J H0 0 0 0 [] [(0, .ref (rd 0)), (1, .ref it)]
  refine r_lconst 1 0 (hJ.pu _ _ _) dX3_charged_0 (by decide) rfl ?_
  refine r_lstore_n 2 [(2, .long 0), (0, .ref (rd 0)), (1, .ref it)] (hJ.pu _ _ _) dX3_charged_1 rfl (by decide) rfl rfl ?_
  refine r_iconst 3 0 (hJ.pu _ _ _) dX3_charged_2 (by decide) rfl ?_
  refine r_istore 5 [(4, .int 0), (2, .long 0), (0, .ref (rd 0)), (1, .ref it)] (hJ.pu _ _ _) dX3_charged_3 (by decide) rfl rfl ?_
  have lp_5 : ∀ (m : Nat) (k : Nat), (k ≤ nch) → (nch - k) < m → J H0 0 0 5 [] [(4, .int (nI k)), (2, .long (chaK g x f k)), (0, .ref (rd 0)), (1, .ref it)] := by
    intro m
    induction m with
    | zero => intro k hk hm; exact absurd hm (Nat.not_lt_zero _)
    | succ m ih =>
      intro k hk hm
      refine r_iload 7 0 (hJ.pu _ _ _) dX3_charged_5 rfl rfl ?_
      refine r_aload_n 8 2 (hJ.pu _ _ _) dX3_charged_7 rfl rfl ?_
      refine j_getf 11 hJ (T := TX3) (C := RX3) 3 (v := .ref (rd 4)) okX3 (h.o.fld 3 rfl) rfl (by decide) (Or.inl q314) (Or.inl rfl) dX3_charged_8 rfl ?_
      refine j_callp 14 hJ (cp_J8_size D l (rd 4) (rd 5) nch (fun k => rd (200 + k)) h.cl) lk_X3_97 0 yk_J8_size rfl ⟨by decide, by decide⟩ h.cl.sz rfl rfl (Nat.le_of_ble_eq_true rfl) dX3_charged_11 ⟨Nat.zero_le _, Nat.zero_le _⟩ rfl ?_
      refine r_icmp_geN k nch 17 75 (hJ.pu _ _ _) dX3_charged_14 (by omega) (by omega) (by decide) (fun c14 => ?_) rfl (fun c14 => ?_)
      · have hkn : k = nch := by omega
        subst hkn
        refine r_lload_n 76 1 (hJ.pu _ _ _) dX3_charged_75 rfl rfl ?_
        exact Rt.lg hR dX3_charged_76 (Nat.zero_le _) (Nat.zero_le _) ⟨rfl, rfl⟩
      · refine r_aload_n 18 2 (hJ.pu _ _ _) dX3_charged_17 rfl rfl ?_
        refine j_getf 21 hJ (T := TX3) (C := RX3) 3 (v := .ref (rd 4)) okX3 (h.o.fld 3 rfl) rfl (by decide) (Or.inl q314) (Or.inl rfl) dX3_charged_18 rfl ?_
        refine r_iload 23 0 (hJ.pu _ _ _) dX3_charged_21 rfl rfl ?_
        refine j_callp 26 hJ (cp_J8_get D l (rd 4) (rd 5) nch k (fun k => rd (200 + k)) h.cl (by omega)) lk_X3_125 1 yk_J8_get rfl ⟨by decide, by decide⟩ h.cl.sz rfl rfl (Nat.le_of_ble_eq_true rfl) dX3_charged_23 ⟨Nat.zero_le _, Nat.zero_le _⟩ rfl ?_
        refine j_castf 29 hJ ((h.c (k := k) (by omega)).fld 0 rfl) rfl q1936 dX3_charged_26 rfl ?_
        refine r_astore 31 [(5, .ref (rd (200 + k))), (4, .int (nI k)), (2, .long (chaK g x f k)), (0, .ref (rd 0)), (1, .ref it)] (hJ.pu _ _ _) dX3_charged_29 (by decide) rfl rfl ?_
        refine r_lload_n 32 2 (hJ.pu _ _ _) dX3_charged_31 rfl rfl ?_
        refine r_aload_n 33 4 (hJ.pu _ _ _) dX3_charged_32 rfl rfl ?_
        refine j_getf 36 hJ (T := TX7) (C := RX7) 1 (v := .int x) okX7 h1 rfl (by decide) (Or.inr ⟨_, nw_q504⟩) (Or.inl rfl) dX3_charged_33 rfl ?_
        refine r_i2l 37 (hJ.pu _ _ _) dX3_charged_36 rfl ?_
        refine r_aload 39 0 (hJ.pu _ _ _) dX3_charged_37 rfl rfl ?_
        refine j_getf 42 hJ (T := TX11) (C := RX11) 0 (v := .int (g (19 + 2 * k))) okX11 ((h.c (k := k) (by omega)).fld 0 rfl) rfl (by decide) (Or.inr ⟨_, nw_q2270⟩) (Or.inl rfl) dX3_charged_39 rfl ?_
        refine r_i2l 43 (hJ.pu _ _ _) dX3_charged_42 rfl ?_
        refine r_aload_n 44 4 (hJ.pu _ _ _) dX3_charged_43 rfl rfl ?_
        refine j_getf 47 hJ (T := TX7) (C := RX7) 3 (v := .int f) okX7 h3 rfl (by decide) (Or.inr ⟨_, nw_q509⟩) (Or.inl rfl) dX3_charged_44 rfl ?_
        refine r_i2l 48 (hJ.pu _ _ _) dX3_charged_47 rfl ?_
        refine r_lmul 49 (hJ.pu _ _ _) dX3_charged_48 rfl ?_
        have hj_49 : J H0 0 0 67 [.long (if x.toInt64 < (g (19 + 2 * k)).toInt64 * f.toInt64 then 0 else (g (19 + 2 * k + 1)).toInt64 * 1000000), .long (chaK g x f k)] [(5, .ref (rd (200 + k))), (4, .int (nI k)), (2, .long (chaK g x f k)), (0, .ref (rd 0)), (1, .ref it)] := by
          refine r_ladd 68 (hJ.pu _ _ _) dX3_charged_67 rfl ?_
          refine r_lstore_n 69 [(2, .long ((chaK g x f k) + (if x.toInt64 < (g (19 + 2 * k)).toInt64 * f.toInt64 then 0 else (g (19 + 2 * k + 1)).toInt64 * 1000000))), (5, .ref (rd (200 + k))), (4, .int (nI k)), (0, .ref (rd 0)), (1, .ref it)] (hJ.pu _ _ _) dX3_charged_68 rfl (by decide) rfl rfl ?_
          refine r_iinc 72 (nI (k + 1)) 2 [(4, .int (nI (k + 1))), (2, .long ((chaK g x f k) + (if x.toInt64 < (g (19 + 2 * k)).toInt64 * f.toInt64 then 0 else (g (19 + 2 * k + 1)).toInt64 * 1000000))), (5, .ref (rd (200 + k))), (0, .ref (rd 0)), (1, .ref it)] (hJ.pu _ _ _) dX3_charged_69 rfl (nI_1 k) (by decide) rfl rfl ?_
          refine r_goto 5 (hJ.pu _ _ _) dX3_charged_72 (by decide) ?_
          refine (hJ.pu _ _ _).lvs [0, 1, 3, 4] rfl ?_
          exact ih (k + 1) (by omega) (by omega)
        refine r_lc_lt 53 66 (hJ.pu _ _ _) dX3_charged_49 dX3_charged_50 (by decide) (fun c49 => ?_) rfl (fun c49 => ?_)
        · refine r_lconst 67 0 (hJ.pu _ _ _) dX3_charged_66 (by decide) rfl ?_
          refine r_eql (if x.toInt64 < (g (19 + 2 * k)).toInt64 * f.toInt64 then 0 else (g (19 + 2 * k + 1)).toInt64 * 1000000) (by first | rw [if_pos c49] | rw [if_neg c49]) ?_
          exact hj_49
        · refine r_aload 55 0 (hJ.pu _ _ _) dX3_charged_53 rfl rfl ?_
          refine j_getf 58 hJ (T := TX11) (C := RX11) 1 (v := .int (g (19 + 2 * k + 1))) okX11 ((h.c (k := k) (by omega)).fld 1 rfl) rfl (by decide) (Or.inr ⟨_, nw_q2273⟩) (Or.inl rfl) dX3_charged_55 rfl ?_
          refine r_i2l 59 (hJ.pu _ _ _) dX3_charged_58 rfl ?_
          refine r_ldc2 62 (hJ.pu _ _ _) dX3_charged_59 q1902 rfl ?_
          refine r_lmul 63 (hJ.pu _ _ _) dX3_charged_62 rfl ?_
          refine r_goto 67 (hJ.pu _ _ _) dX3_charged_63 (by decide) ?_
          refine r_eql (if x.toInt64 < (g (19 + 2 * k)).toInt64 * f.toInt64 then 0 else (g (19 + 2 * k + 1)).toInt64 * 1000000) (by first | rw [if_pos c49] | rw [if_neg c49]) ?_
          exact hj_49
  exact lp_5 (nch + 1) 0 (by omega) (by omega)
