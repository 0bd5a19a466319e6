section ROW34
variable {D : DD} {l : Launch} {s : State} {own : String} {args : Array Value} {cc : ByteArray} {nL : Nat} {R : Room} {nm : String} {KS : Nat → Prop} {Hb : Heap} {F : FJ} {k n : Nat} {ws im : va_W} {pc index : Nat} {st rest : List Value} {lv : List (Nat × Value)}
/-- two owned cells differ -/
theorem f_ne (hF : Fx D l s own args cc nL R nm KS Hb F) (i j : Nat) {c1 c2 : Nat × va_E} (h1 : ws[i]? = some c1) (h2 : ws[j]? = some c2) (hij : i < j) (kk : ¬ c1.1 = c2.1 → F k n ws im pc st lv) : F k n ws im pc st lv := by
  obtain ⟨A, B, H0, J, hJ, hB, hAK, hAB, hBB, rfl⟩ := hF
  intro H hH
  refine kk ?_ H hH
  have hw := List.pairwise_iff_getElem.mp hH.2.2.1
  obtain ⟨l1, e1⟩ := List.getElem?_eq_some_iff.mp h1
  obtain ⟨l2, e2⟩ := List.getElem?_eq_some_iff.mp h2
  have := hw i j (by simpa using l1) (by simpa using l2) hij
  simp only [List.getElem_map] at this
  rw [e1, e2] at this
  exact this
variable {y x : MethodName} {b : ByteArray} {Lm f mc ms lo o : Nat} {ret : Option FieldType} {As : List Value} {C owner : String} {Post : Option Value → va_W → va_W → Prop} {ws1 wr im1 : va_W}
theorem f_callUb (q : Nat) (hF : Fx D l s own args cc nL R nm KS Hb F) (hc : Fc D l y b Lm ret f mc ms lo KS Hb (.ref o :: As) ws1 im1 Post) (hws : ws = ws1 ++ wr) (him : ∀ c ∈ im1, c ∈ im ∨ c ∈ wr) (hnb : ∀ r ws' im', Post r ws' im' → im' = []) (hw : GoodIn lw_all (va_wsU own index C owner x y (ws_ y b Lm ret))) (hz : Cond.declares ⟨owner, x.name, x.desc⟩ ∈ nwL) (na : Nat) (hy : uOk owner x na) (hna : As.length = na) (hR : f + 1 ≤ R.frames ∧ 8 + (Lm + 11) + lo ≤ R.locals) {ci i : Nat} {w : Value} {T : u_T} {N : Nat} (ho : ∀ H, Fk D KS Hb ws im H → fld D ci o i w H) (hcl : aCl[ci]? = some (C, T, N)) (hst : st = As.reverse ++ .ref o :: rest) (hrest : (rest.map fun v => v.category).sum ≤ 8) (d : decode cc pc = .ok (.invokevirtual index, 3)) (hf : k + mc ≤ R.cells ∧ n + ms ≤ R.slots) (e : pc + 3 = q) (kk : ∀ (r : Option Value) (ws' im' : va_W), Post r ws' im' → F (k + mc) (n + ms) (ws' ++ wr) (im' ++ im) q (r.toList ++ rest) lv) : F k n ws im pc st lv := by
  subst hws
  obtain ⟨A, B, H0, J, hJ, hB, hAK, hAB, hBB, rfl⟩ := hF
  intro H hH
  refine hJ.fresh fun hfr => j_callU q hJ (hc H hB (hH.preb him hAK)) hw hz na hy hna hR (ho H hH.k) hcl hst hrest d hf hH.mem e ?_
  rintro r H1 ⟨ws', im', hp, h'⟩ hfr1
  exact kk r ws' im' hp H1 (hH.callb him (Or.inl (hnb r ws' im' hp)) h' hfr1 hAK hfr hAB hBB)
theorem f_callFb {cnt : Nat} (q : Nat) (hF : Fx D l s own args cc nL R nm KS Hb F) (hc : Fc D l y b Lm ret f mc ms lo KS Hb (.ref o :: As) ws1 im1 Post) (hws : ws = ws1 ++ wr) (him : ∀ c ∈ im1, c ∈ im ∨ c ∈ wr) (hnb : ∀ r ws' im', Post r ws' im' → im' = []) (hw : GoodIn lw_all (va_wsF own index C x y (ws_ y b Lm ret))) (hFw : (C, x, y) ∈ fwL) (hFo : fwOk (C, x, y) = true) (na : Nat) (hy : yOk x na) (hna : As.length = na) (hR : f + 1 ≤ R.frames ∧ 8 + (Lm + 11) + lo ≤ R.locals) {ci i : Nat} {w : Value} {T : u_T} {N : Nat} (ho : ∀ H, Fk D KS Hb ws im H → fld D ci o i w H) (hcl : aCl[ci]? = some (C, T, N)) (hst : st = As.reverse ++ .ref o :: rest) (hrest : (rest.map fun v => v.category).sum ≤ 8) (d : decode cc pc = .ok (.invokeinterface index cnt, 5)) (hf : k + mc ≤ R.cells ∧ n + ms ≤ R.slots) (e : pc + 5 = q) (kk : ∀ (r : Option Value) (ws' im' : va_W), Post r ws' im' → F (k + mc) (n + ms) (ws' ++ wr) (im' ++ im) q (r.toList ++ rest) lv) : F k n ws im pc st lv := by
  subst hws
  obtain ⟨A, B, H0, J, hJ, hB, hAK, hAB, hBB, rfl⟩ := hF
  intro H hH
  refine hJ.fresh fun hfr => j_callF q hJ (hc H hB (hH.preb him hAK)) hw hFw hFo na hy hna hR (ho H hH.k) hcl hst hrest d hf hH.mem e ?_
  rintro r H1 ⟨ws', im', hp, h'⟩ hfr1
  exact kk r ws' im' hp H1 (hH.callb him (Or.inl (hnb r ws' im' hp)) h' hfr1 hAK hfr hAB hBB)
end ROW34
/-- a number of the Long cache -/
theorem lg_cache {v : Int64} (h1 : ¬ v < -128) (h2 : ¬ 127 < v) : ∃ k, k < 256 ∧ v.toInt32 + 128 = nI k ∧ lN k - 128 = v := by
  have a1 : ¬ v.toInt < -128 := fun z => h1 (Int64.lt_iff_toInt_lt.mpr (by rw [show (-128 : Int64).toInt = -128 by decide]; exact z))
  have a2 : ¬ 127 < v.toInt := fun z => h2 (Int64.lt_iff_toInt_lt.mpr (by rw [show (127 : Int64).toInt = 127 by decide]; exact z))
  obtain ⟨k, hk⟩ : ∃ k : Nat, (k : Int) = v.toInt + 128 := ⟨(v.toInt + 128).toNat, Int.toNat_of_nonneg (by omega)⟩
  have hk2 : k < 256 := by omega
  have e : lN k - 128 = v := by
    refine Int64.toInt_inj.mp ?_
    rw [Int64.toInt_sub, lNi (by omega), show (128 : Int64).toInt = 128 by decide, hk, show v.toInt + 128 - 128 = v.toInt by omega]
    rw [Int.bmod_eq_of_le (by omega) (by omega)]
  refine ⟨k, hk2, ?_, e⟩
  rw [← e]
  exact (show ∀ k, k < 256 → (lN k - 128).toInt32 + 128 = nI k by decide +kernel) k hk2
theorem vbl_c {a : Nat × va_E} {L im wr : va_W} (h : a ∈ im ∨ a ∈ wr) (t : ∀ c ∈ L, c ∈ im ∨ c ∈ wr) : ∀ c ∈ a :: L, c ∈ im ∨ c ∈ wr := fun c hc => (List.mem_cons.mp hc).elim (fun e => by rw [e]; exact h) (t c)
set_option maxHeartbeats 4000000 in
theorem fc_J10_unlink_10 (D : DD) (l : Launch) {KS : Nat → Prop} {Hb : Heap} (a b y : Nat) (mc : Int32) : Fc D l yJ10_unlink cJ10_unlink 5 (Option.some (ClassFile.FieldType.object "java/lang/Object")) 0 0 0 0 KS Hb [.ref a, .ref b] ([oC a 13 [.int mc, .int 1, .ref b, .ref b], oC b 14 [.ref y, .null, .null]]) ([]) (fun r w_ i => r = some (.ref y) ∧ w_ = [oC a 13 [.int (mc + 1), .int 0, .null, .null]] ∧ i = []) := by
  refine Fc.of (by decide) (Nat.le_of_ble_eq_true rfl) (fun s F hF hR => ?_)
  show F 0 0 ([oC a 13 [.int mc, .int 1, .ref b, .ref b], oC b 14 [.ref y, .null, .null]]) ([]) 0 [] [(0, .ref a), (1, .ref b)]
  refine r_aload_n 1 1 (hF.pu _ _ _ _) dJ10_unlink_0 rfl rfl ?_
  refine f_getf 4 hF (T := TJ39) (C := RJ39) 0 (v := .ref y) okJ39 (fun _ z => ((z.o 1 rfl).fld 0 rfl)) rfl (by decide) (Or.inl q1731) (Or.inl rfl) dJ10_unlink_1 rfl ?_
  refine r_astore_n 5 [(2, .ref y), (0, .ref a), (1, .ref b)] (hF.pu _ _ _ _) dJ10_unlink_4 rfl (by decide) rfl rfl ?_
  refine r_aload_n 6 2 (hF.pu _ _ _ _) dJ10_unlink_5 rfl rfl ?_
  refine f_getf 9 hF (T := TJ39) (C := RJ39) 1 (v := .null) okJ39 (fun _ z => ((z.o 1 rfl).fld 1 rfl)) rfl (by decide) (Or.inl q1734) (Or.inl rfl) dJ10_unlink_6 rfl ?_
  refine r_astore_nN 10 [(3, .null), (2, .ref y), (0, .ref a), (1, .ref b)] (hF.pu _ _ _ _) dJ10_unlink_9 rfl (by decide) rfl rfl ?_
  refine r_aload_n 11 3 (hF.pu _ _ _ _) dJ10_unlink_10 rfl rfl ?_
  refine f_getf 14 hF (T := TJ39) (C := RJ39) 2 (v := .null) okJ39 (fun _ z => ((z.o 1 rfl).fld 2 rfl)) rfl (by decide) (Or.inl q1736) (Or.inl rfl) dJ10_unlink_11 rfl ?_
  refine r_astoreN 16 [(4, .null), (3, .null), (2, .ref y), (0, .ref a), (1, .ref b)] (hF.pu _ _ _ _) dJ10_unlink_14 (by decide) rfl rfl ?_
  refine r_aloadN 18 0 (hF.pu _ _ _ _) dJ10_unlink_16 rfl rfl ?_
  refine r_ifnonnullN 21 (hF.pu _ _ _ _) dJ10_unlink_18 rfl ?_
  refine r_aload_n 22 3 (hF.pu _ _ _ _) dJ10_unlink_21 rfl rfl ?_
  refine r_aload_nN 23 1 (hF.pu _ _ _ _) dJ10_unlink_22 rfl rfl ?_
  refine f_put 26 hF 0 (T := TJ10) (C := RJ10) ([oC a 13 [.int mc, .int 1, .null, .ref b], oC b 14 [.ref y, .null, .null]]) okJ10 rfl rfl 2 (by decide) (Or.inl q294) (Or.inl rfl) rfl rfl rfl (Nat.le_of_ble_eq_true rfl) rfl dJ10_unlink_23 rfl ?_
  refine r_goto 40 (hF.pu _ _ _ _) dJ10_unlink_26 (by decide) ?_
  refine r_aload_nN 41 1 (hF.pu _ _ _ _) dJ10_unlink_40 rfl rfl ?_
  refine r_ifnonnullN 44 (hF.pu _ _ _ _) dJ10_unlink_41 rfl ?_
  refine r_aload_n 45 3 (hF.pu _ _ _ _) dJ10_unlink_44 rfl rfl ?_
  refine r_aloadN 47 0 (hF.pu _ _ _ _) dJ10_unlink_45 rfl rfl ?_
  refine f_put 50 hF 0 (T := TJ10) (C := RJ10) ([oC a 13 [.int mc, .int 1, .null, .null], oC b 14 [.ref y, .null, .null]]) okJ10 rfl rfl 3 (by decide) (Or.inl q295) (Or.inl rfl) rfl rfl rfl (Nat.le_of_ble_eq_true rfl) rfl dJ10_unlink_47 rfl ?_
  refine r_goto 64 (hF.pu _ _ _ _) dJ10_unlink_50 (by decide) ?_
  refine r_aload_n 65 4 (hF.pu _ _ _ _) dJ10_unlink_64 rfl rfl ?_
  refine r_null 66 (hF.pu _ _ _ _) dJ10_unlink_65 rfl ?_
  refine f_put 69 hF 1 (T := TJ39) (C := RJ39) ([oC a 13 [.int mc, .int 1, .null, .null], oC b 14 [.null, .null, .null]]) okJ39 rfl rfl 0 (by decide) (Or.inl q1731) (Or.inl rfl) rfl rfl rfl (Nat.le_of_ble_eq_true rfl) rfl dJ10_unlink_66 rfl ?_
  refine r_aload_n 70 3 (hF.pu _ _ _ _) dJ10_unlink_69 rfl rfl ?_
  refine r_dup 71 (hF.pu _ _ _ _) dJ10_unlink_70 rfl rfl ?_
  refine f_getf 74 hF (T := TJ10) (C := RJ10) 1 (v := .int 1) okJ10 (fun _ z => ((z.o 0 rfl).fld 1 rfl)) rfl (by decide) (Or.inl q292) (Or.inl rfl) dJ10_unlink_71 rfl ?_
  refine r_iconst 75 1 (hF.pu _ _ _ _) dJ10_unlink_74 (by decide) rfl ?_
  refine r_isubN 1 1 0 76 (hF.pu _ _ _ _) dJ10_unlink_75 (by omega) (by omega) rfl ?_
  refine f_put 79 hF 0 (T := TJ10) (C := RJ10) ([oC a 13 [.int mc, .int (nI 0), .null, .null], oC b 14 [.null, .null, .null]]) okJ10 rfl rfl 1 (by decide) (Or.inl q292) (Or.inl rfl) rfl rfl rfl (Nat.le_of_ble_eq_true rfl) rfl dJ10_unlink_76 rfl ?_
  refine r_aload_n 80 3 (hF.pu _ _ _ _) dJ10_unlink_79 rfl rfl ?_
  refine r_dup 81 (hF.pu _ _ _ _) dJ10_unlink_80 rfl rfl ?_
  refine f_getf 84 hF (T := TJ10) (C := RJ10) 0 (v := .int mc) okJ10 (fun _ z => ((z.o 0 rfl).fld 0 rfl)) rfl (by decide) (Or.inl q271) (Or.inr q260) dJ10_unlink_81 rfl ?_
  refine r_iconst 85 1 (hF.pu _ _ _ _) dJ10_unlink_84 (by decide) rfl ?_
  refine r_iadd 86 (hF.pu _ _ _ _) dJ10_unlink_85 rfl ?_
  refine f_put 89 hF 0 (T := TJ10) (C := RJ10) ([oC a 13 [.int (mc + 1), .int (nI 0), .null, .null], oC b 14 [.null, .null, .null]]) okJ10 rfl rfl 0 (by decide) (Or.inl q271) (Or.inr q260) rfl rfl rfl (Nat.le_of_ble_eq_true rfl) rfl dJ10_unlink_86 rfl ?_
  refine r_aload_n 90 2 (hF.pu _ _ _ _) dJ10_unlink_89 rfl rfl ?_
  refine f_kp hF [true, false] ([oC a 13 [.int (mc + 1), .int (nI 0), .null, .null]]) rfl ?_
  exact FR.a hR (Or.inl ⟨_, rfl⟩) dJ10_unlink_90 (Nat.le_of_ble_eq_true rfl) (Nat.le_of_ble_eq_true rfl) ⟨rfl, rfl, rfl⟩
set_option maxHeartbeats 4000000 in
theorem fc_J10_unlink_20 (D : DD) (l : Launch) {KS : Nat → Prop} {Hb : Heap} (a b y c w : Nat) (mc : Int32) : Fc D l yJ10_unlink cJ10_unlink 5 (Option.some (ClassFile.FieldType.object "java/lang/Object")) 0 0 0 0 KS Hb [.ref a, .ref b] ([oC a 13 [.int mc, .int 2, .ref b, .ref c], oC b 14 [.ref y, .ref c, .null], oC c 14 [.ref w, .null, .ref b]]) ([]) (fun r w_ i => r = some (.ref y) ∧ w_ = [oC a 13 [.int (mc + 1), .int 1, .ref c, .ref c], oC c 14 [.ref w, .null, .null]] ∧ i = []) := by
  refine Fc.of (by decide) (Nat.le_of_ble_eq_true rfl) (fun s F hF hR => ?_)
  show F 0 0 ([oC a 13 [.int mc, .int 2, .ref b, .ref c], oC b 14 [.ref y, .ref c, .null], oC c 14 [.ref w, .null, .ref b]]) ([]) 0 [] [(0, .ref a), (1, .ref b)]
  refine r_aload_n 1 1 (hF.pu _ _ _ _) dJ10_unlink_0 rfl rfl ?_
  refine f_getf 4 hF (T := TJ39) (C := RJ39) 0 (v := .ref y) okJ39 (fun _ z => ((z.o 1 rfl).fld 0 rfl)) rfl (by decide) (Or.inl q1731) (Or.inl rfl) dJ10_unlink_1 rfl ?_
  refine r_astore_n 5 [(2, .ref y), (0, .ref a), (1, .ref b)] (hF.pu _ _ _ _) dJ10_unlink_4 rfl (by decide) rfl rfl ?_
  refine r_aload_n 6 2 (hF.pu _ _ _ _) dJ10_unlink_5 rfl rfl ?_
  refine f_getf 9 hF (T := TJ39) (C := RJ39) 1 (v := .ref c) okJ39 (fun _ z => ((z.o 1 rfl).fld 1 rfl)) rfl (by decide) (Or.inl q1734) (Or.inl rfl) dJ10_unlink_6 rfl ?_
  refine r_astore_n 10 [(3, .ref c), (2, .ref y), (0, .ref a), (1, .ref b)] (hF.pu _ _ _ _) dJ10_unlink_9 rfl (by decide) rfl rfl ?_
  refine r_aload_n 11 3 (hF.pu _ _ _ _) dJ10_unlink_10 rfl rfl ?_
  refine f_getf 14 hF (T := TJ39) (C := RJ39) 2 (v := .null) okJ39 (fun _ z => ((z.o 1 rfl).fld 2 rfl)) rfl (by decide) (Or.inl q1736) (Or.inl rfl) dJ10_unlink_11 rfl ?_
  refine r_astoreN 16 [(4, .null), (3, .ref c), (2, .ref y), (0, .ref a), (1, .ref b)] (hF.pu _ _ _ _) dJ10_unlink_14 (by decide) rfl rfl ?_
  refine r_aloadN 18 0 (hF.pu _ _ _ _) dJ10_unlink_16 rfl rfl ?_
  refine r_ifnonnullN 21 (hF.pu _ _ _ _) dJ10_unlink_18 rfl ?_
  refine r_aload_n 22 3 (hF.pu _ _ _ _) dJ10_unlink_21 rfl rfl ?_
  refine r_aload_n 23 1 (hF.pu _ _ _ _) dJ10_unlink_22 rfl rfl ?_
  refine f_put 26 hF 0 (T := TJ10) (C := RJ10) ([oC a 13 [.int mc, .int 2, .ref c, .ref c], oC b 14 [.ref y, .ref c, .null], oC c 14 [.ref w, .null, .ref b]]) okJ10 rfl rfl 2 (by decide) (Or.inl q294) (Or.inl rfl) rfl rfl rfl (Nat.le_of_ble_eq_true rfl) rfl dJ10_unlink_23 rfl ?_
  refine r_goto 40 (hF.pu _ _ _ _) dJ10_unlink_26 (by decide) ?_
  refine r_aload_n 41 1 (hF.pu _ _ _ _) dJ10_unlink_40 rfl rfl ?_
  refine r_ifnonnull 53 (hF.pu _ _ _ _) dJ10_unlink_41 (by decide) ?_
  refine r_aload_n 54 1 (hF.pu _ _ _ _) dJ10_unlink_53 rfl rfl ?_
  refine r_aloadN 56 0 (hF.pu _ _ _ _) dJ10_unlink_54 rfl rfl ?_
  refine f_put 59 hF 2 (T := TJ39) (C := RJ39) ([oC a 13 [.int mc, .int 2, .ref c, .ref c], oC b 14 [.ref y, .ref c, .null], oC c 14 [.ref w, .null, .null]]) okJ39 rfl rfl 2 (by decide) (Or.inl q1736) (Or.inl rfl) rfl rfl rfl (Nat.le_of_ble_eq_true rfl) rfl dJ10_unlink_56 rfl ?_
  refine r_aload_n 60 4 (hF.pu _ _ _ _) dJ10_unlink_59 rfl rfl ?_
  refine r_null 61 (hF.pu _ _ _ _) dJ10_unlink_60 rfl ?_
  refine f_put 64 hF 1 (T := TJ39) (C := RJ39) ([oC a 13 [.int mc, .int 2, .ref c, .ref c], oC b 14 [.ref y, .null, .null], oC c 14 [.ref w, .null, .null]]) okJ39 rfl rfl 1 (by decide) (Or.inl q1734) (Or.inl rfl) rfl rfl rfl (Nat.le_of_ble_eq_true rfl) rfl dJ10_unlink_61 rfl ?_
  refine r_aload_n 65 4 (hF.pu _ _ _ _) dJ10_unlink_64 rfl rfl ?_
  refine r_null 66 (hF.pu _ _ _ _) dJ10_unlink_65 rfl ?_
  refine f_put 69 hF 1 (T := TJ39) (C := RJ39) ([oC a 13 [.int mc, .int 2, .ref c, .ref c], oC b 14 [.null, .null, .null], oC c 14 [.ref w, .null, .null]]) okJ39 rfl rfl 0 (by decide) (Or.inl q1731) (Or.inl rfl) rfl rfl rfl (Nat.le_of_ble_eq_true rfl) rfl dJ10_unlink_66 rfl ?_
  refine r_aload_n 70 3 (hF.pu _ _ _ _) dJ10_unlink_69 rfl rfl ?_
  refine r_dup 71 (hF.pu _ _ _ _) dJ10_unlink_70 rfl rfl ?_
  refine f_getf 74 hF (T := TJ10) (C := RJ10) 1 (v := .int 2) okJ10 (fun _ z => ((z.o 0 rfl).fld 1 rfl)) rfl (by decide) (Or.inl q292) (Or.inl rfl) dJ10_unlink_71 rfl ?_
  refine r_iconst 75 1 (hF.pu _ _ _ _) dJ10_unlink_74 (by decide) rfl ?_
  refine r_isubN 2 1 1 76 (hF.pu _ _ _ _) dJ10_unlink_75 (by omega) (by omega) rfl ?_
  refine f_put 79 hF 0 (T := TJ10) (C := RJ10) ([oC a 13 [.int mc, .int (nI 1), .ref c, .ref c], oC b 14 [.null, .null, .null], oC c 14 [.ref w, .null, .null]]) okJ10 rfl rfl 1 (by decide) (Or.inl q292) (Or.inl rfl) rfl rfl rfl (Nat.le_of_ble_eq_true rfl) rfl dJ10_unlink_76 rfl ?_
  refine r_aload_n 80 3 (hF.pu _ _ _ _) dJ10_unlink_79 rfl rfl ?_
  refine r_dup 81 (hF.pu _ _ _ _) dJ10_unlink_80 rfl rfl ?_
  refine f_getf 84 hF (T := TJ10) (C := RJ10) 0 (v := .int mc) okJ10 (fun _ z => ((z.o 0 rfl).fld 0 rfl)) rfl (by decide) (Or.inl q271) (Or.inr q260) dJ10_unlink_81 rfl ?_
  refine r_iconst 85 1 (hF.pu _ _ _ _) dJ10_unlink_84 (by decide) rfl ?_
  refine r_iadd 86 (hF.pu _ _ _ _) dJ10_unlink_85 rfl ?_
  refine f_put 89 hF 0 (T := TJ10) (C := RJ10) ([oC a 13 [.int (mc + 1), .int (nI 1), .ref c, .ref c], oC b 14 [.null, .null, .null], oC c 14 [.ref w, .null, .null]]) okJ10 rfl rfl 0 (by decide) (Or.inl q271) (Or.inr q260) rfl rfl rfl (Nat.le_of_ble_eq_true rfl) rfl dJ10_unlink_86 rfl ?_
  refine r_aload_n 90 2 (hF.pu _ _ _ _) dJ10_unlink_89 rfl rfl ?_
  refine f_kp hF [true, false] ([oC a 13 [.int (mc + 1), .int (nI 1), .ref c, .ref c], oC c 14 [.ref w, .null, .null]]) rfl ?_
  exact FR.a hR (Or.inl ⟨_, rfl⟩) dJ10_unlink_90 (Nat.le_of_ble_eq_true rfl) (Nat.le_of_ble_eq_true rfl) ⟨rfl, rfl, rfl⟩
set_option maxHeartbeats 4000000 in
theorem fc_J10_unlink_21 (D : DD) (l : Launch) {KS : Nat → Prop} {Hb : Heap} (a b y c w : Nat) (mc : Int32) : Fc D l yJ10_unlink cJ10_unlink 5 (Option.some (ClassFile.FieldType.object "java/lang/Object")) 0 0 0 0 KS Hb [.ref a, .ref c] ([oC a 13 [.int mc, .int 2, .ref b, .ref c], oC b 14 [.ref y, .ref c, .null], oC c 14 [.ref w, .null, .ref b]]) ([]) (fun r w_ i => r = some (.ref w) ∧ w_ = [oC a 13 [.int (mc + 1), .int 1, .ref b, .ref b], oC b 14 [.ref y, .null, .null]] ∧ i = []) := by
  refine Fc.of (by decide) (Nat.le_of_ble_eq_true rfl) (fun s F hF hR => ?_)
  show F 0 0 ([oC a 13 [.int mc, .int 2, .ref b, .ref c], oC b 14 [.ref y, .ref c, .null], oC c 14 [.ref w, .null, .ref b]]) ([]) 0 [] [(0, .ref a), (1, .ref c)]
  refine r_aload_n 1 1 (hF.pu _ _ _ _) dJ10_unlink_0 rfl rfl ?_
  refine f_getf 4 hF (T := TJ39) (C := RJ39) 0 (v := .ref w) okJ39 (fun _ z => ((z.o 2 rfl).fld 0 rfl)) rfl (by decide) (Or.inl q1731) (Or.inl rfl) dJ10_unlink_1 rfl ?_
  refine r_astore_n 5 [(2, .ref w), (0, .ref a), (1, .ref c)] (hF.pu _ _ _ _) dJ10_unlink_4 rfl (by decide) rfl rfl ?_
  refine r_aload_n 6 2 (hF.pu _ _ _ _) dJ10_unlink_5 rfl rfl ?_
  refine f_getf 9 hF (T := TJ39) (C := RJ39) 1 (v := .null) okJ39 (fun _ z => ((z.o 2 rfl).fld 1 rfl)) rfl (by decide) (Or.inl q1734) (Or.inl rfl) dJ10_unlink_6 rfl ?_
  refine r_astore_nN 10 [(3, .null), (2, .ref w), (0, .ref a), (1, .ref c)] (hF.pu _ _ _ _) dJ10_unlink_9 rfl (by decide) rfl rfl ?_
  refine r_aload_n 11 3 (hF.pu _ _ _ _) dJ10_unlink_10 rfl rfl ?_
  refine f_getf 14 hF (T := TJ39) (C := RJ39) 2 (v := .ref b) okJ39 (fun _ z => ((z.o 2 rfl).fld 2 rfl)) rfl (by decide) (Or.inl q1736) (Or.inl rfl) dJ10_unlink_11 rfl ?_
  refine r_astore 16 [(4, .ref b), (3, .null), (2, .ref w), (0, .ref a), (1, .ref c)] (hF.pu _ _ _ _) dJ10_unlink_14 (by decide) rfl rfl ?_
  refine r_aload 18 0 (hF.pu _ _ _ _) dJ10_unlink_16 rfl rfl ?_
  refine r_ifnonnull 29 (hF.pu _ _ _ _) dJ10_unlink_18 (by decide) ?_
  refine r_aload 31 0 (hF.pu _ _ _ _) dJ10_unlink_29 rfl rfl ?_
  refine r_aload_nN 32 1 (hF.pu _ _ _ _) dJ10_unlink_31 rfl rfl ?_
  refine f_put 35 hF 1 (T := TJ39) (C := RJ39) ([oC a 13 [.int mc, .int 2, .ref b, .ref c], oC b 14 [.ref y, .null, .null], oC c 14 [.ref w, .null, .ref b]]) okJ39 rfl rfl 1 (by decide) (Or.inl q1734) (Or.inl rfl) rfl rfl rfl (Nat.le_of_ble_eq_true rfl) rfl dJ10_unlink_32 rfl ?_
  refine r_aload_n 36 4 (hF.pu _ _ _ _) dJ10_unlink_35 rfl rfl ?_
  refine r_null 37 (hF.pu _ _ _ _) dJ10_unlink_36 rfl ?_
  refine f_put 40 hF 2 (T := TJ39) (C := RJ39) ([oC a 13 [.int mc, .int 2, .ref b, .ref c], oC b 14 [.ref y, .null, .null], oC c 14 [.ref w, .null, .null]]) okJ39 rfl rfl 2 (by decide) (Or.inl q1736) (Or.inl rfl) rfl rfl rfl (Nat.le_of_ble_eq_true rfl) rfl dJ10_unlink_37 rfl ?_
  refine r_aload_nN 41 1 (hF.pu _ _ _ _) dJ10_unlink_40 rfl rfl ?_
  refine r_ifnonnullN 44 (hF.pu _ _ _ _) dJ10_unlink_41 rfl ?_
  refine r_aload_n 45 3 (hF.pu _ _ _ _) dJ10_unlink_44 rfl rfl ?_
  refine r_aload 47 0 (hF.pu _ _ _ _) dJ10_unlink_45 rfl rfl ?_
  refine f_put 50 hF 0 (T := TJ10) (C := RJ10) ([oC a 13 [.int mc, .int 2, .ref b, .ref b], oC b 14 [.ref y, .null, .null], oC c 14 [.ref w, .null, .null]]) okJ10 rfl rfl 3 (by decide) (Or.inl q295) (Or.inl rfl) rfl rfl rfl (Nat.le_of_ble_eq_true rfl) rfl dJ10_unlink_47 rfl ?_
  refine r_goto 64 (hF.pu _ _ _ _) dJ10_unlink_50 (by decide) ?_
  refine r_aload_n 65 4 (hF.pu _ _ _ _) dJ10_unlink_64 rfl rfl ?_
  refine r_null 66 (hF.pu _ _ _ _) dJ10_unlink_65 rfl ?_
  refine f_put 69 hF 2 (T := TJ39) (C := RJ39) ([oC a 13 [.int mc, .int 2, .ref b, .ref b], oC b 14 [.ref y, .null, .null], oC c 14 [.null, .null, .null]]) okJ39 rfl rfl 0 (by decide) (Or.inl q1731) (Or.inl rfl) rfl rfl rfl (Nat.le_of_ble_eq_true rfl) rfl dJ10_unlink_66 rfl ?_
  refine r_aload_n 70 3 (hF.pu _ _ _ _) dJ10_unlink_69 rfl rfl ?_
  refine r_dup 71 (hF.pu _ _ _ _) dJ10_unlink_70 rfl rfl ?_
  refine f_getf 74 hF (T := TJ10) (C := RJ10) 1 (v := .int 2) okJ10 (fun _ z => ((z.o 0 rfl).fld 1 rfl)) rfl (by decide) (Or.inl q292) (Or.inl rfl) dJ10_unlink_71 rfl ?_
  refine r_iconst 75 1 (hF.pu _ _ _ _) dJ10_unlink_74 (by decide) rfl ?_
  refine r_isubN 2 1 1 76 (hF.pu _ _ _ _) dJ10_unlink_75 (by omega) (by omega) rfl ?_
  refine f_put 79 hF 0 (T := TJ10) (C := RJ10) ([oC a 13 [.int mc, .int (nI 1), .ref b, .ref b], oC b 14 [.ref y, .null, .null], oC c 14 [.null, .null, .null]]) okJ10 rfl rfl 1 (by decide) (Or.inl q292) (Or.inl rfl) rfl rfl rfl (Nat.le_of_ble_eq_true rfl) rfl dJ10_unlink_76 rfl ?_
  refine r_aload_n 80 3 (hF.pu _ _ _ _) dJ10_unlink_79 rfl rfl ?_
  refine r_dup 81 (hF.pu _ _ _ _) dJ10_unlink_80 rfl rfl ?_
  refine f_getf 84 hF (T := TJ10) (C := RJ10) 0 (v := .int mc) okJ10 (fun _ z => ((z.o 0 rfl).fld 0 rfl)) rfl (by decide) (Or.inl q271) (Or.inr q260) dJ10_unlink_81 rfl ?_
  refine r_iconst 85 1 (hF.pu _ _ _ _) dJ10_unlink_84 (by decide) rfl ?_
  refine r_iadd 86 (hF.pu _ _ _ _) dJ10_unlink_85 rfl ?_
  refine f_put 89 hF 0 (T := TJ10) (C := RJ10) ([oC a 13 [.int (mc + 1), .int (nI 1), .ref b, .ref b], oC b 14 [.ref y, .null, .null], oC c 14 [.null, .null, .null]]) okJ10 rfl rfl 0 (by decide) (Or.inl q271) (Or.inr q260) rfl rfl rfl (Nat.le_of_ble_eq_true rfl) rfl dJ10_unlink_86 rfl ?_
  refine r_aload_n 90 2 (hF.pu _ _ _ _) dJ10_unlink_89 rfl rfl ?_
  refine f_kp hF [true, true, false] ([oC a 13 [.int (mc + 1), .int (nI 1), .ref b, .ref b], oC b 14 [.ref y, .null, .null]]) rfl ?_
  exact FR.a hR (Or.inl ⟨_, rfl⟩) dJ10_unlink_90 (Nat.le_of_ble_eq_true rfl) (Nat.le_of_ble_eq_true rfl) ⟨rfl, rfl, rfl⟩
theorem lk_J10_64 : GoodIn lw_all (wsV RJ10 64 yJ10_unlink.cls yJ10_unlink (ws_ yJ10_unlink cJ10_unlink 5 (Option.some (ClassFile.FieldType.object "java/lang/Object")))) := lw_V q2472 q2473 q2474 q116 q2475
theorem yk_J10_unlink : yOk yJ10_unlink 1 := by decide +kernel
set_option maxHeartbeats 4000000 in
theorem fc_J10_remove_10 (D : DD) (l : Launch) {KS : Nat → Prop} {Hb : Heap} (a b y : Nat) (mc : Int32) : Fc D l yJ10_remove cJ10_remove 2 (Option.some (ClassFile.FieldType.object "java/lang/Object")) 2 0 0 42 KS Hb [.ref a, .int (nI 0)] ([oC a 13 [.int mc, .int 1, .ref b, .ref b], oC b 14 [.ref y, .null, .null]]) ([]) (fun r w_ i => r = some (.ref y) ∧ w_ = [oC a 13 [.int (mc + 1), .int 0, .null, .null]] ∧ i = []) := by
  refine Fc.of (by decide) (Nat.le_of_ble_eq_true rfl) (fun s F hF hR => ?_)
  show F 0 0 ([oC a 13 [.int mc, .int 1, .ref b, .ref b], oC b 14 [.ref y, .null, .null]]) ([]) 0 [] [(0, .ref a), (1, .int (nI 0))]
  refine r_aload_n 1 0 (hF.pu _ _ _ _) dJ10_remove_0 rfl rfl ?_
  refine r_iload_n 2 1 (hF.pu _ _ _ _) dJ10_remove_1 rfl rfl ?_
  refine f_callp 5 hF (fun _ z => cp_J10_checkElementIndex D l a 1 0 ((z.o 0 rfl).fld 1 rfl) (by decide) (by decide)) lk_J10_90 1 yk_J10_checkElementIndex rfl ⟨by decide, by decide⟩ (fun _ z => ((z.o 0 rfl).fld 0 rfl)) rfl rfl (Nat.le_of_ble_eq_true rfl) dJ10_remove_2 ⟨Nat.le_of_ble_eq_true rfl, Nat.le_of_ble_eq_true rfl⟩ rfl ?_
  refine r_aload_n 6 0 (hF.pu _ _ _ _) dJ10_remove_5 rfl rfl ?_
  refine r_aload_n 7 0 (hF.pu _ _ _ _) dJ10_remove_6 rfl rfl ?_
  refine r_iload_n 8 1 (hF.pu _ _ _ _) dJ10_remove_7 rfl rfl ?_
  refine f_callp 11 hF (fun _ z => cp_J10_node_10 D l a b b ((z.o 0 rfl).fld 1 rfl) ((z.o 0 rfl).fld 2 rfl) ((z.o 0 rfl).fld 3 rfl)) lk_J10_86 1 yk_J10_node rfl ⟨by decide, by decide⟩ (fun _ z => ((z.o 0 rfl).fld 0 rfl)) rfl rfl (Nat.le_of_ble_eq_true rfl) dJ10_remove_8 ⟨Nat.le_of_ble_eq_true rfl, Nat.le_of_ble_eq_true rfl⟩ rfl ?_
  refine f_callV 14 hF (fc_J10_unlink_10 (KS := KS) (Hb := Hb) D l a b y mc) (wr := ([])) rfl (imk [] rfl) lk_J10_64 1 yk_J10_unlink rfl ⟨by decide, by decide⟩ (fun _ z => ((z.o 0 rfl).fld 0 rfl)) rfl rfl (Nat.le_of_ble_eq_true rfl) dJ10_remove_11 ⟨Nat.le_of_ble_eq_true rfl, Nat.le_of_ble_eq_true rfl⟩ rfl (fun r ws_ im' hp => ?_)
  obtain ⟨rfl, rfl, rfl⟩ := hp
  show F 0 0 ([oC a 13 [.int (mc + 1), .int 0, .null, .null]]) ([]) 14 [.ref y] [(0, .ref a), (1, .int (nI 0))]
  exact FR.a hR (Or.inl ⟨_, rfl⟩) dJ10_remove_14 (Nat.le_of_ble_eq_true rfl) (Nat.le_of_ble_eq_true rfl) ⟨rfl, rfl, rfl⟩
set_option maxHeartbeats 4000000 in
theorem fc_J10_remove_20 (D : DD) (l : Launch) {KS : Nat → Prop} {Hb : Heap} (a b y c w : Nat) (mc : Int32) : Fc D l yJ10_remove cJ10_remove 2 (Option.some (ClassFile.FieldType.object "java/lang/Object")) 2 0 0 42 KS Hb [.ref a, .int (nI 0)] ([oC a 13 [.int mc, .int 2, .ref b, .ref c], oC b 14 [.ref y, .ref c, .null], oC c 14 [.ref w, .null, .ref b]]) ([]) (fun r w_ i => r = some (.ref y) ∧ w_ = [oC a 13 [.int (mc + 1), .int 1, .ref c, .ref c], oC c 14 [.ref w, .null, .null]] ∧ i = []) := by
  refine Fc.of (by decide) (Nat.le_of_ble_eq_true rfl) (fun s F hF hR => ?_)
  show F 0 0 ([oC a 13 [.int mc, .int 2, .ref b, .ref c], oC b 14 [.ref y, .ref c, .null], oC c 14 [.ref w, .null, .ref b]]) ([]) 0 [] [(0, .ref a), (1, .int (nI 0))]
  refine r_aload_n 1 0 (hF.pu _ _ _ _) dJ10_remove_0 rfl rfl ?_
  refine r_iload_n 2 1 (hF.pu _ _ _ _) dJ10_remove_1 rfl rfl ?_
  refine f_callp 5 hF (fun _ z => cp_J10_checkElementIndex D l a 2 0 ((z.o 0 rfl).fld 1 rfl) (by decide) (by decide)) lk_J10_90 1 yk_J10_checkElementIndex rfl ⟨by decide, by decide⟩ (fun _ z => ((z.o 0 rfl).fld 0 rfl)) rfl rfl (Nat.le_of_ble_eq_true rfl) dJ10_remove_2 ⟨Nat.le_of_ble_eq_true rfl, Nat.le_of_ble_eq_true rfl⟩ rfl ?_
  refine r_aload_n 6 0 (hF.pu _ _ _ _) dJ10_remove_5 rfl rfl ?_
  refine r_aload_n 7 0 (hF.pu _ _ _ _) dJ10_remove_6 rfl rfl ?_
  refine r_iload_n 8 1 (hF.pu _ _ _ _) dJ10_remove_7 rfl rfl ?_
  refine f_callp 11 hF (fun _ z => cp_J10_node_20 D l a b c ((z.o 0 rfl).fld 1 rfl) ((z.o 0 rfl).fld 2 rfl) ((z.o 0 rfl).fld 3 rfl)) lk_J10_86 1 yk_J10_node rfl ⟨by decide, by decide⟩ (fun _ z => ((z.o 0 rfl).fld 0 rfl)) rfl rfl (Nat.le_of_ble_eq_true rfl) dJ10_remove_8 ⟨Nat.le_of_ble_eq_true rfl, Nat.le_of_ble_eq_true rfl⟩ rfl ?_
  refine f_callV 14 hF (fc_J10_unlink_20 (KS := KS) (Hb := Hb) D l a b y c w mc) (wr := ([])) rfl (imk [] rfl) lk_J10_64 1 yk_J10_unlink rfl ⟨by decide, by decide⟩ (fun _ z => ((z.o 0 rfl).fld 0 rfl)) rfl rfl (Nat.le_of_ble_eq_true rfl) dJ10_remove_11 ⟨Nat.le_of_ble_eq_true rfl, Nat.le_of_ble_eq_true rfl⟩ rfl (fun r ws_ im' hp => ?_)
  obtain ⟨rfl, rfl, rfl⟩ := hp
  show F 0 0 ([oC a 13 [.int (mc + 1), .int 1, .ref c, .ref c], oC c 14 [.ref w, .null, .null]]) ([]) 14 [.ref y] [(0, .ref a), (1, .int (nI 0))]
  exact FR.a hR (Or.inl ⟨_, rfl⟩) dJ10_remove_14 (Nat.le_of_ble_eq_true rfl) (Nat.le_of_ble_eq_true rfl) ⟨rfl, rfl, rfl⟩
set_option maxHeartbeats 4000000 in
theorem fc_J10_remove_21 (D : DD) (l : Launch) {KS : Nat → Prop} {Hb : Heap} (a b y c w : Nat) (mc : Int32) : Fc D l yJ10_remove cJ10_remove 2 (Option.some (ClassFile.FieldType.object "java/lang/Object")) 2 0 0 42 KS Hb [.ref a, .int (nI 1)] ([oC a 13 [.int mc, .int 2, .ref b, .ref c], oC b 14 [.ref y, .ref c, .null], oC c 14 [.ref w, .null, .ref b]]) ([]) (fun r w_ i => r = some (.ref w) ∧ w_ = [oC a 13 [.int (mc + 1), .int 1, .ref b, .ref b], oC b 14 [.ref y, .null, .null]] ∧ i = []) := by
  refine Fc.of (by decide) (Nat.le_of_ble_eq_true rfl) (fun s F hF hR => ?_)
  show F 0 0 ([oC a 13 [.int mc, .int 2, .ref b, .ref c], oC b 14 [.ref y, .ref c, .null], oC c 14 [.ref w, .null, .ref b]]) ([]) 0 [] [(0, .ref a), (1, .int (nI 1))]
  refine r_aload_n 1 0 (hF.pu _ _ _ _) dJ10_remove_0 rfl rfl ?_
  refine r_iload_n 2 1 (hF.pu _ _ _ _) dJ10_remove_1 rfl rfl ?_
  refine f_callp 5 hF (fun _ z => cp_J10_checkElementIndex D l a 2 1 ((z.o 0 rfl).fld 1 rfl) (by decide) (by decide)) lk_J10_90 1 yk_J10_checkElementIndex rfl ⟨by decide, by decide⟩ (fun _ z => ((z.o 0 rfl).fld 0 rfl)) rfl rfl (Nat.le_of_ble_eq_true rfl) dJ10_remove_2 ⟨Nat.le_of_ble_eq_true rfl, Nat.le_of_ble_eq_true rfl⟩ rfl ?_
  refine r_aload_n 6 0 (hF.pu _ _ _ _) dJ10_remove_5 rfl rfl ?_
  refine r_aload_n 7 0 (hF.pu _ _ _ _) dJ10_remove_6 rfl rfl ?_
  refine r_iload_n 8 1 (hF.pu _ _ _ _) dJ10_remove_7 rfl rfl ?_
  refine f_callp 11 hF (fun _ z => cp_J10_node_21 D l a b c ((z.o 0 rfl).fld 1 rfl) ((z.o 0 rfl).fld 2 rfl) ((z.o 0 rfl).fld 3 rfl)) lk_J10_86 1 yk_J10_node rfl ⟨by decide, by decide⟩ (fun _ z => ((z.o 0 rfl).fld 0 rfl)) rfl rfl (Nat.le_of_ble_eq_true rfl) dJ10_remove_8 ⟨Nat.le_of_ble_eq_true rfl, Nat.le_of_ble_eq_true rfl⟩ rfl ?_
  refine f_callV 14 hF (fc_J10_unlink_21 (KS := KS) (Hb := Hb) D l a b y c w mc) (wr := ([])) rfl (imk [] rfl) lk_J10_64 1 yk_J10_unlink rfl ⟨by decide, by decide⟩ (fun _ z => ((z.o 0 rfl).fld 0 rfl)) rfl rfl (Nat.le_of_ble_eq_true rfl) dJ10_remove_11 ⟨Nat.le_of_ble_eq_true rfl, Nat.le_of_ble_eq_true rfl⟩ rfl (fun r ws_ im' hp => ?_)
  obtain ⟨rfl, rfl, rfl⟩ := hp
  show F 0 0 ([oC a 13 [.int (mc + 1), .int 1, .ref b, .ref b], oC b 14 [.ref y, .null, .null]]) ([]) 14 [.ref w] [(0, .ref a), (1, .int (nI 1))]
  exact FR.a hR (Or.inl ⟨_, rfl⟩) dJ10_remove_14 (Nat.le_of_ble_eq_true rfl) (Nat.le_of_ble_eq_true rfl) ⟨rfl, rfl, rfl⟩
set_option maxHeartbeats 4000000 in
theorem fc_J10_linkBefore (D : DD) (l : Launch) {KS : Nat → Prop} {Hb : Heap} (a b y x : Nat) (mc : Int32) : Fc D l yJ10_linkBefore cJ10_linkBefore 5 none 2 1 3 43 KS Hb [.ref a, .ref x, .ref b] ([oC a 13 [.int mc, .int 1, .ref b, .ref b], oC b 14 [.ref y, .null, .null]]) ([]) (fun r w_ i => ∃ c, r = none ∧ w_ = [oC a 13 [.int (mc + 1), .int 2, .ref c, .ref b], oC c 14 [.ref x, .ref b, .null], oC b 14 [.ref y, .null, .ref c]] ∧ i = []) := by
  refine Fc.of (by decide) (Nat.le_of_ble_eq_true rfl) (fun s F hF hR => ?_)
  show F 0 0 ([oC a 13 [.int mc, .int 1, .ref b, .ref b], oC b 14 [.ref y, .null, .null]]) ([]) 0 [] [(0, .ref a), (1, .ref x), (2, .ref b)]
  refine r_aload_n 1 2 (hF.pu _ _ _ _) dJ10_linkBefore_0 rfl rfl ?_
  refine f_getf 4 hF (T := TJ39) (C := RJ39) 2 (v := .null) okJ39 (fun _ z => ((z.o 1 rfl).fld 2 rfl)) rfl (by decide) (Or.inl q1736) (Or.inl rfl) dJ10_linkBefore_1 rfl ?_
  refine r_astore_nN 5 [(3, .null), (0, .ref a), (1, .ref x), (2, .ref b)] (hF.pu _ _ _ _) dJ10_linkBefore_4 rfl (by decide) rfl rfl ?_
  refine f_new 8 hF (ci := 14) [.null, .null, .null] okJ39 rfl q1723 q1724 q151 dvJ39 ⟨Nat.le_of_ble_eq_true rfl, Nat.le_of_ble_eq_true rfl⟩ dJ10_linkBefore_5 rfl (fun a1_ => ?_)
  refine r_dup 9 (hF.pu _ _ _ _) dJ10_linkBefore_8 rfl rfl ?_
  refine r_aload_nN 10 0 (hF.pu _ _ _ _) dJ10_linkBefore_9 rfl rfl ?_
  refine r_aload_n 11 2 (hF.pu _ _ _ _) dJ10_linkBefore_10 rfl rfl ?_
  refine r_aload_n 12 3 (hF.pu _ _ _ _) dJ10_linkBefore_11 rfl rfl ?_
  refine f_callI 15 hF (fc_J39_init_nr (KS := KS) (Hb := Hb) D l a1_ 0 x b) (wr := ([oC a 13 [.int mc, .int 1, .ref b, .ref b], oC b 14 [.ref y, .null, .null]])) rfl (imk [] rfl) q1727 q151 q1725 q1726 rfl 3 yk_J39_init rfl ⟨by decide, by decide⟩ rfl (Nat.le_of_ble_eq_true rfl) dJ10_linkBefore_12 ⟨Nat.le_of_ble_eq_true rfl, Nat.le_of_ble_eq_true rfl⟩ rfl (fun r ws_ im' hp => ?_)
  obtain ⟨rfl, rfl, rfl⟩ := hp
  show F 1 3 ([oC a1_ 14 [.ref x, .ref b, .null], oC a 13 [.int mc, .int 1, .ref b, .ref b], oC b 14 [.ref y, .null, .null]]) ([]) 15 [.ref a1_] [(3, .null), (0, .ref a), (1, .ref x), (2, .ref b)]
  refine r_astore 17 [(4, .ref a1_), (3, .null), (0, .ref a), (1, .ref x), (2, .ref b)] (hF.pu _ _ _ _) dJ10_linkBefore_15 (by decide) rfl rfl ?_
  refine r_aload_n 18 4 (hF.pu _ _ _ _) dJ10_linkBefore_17 rfl rfl ?_
  refine r_aload 20 0 (hF.pu _ _ _ _) dJ10_linkBefore_18 rfl rfl ?_
  refine f_put 23 hF 2 (T := TJ39) (C := RJ39) ([oC a1_ 14 [.ref x, .ref b, .null], oC a 13 [.int mc, .int 1, .ref b, .ref b], oC b 14 [.ref y, .null, .ref a1_]]) okJ39 rfl rfl 2 (by decide) (Or.inl q1736) (Or.inl rfl) rfl rfl rfl (Nat.le_of_ble_eq_true rfl) rfl dJ10_linkBefore_20 rfl ?_
  refine r_aload_nN 24 1 (hF.pu _ _ _ _) dJ10_linkBefore_23 rfl rfl ?_
  refine r_ifnonnullN 27 (hF.pu _ _ _ _) dJ10_linkBefore_24 rfl ?_
  refine r_aload_n 28 2 (hF.pu _ _ _ _) dJ10_linkBefore_27 rfl rfl ?_
  refine r_aload 30 0 (hF.pu _ _ _ _) dJ10_linkBefore_28 rfl rfl ?_
  refine f_put 33 hF 1 (T := TJ10) (C := RJ10) ([oC a1_ 14 [.ref x, .ref b, .null], oC a 13 [.int mc, .int 1, .ref a1_, .ref b], oC b 14 [.ref y, .null, .ref a1_]]) okJ10 rfl rfl 2 (by decide) (Or.inl q294) (Or.inl rfl) rfl rfl rfl (Nat.le_of_ble_eq_true rfl) rfl dJ10_linkBefore_30 rfl ?_
  refine r_goto 42 (hF.pu _ _ _ _) dJ10_linkBefore_33 (by decide) ?_
  refine r_aload_n 43 2 (hF.pu _ _ _ _) dJ10_linkBefore_42 rfl rfl ?_
  refine r_dup 44 (hF.pu _ _ _ _) dJ10_linkBefore_43 rfl rfl ?_
  refine f_getf 47 hF (T := TJ10) (C := RJ10) 1 (v := .int 1) okJ10 (fun _ z => ((z.o 1 rfl).fld 1 rfl)) rfl (by decide) (Or.inl q292) (Or.inl rfl) dJ10_linkBefore_44 rfl ?_
  refine r_iconst 48 1 (hF.pu _ _ _ _) dJ10_linkBefore_47 (by decide) rfl ?_
  refine r_iaddN 1 1 2 49 (hF.pu _ _ _ _) dJ10_linkBefore_48 rfl rfl ?_
  refine f_put 52 hF 1 (T := TJ10) (C := RJ10) ([oC a1_ 14 [.ref x, .ref b, .null], oC a 13 [.int mc, .int (nI 2), .ref a1_, .ref b], oC b 14 [.ref y, .null, .ref a1_]]) okJ10 rfl rfl 1 (by decide) (Or.inl q292) (Or.inl rfl) rfl rfl rfl (Nat.le_of_ble_eq_true rfl) rfl dJ10_linkBefore_49 rfl ?_
  refine r_aload_n 53 2 (hF.pu _ _ _ _) dJ10_linkBefore_52 rfl rfl ?_
  refine r_dup 54 (hF.pu _ _ _ _) dJ10_linkBefore_53 rfl rfl ?_
  refine f_getf 57 hF (T := TJ10) (C := RJ10) 0 (v := .int mc) okJ10 (fun _ z => ((z.o 1 rfl).fld 0 rfl)) rfl (by decide) (Or.inl q271) (Or.inr q260) dJ10_linkBefore_54 rfl ?_
  refine r_iconst 58 1 (hF.pu _ _ _ _) dJ10_linkBefore_57 (by decide) rfl ?_
  refine r_iadd 59 (hF.pu _ _ _ _) dJ10_linkBefore_58 rfl ?_
  refine f_put 62 hF 1 (T := TJ10) (C := RJ10) ([oC a1_ 14 [.ref x, .ref b, .null], oC a 13 [.int (mc + 1), .int (nI 2), .ref a1_, .ref b], oC b 14 [.ref y, .null, .ref a1_]]) okJ10 rfl rfl 0 (by decide) (Or.inl q271) (Or.inr q260) rfl rfl rfl (Nat.le_of_ble_eq_true rfl) rfl dJ10_linkBefore_59 rfl ?_
  refine f_ups hF [2] ([oC b 14 [.ref y, .null, .ref a1_], oC a1_ 14 [.ref x, .ref b, .null], oC a 13 [.int (mc + 1), .int (nI 2), .ref a1_, .ref b]]) rfl ?_
  refine f_ups hF [1] ([oC a1_ 14 [.ref x, .ref b, .null], oC b 14 [.ref y, .null, .ref a1_], oC a 13 [.int (mc + 1), .int (nI 2), .ref a1_, .ref b]]) rfl ?_
  refine f_ups hF [2] ([oC a 13 [.int (mc + 1), .int (nI 2), .ref a1_, .ref b], oC a1_ 14 [.ref x, .ref b, .null], oC b 14 [.ref y, .null, .ref a1_]]) rfl ?_
  exact FR.v hR dJ10_linkBefore_62 (Nat.le_of_ble_eq_true rfl) (Nat.le_of_ble_eq_true rfl) ⟨_, rfl, rfl, rfl⟩
set_option maxHeartbeats 4000000 in
theorem fc_J10_add_00 (D : DD) (l : Launch) {KS : Nat → Prop} {Hb : Heap} (a x : Nat) (mc : Int32) : Fc D l yJ10_add cJ10_add 3 none 3 1 3 66 KS Hb [.ref a, .int (nI 0), .ref x] ([oC a 13 [.int mc, .int 0, .null, .null]]) ([]) (fun r w_ i => ∃ c, r = none ∧ w_ = [oC a 13 [.int (mc + 1), .int 1, .ref c, .ref c], oC c 14 [.ref x, .null, .null]] ∧ i = []) := by
  refine Fc.of (by decide) (Nat.le_of_ble_eq_true rfl) (fun s F hF hR => ?_)
  show F 0 0 ([oC a 13 [.int mc, .int 0, .null, .null]]) ([]) 0 [] [(0, .ref a), (1, .int (nI 0)), (2, .ref x)]
  refine r_aload_n 1 0 (hF.pu _ _ _ _) dJ10_add_0 rfl rfl ?_
  refine r_iload_n 2 1 (hF.pu _ _ _ _) dJ10_add_1 rfl rfl ?_
  refine f_callp 5 hF (fun _ z => cp_J10_checkPositionIndex D l a 0 0 ((z.o 0 rfl).fld 1 rfl) (by decide) (by decide)) lk_J10_76 1 yk_J10_checkPositionIndex rfl ⟨by decide, by decide⟩ (fun _ z => ((z.o 0 rfl).fld 0 rfl)) rfl rfl (Nat.le_of_ble_eq_true rfl) dJ10_add_2 ⟨Nat.le_of_ble_eq_true rfl, Nat.le_of_ble_eq_true rfl⟩ rfl ?_
  refine r_iload_n 6 1 (hF.pu _ _ _ _) dJ10_add_5 rfl rfl ?_
  refine r_aload_n 7 0 (hF.pu _ _ _ _) dJ10_add_6 rfl rfl ?_
  refine f_getf 10 hF (T := TJ10) (C := RJ10) 1 (v := .int 0) okJ10 (fun _ z => ((z.o 0 rfl).fld 1 rfl)) rfl (by decide) (Or.inl q292) (Or.inl rfl) dJ10_add_7 rfl ?_
  refine r_icmp_neN 0 0 13 21 (hF.pu _ _ _ _) dJ10_add_10 (by omega) (by omega) (by decide) (fun c10 => absurd c10 (by decide)) rfl (fun c10 => ?_)
  refine r_aload_n 14 0 (hF.pu _ _ _ _) dJ10_add_13 rfl rfl ?_
  refine r_aload_n 15 2 (hF.pu _ _ _ _) dJ10_add_14 rfl rfl ?_
  refine f_callV 18 hF (fc_J10_linkLast_0 (KS := KS) (Hb := Hb) D l a x mc) (wr := ([])) rfl (imk [] rfl) lk_J10_57 1 yk_J10_linkLast rfl ⟨by decide, by decide⟩ (fun _ z => ((z.o 0 rfl).fld 0 rfl)) rfl rfl (Nat.le_of_ble_eq_true rfl) dJ10_add_15 ⟨Nat.le_of_ble_eq_true rfl, Nat.le_of_ble_eq_true rfl⟩ rfl (fun r ws_ im' hp => ?_)
  obtain ⟨a1_, rfl, rfl, rfl⟩ := hp
  show F 1 3 ([oC a 13 [.int (mc + 1), .int 1, .ref a1_, .ref a1_], oC a1_ 14 [.ref x, .null, .null]]) ([]) 18 [] [(0, .ref a), (1, .int (nI 0)), (2, .ref x)]
  refine r_goto 31 (hF.pu _ _ _ _) dJ10_add_18 (by decide) ?_
  exact FR.v hR dJ10_add_31 (Nat.le_of_ble_eq_true rfl) (Nat.le_of_ble_eq_true rfl) ⟨_, rfl, rfl, rfl⟩
theorem lk_J10_93 : GoodIn lw_all (wsV RJ10 93 yJ10_linkBefore.cls yJ10_linkBefore (ws_ yJ10_linkBefore cJ10_linkBefore 5 none)) := lw_V q2592 q2593 q2594 q116 q2595
theorem yk_J10_linkBefore : yOk yJ10_linkBefore 2 := by decide +kernel
set_option maxHeartbeats 4000000 in
theorem fc_J10_add_10 (D : DD) (l : Launch) {KS : Nat → Prop} {Hb : Heap} (a b y x : Nat) (mc : Int32) : Fc D l yJ10_add cJ10_add 3 none 3 1 3 67 KS Hb [.ref a, .int (nI 0), .ref x] ([oC a 13 [.int mc, .int 1, .ref b, .ref b], oC b 14 [.ref y, .null, .null]]) ([]) (fun r w_ i => ∃ c, r = none ∧ w_ = [oC a 13 [.int (mc + 1), .int 2, .ref c, .ref b], oC c 14 [.ref x, .ref b, .null], oC b 14 [.ref y, .null, .ref c]] ∧ i = []) := by
  refine Fc.of (by decide) (Nat.le_of_ble_eq_true rfl) (fun s F hF hR => ?_)
  show F 0 0 ([oC a 13 [.int mc, .int 1, .ref b, .ref b], oC b 14 [.ref y, .null, .null]]) ([]) 0 [] [(0, .ref a), (1, .int (nI 0)), (2, .ref x)]
  refine r_aload_n 1 0 (hF.pu _ _ _ _) dJ10_add_0 rfl rfl ?_
  refine r_iload_n 2 1 (hF.pu _ _ _ _) dJ10_add_1 rfl rfl ?_
  refine f_callp 5 hF (fun _ z => cp_J10_checkPositionIndex D l a 1 0 ((z.o 0 rfl).fld 1 rfl) (by decide) (by decide)) lk_J10_76 1 yk_J10_checkPositionIndex rfl ⟨by decide, by decide⟩ (fun _ z => ((z.o 0 rfl).fld 0 rfl)) rfl rfl (Nat.le_of_ble_eq_true rfl) dJ10_add_2 ⟨Nat.le_of_ble_eq_true rfl, Nat.le_of_ble_eq_true rfl⟩ rfl ?_
  refine r_iload_n 6 1 (hF.pu _ _ _ _) dJ10_add_5 rfl rfl ?_
  refine r_aload_n 7 0 (hF.pu _ _ _ _) dJ10_add_6 rfl rfl ?_
  refine f_getf 10 hF (T := TJ10) (C := RJ10) 1 (v := .int 1) okJ10 (fun _ z => ((z.o 0 rfl).fld 1 rfl)) rfl (by decide) (Or.inl q292) (Or.inl rfl) dJ10_add_7 rfl ?_
  refine r_icmp_neN 0 1 13 21 (hF.pu _ _ _ _) dJ10_add_10 (by omega) (by omega) (by decide) (fun c10 => ?_) rfl (fun c10 => absurd c10 (by decide))
  refine r_aload_n 22 0 (hF.pu _ _ _ _) dJ10_add_21 rfl rfl ?_
  refine r_aload_n 23 2 (hF.pu _ _ _ _) dJ10_add_22 rfl rfl ?_
  refine r_aload_n 24 0 (hF.pu _ _ _ _) dJ10_add_23 rfl rfl ?_
  refine r_iload_n 25 1 (hF.pu _ _ _ _) dJ10_add_24 rfl rfl ?_
  refine f_callp 28 hF (fun _ z => cp_J10_node_10 D l a b b ((z.o 0 rfl).fld 1 rfl) ((z.o 0 rfl).fld 2 rfl) ((z.o 0 rfl).fld 3 rfl)) lk_J10_86 1 yk_J10_node rfl ⟨by decide, by decide⟩ (fun _ z => ((z.o 0 rfl).fld 0 rfl)) rfl rfl (Nat.le_of_ble_eq_true rfl) dJ10_add_25 ⟨Nat.le_of_ble_eq_true rfl, Nat.le_of_ble_eq_true rfl⟩ rfl ?_
  refine f_callV 31 hF (fc_J10_linkBefore (KS := KS) (Hb := Hb) D l a b y x mc) (wr := ([])) rfl (imk [] rfl) lk_J10_93 2 yk_J10_linkBefore rfl ⟨by decide, by decide⟩ (fun _ z => ((z.o 0 rfl).fld 0 rfl)) rfl rfl (Nat.le_of_ble_eq_true rfl) dJ10_add_28 ⟨Nat.le_of_ble_eq_true rfl, Nat.le_of_ble_eq_true rfl⟩ rfl (fun r ws_ im' hp => ?_)
  obtain ⟨a1_, rfl, rfl, rfl⟩ := hp
  show F 1 3 ([oC a 13 [.int (mc + 1), .int 2, .ref a1_, .ref b], oC a1_ 14 [.ref x, .ref b, .null], oC b 14 [.ref y, .null, .ref a1_]]) ([]) 31 [] [(0, .ref a), (1, .int (nI 0)), (2, .ref x)]
  exact FR.v hR dJ10_add_31 (Nat.le_of_ble_eq_true rfl) (Nat.le_of_ble_eq_true rfl) ⟨_, rfl, rfl, rfl⟩
set_option maxHeartbeats 4000000 in
theorem fc_J10_add_11 (D : DD) (l : Launch) {KS : Nat → Prop} {Hb : Heap} (a b y x : Nat) (mc : Int32) : Fc D l yJ10_add cJ10_add 3 none 3 1 3 66 KS Hb [.ref a, .int (nI 1), .ref x] ([oC a 13 [.int mc, .int 1, .ref b, .ref b], oC b 14 [.ref y, .null, .null]]) ([]) (fun r w_ i => ∃ c, r = none ∧ w_ = [oC a 13 [.int (mc + 1), .int 2, .ref b, .ref c], oC b 14 [.ref y, .ref c, .null], oC c 14 [.ref x, .null, .ref b]] ∧ i = []) := by
  refine Fc.of (by decide) (Nat.le_of_ble_eq_true rfl) (fun s F hF hR => ?_)
  show F 0 0 ([oC a 13 [.int mc, .int 1, .ref b, .ref b], oC b 14 [.ref y, .null, .null]]) ([]) 0 [] [(0, .ref a), (1, .int (nI 1)), (2, .ref x)]
  refine r_aload_n 1 0 (hF.pu _ _ _ _) dJ10_add_0 rfl rfl ?_
  refine r_iload_n 2 1 (hF.pu _ _ _ _) dJ10_add_1 rfl rfl ?_
  refine f_callp 5 hF (fun _ z => cp_J10_checkPositionIndex D l a 1 1 ((z.o 0 rfl).fld 1 rfl) (by decide) (by decide)) lk_J10_76 1 yk_J10_checkPositionIndex rfl ⟨by decide, by decide⟩ (fun _ z => ((z.o 0 rfl).fld 0 rfl)) rfl rfl (Nat.le_of_ble_eq_true rfl) dJ10_add_2 ⟨Nat.le_of_ble_eq_true rfl, Nat.le_of_ble_eq_true rfl⟩ rfl ?_
  refine r_iload_n 6 1 (hF.pu _ _ _ _) dJ10_add_5 rfl rfl ?_
  refine r_aload_n 7 0 (hF.pu _ _ _ _) dJ10_add_6 rfl rfl ?_
  refine f_getf 10 hF (T := TJ10) (C := RJ10) 1 (v := .int 1) okJ10 (fun _ z => ((z.o 0 rfl).fld 1 rfl)) rfl (by decide) (Or.inl q292) (Or.inl rfl) dJ10_add_7 rfl ?_
  refine r_icmp_neN 1 1 13 21 (hF.pu _ _ _ _) dJ10_add_10 (by omega) (by omega) (by decide) (fun c10 => absurd c10 (by decide)) rfl (fun c10 => ?_)
  refine r_aload_n 14 0 (hF.pu _ _ _ _) dJ10_add_13 rfl rfl ?_
  refine r_aload_n 15 2 (hF.pu _ _ _ _) dJ10_add_14 rfl rfl ?_
  refine f_callV 18 hF (fc_J10_linkLast_1 (KS := KS) (Hb := Hb) D l a x mc b y) (wr := ([])) rfl (imk [] rfl) lk_J10_57 1 yk_J10_linkLast rfl ⟨by decide, by decide⟩ (fun _ z => ((z.o 0 rfl).fld 0 rfl)) rfl rfl (Nat.le_of_ble_eq_true rfl) dJ10_add_15 ⟨Nat.le_of_ble_eq_true rfl, Nat.le_of_ble_eq_true rfl⟩ rfl (fun r ws_ im' hp => ?_)
  obtain ⟨a1_, rfl, rfl, rfl⟩ := hp
  show F 1 3 ([oC a 13 [.int (mc + 1), .int 2, .ref b, .ref a1_], oC b 14 [.ref y, .ref a1_, .null], oC a1_ 14 [.ref x, .null, .ref b]]) ([]) 18 [] [(0, .ref a), (1, .int (nI 1)), (2, .ref x)]
  refine r_goto 31 (hF.pu _ _ _ _) dJ10_add_18 (by decide) ?_
  exact FR.v hR dJ10_add_31 (Nat.le_of_ble_eq_true rfl) (Nat.le_of_ble_eq_true rfl) ⟨_, rfl, rfl, rfl⟩
theorem lk_J35_68 : GoodIn lw_all (wsV RJ35 68 yJ10_unlink.cls yJ10_unlink (ws_ yJ10_unlink cJ10_unlink 5 (Option.some (ClassFile.FieldType.object "java/lang/Object")))) := lw_V q2548 q2473 q2474 q116 q2475
set_option maxHeartbeats 4000000 in
theorem fc_J35_remove_10 (D : DD) (l : Launch) {KS : Nat → Prop} {Hb : Heap} (it a b y : Nat) (mc : Int32) : Fc D l yJ35_remove cJ35_remove 2 none 1 0 0 24 KS Hb [.ref it] ([oC it 15 [.ref b, .null, .int (nI 1), .int mc, .ref a], oC a 13 [.int mc, .int 1, .ref b, .ref b], oC b 14 [.ref y, .null, .null]]) ([]) (fun r w_ i => r = none ∧ w_ = [oC it 15 [.null, .null, .int (nI 0), .int (mc + 1), .ref a], oC a 13 [.int (mc + 1), .int 0, .null, .null]] ∧ i = []) := by
  refine Fc.of (by decide) (Nat.le_of_ble_eq_true rfl) (fun s F hF hR => ?_)
  show F 0 0 ([oC it 15 [.ref b, .null, .int (nI 1), .int mc, .ref a], oC a 13 [.int mc, .int 1, .ref b, .ref b], oC b 14 [.ref y, .null, .null]]) ([]) 0 [] [(0, .ref it)]
  refine r_aload_n 1 0 (hF.pu _ _ _ _) dJ35_remove_0 rfl rfl ?_
  refine f_callp 4 hF (fun _ z => cp_J35_checkForComodification D l it a mc ((z.o 0 rfl).fld 3 rfl) ((z.o 0 rfl).fld 4 rfl) ((z.o 1 rfl).fld 0 rfl)) lk_J35_36 0 yk_J35_checkForComodification rfl ⟨by decide, by decide⟩ (fun _ z => ((z.o 0 rfl).fld 0 rfl)) rfl rfl (Nat.le_of_ble_eq_true rfl) dJ35_remove_1 ⟨Nat.le_of_ble_eq_true rfl, Nat.le_of_ble_eq_true rfl⟩ rfl ?_
  refine r_aload_n 5 0 (hF.pu _ _ _ _) dJ35_remove_4 rfl rfl ?_
  refine f_getf 8 hF (T := TJ35) (C := RJ35) 0 (v := .ref b) okJ35 (fun _ z => ((z.o 0 rfl).fld 0 rfl)) rfl (by decide) (Or.inl q1130) (Or.inl rfl) dJ35_remove_5 rfl ?_
  refine r_ifnonnull 19 (hF.pu _ _ _ _) dJ35_remove_8 (by decide) ?_
  refine r_aload_n 20 0 (hF.pu _ _ _ _) dJ35_remove_19 rfl rfl ?_
  refine f_getf 23 hF (T := TJ35) (C := RJ35) 0 (v := .ref b) okJ35 (fun _ z => ((z.o 0 rfl).fld 0 rfl)) rfl (by decide) (Or.inl q1130) (Or.inl rfl) dJ35_remove_20 rfl ?_
  refine f_getf 26 hF (T := TJ39) (C := RJ39) 1 (v := .null) okJ39 (fun _ z => ((z.o 2 rfl).fld 1 rfl)) rfl (by decide) (Or.inl q1733) (Or.inl rfl) dJ35_remove_23 rfl ?_
  refine r_astore_nN 27 [(1, .null), (0, .ref it)] (hF.pu _ _ _ _) dJ35_remove_26 rfl (by decide) rfl rfl ?_
  refine r_aload_n 28 1 (hF.pu _ _ _ _) dJ35_remove_27 rfl rfl ?_
  refine f_getf 31 hF (T := TJ35) (C := RJ35) 4 (v := .ref a) okJ35 (fun _ z => ((z.o 0 rfl).fld 4 rfl)) rfl (by decide) (Or.inl q1134) (Or.inl rfl) dJ35_remove_28 rfl ?_
  refine r_aload_n 32 1 (hF.pu _ _ _ _) dJ35_remove_31 rfl rfl ?_
  refine f_getf 35 hF (T := TJ35) (C := RJ35) 0 (v := .ref b) okJ35 (fun _ z => ((z.o 0 rfl).fld 0 rfl)) rfl (by decide) (Or.inl q1130) (Or.inl rfl) dJ35_remove_32 rfl ?_
  refine f_ups hF [2] ([oC b 14 [.ref y, .null, .null], oC it 15 [.ref b, .null, .int (nI 1), .int mc, .ref a], oC a 13 [.int mc, .int 1, .ref b, .ref b]]) rfl ?_
  refine f_ups hF [2] ([oC a 13 [.int mc, .int 1, .ref b, .ref b], oC b 14 [.ref y, .null, .null], oC it 15 [.ref b, .null, .int (nI 1), .int mc, .ref a]]) rfl ?_
  refine f_callV 38 hF (fc_J10_unlink_10 (KS := KS) (Hb := Hb) D l a b y mc) (wr := ([oC it 15 [.ref b, .null, .int (nI 1), .int mc, .ref a]])) rfl (imk [] rfl) lk_J35_68 1 yk_J10_unlink rfl ⟨by decide, by decide⟩ (fun _ z => ((z.o 0 rfl).fld 0 rfl)) rfl rfl (Nat.le_of_ble_eq_true rfl) dJ35_remove_35 ⟨Nat.le_of_ble_eq_true rfl, Nat.le_of_ble_eq_true rfl⟩ rfl (fun r ws_ im' hp => ?_)
  obtain ⟨rfl, rfl, rfl⟩ := hp
  show F 0 0 ([oC a 13 [.int (mc + 1), .int 0, .null, .null], oC it 15 [.ref b, .null, .int (nI 1), .int mc, .ref a]]) ([]) 38 [.ref y] [(1, .null), (0, .ref it)]
  refine r_pop 39 (hF.pu _ _ _ _) dJ35_remove_38 rfl rfl ?_
  refine r_aload_n 40 1 (hF.pu _ _ _ _) dJ35_remove_39 rfl rfl ?_
  refine f_getf 43 hF (T := TJ35) (C := RJ35) 1 (v := .null) okJ35 (fun _ z => ((z.o 1 rfl).fld 1 rfl)) rfl (by decide) (Or.inl q1131) (Or.inl rfl) dJ35_remove_40 rfl ?_
  refine r_aload_n 44 1 (hF.pu _ _ _ _) dJ35_remove_43 rfl rfl ?_
  refine f_getf 47 hF (T := TJ35) (C := RJ35) 0 (v := .ref b) okJ35 (fun _ z => ((z.o 1 rfl).fld 0 rfl)) rfl (by decide) (Or.inl q1130) (Or.inl rfl) dJ35_remove_44 rfl ?_
  refine r_acmp_ne 50 58 (rx := none) (ry := (some b)) (hF.pu _ _ _ _) dJ35_remove_47 (by decide) (fun c47 => ?_) rfl (fun c47 => absurd c47 (by simp))
  refine r_aload_n 59 1 (hF.pu _ _ _ _) dJ35_remove_58 rfl rfl ?_
  refine r_dup 60 (hF.pu _ _ _ _) dJ35_remove_59 rfl rfl ?_
  refine f_getf 63 hF (T := TJ35) (C := RJ35) 2 (v := .int (nI 1)) okJ35 (fun _ z => ((z.o 1 rfl).fld 2 rfl)) rfl (by decide) (Or.inl q1132) (Or.inl rfl) dJ35_remove_60 rfl ?_
  refine r_iconst 64 1 (hF.pu _ _ _ _) dJ35_remove_63 (by decide) rfl ?_
  refine r_isubN 1 1 0 65 (hF.pu _ _ _ _) dJ35_remove_64 (by omega) (by omega) rfl ?_
  refine f_put 68 hF 1 (T := TJ35) (C := RJ35) ([oC a 13 [.int (mc + 1), .int 0, .null, .null], oC it 15 [.ref b, .null, .int (nI 0), .int mc, .ref a]]) okJ35 rfl rfl 2 (by decide) (Or.inl q1132) (Or.inl rfl) rfl rfl rfl (Nat.le_of_ble_eq_true rfl) rfl dJ35_remove_65 rfl ?_
  refine r_aload_n 69 1 (hF.pu _ _ _ _) dJ35_remove_68 rfl rfl ?_
  refine r_null 70 (hF.pu _ _ _ _) dJ35_remove_69 rfl ?_
  refine f_put 73 hF 1 (T := TJ35) (C := RJ35) ([oC a 13 [.int (mc + 1), .int 0, .null, .null], oC it 15 [.null, .null, .int (nI 0), .int mc, .ref a]]) okJ35 rfl rfl 0 (by decide) (Or.inl q1130) (Or.inl rfl) rfl rfl rfl (Nat.le_of_ble_eq_true rfl) rfl dJ35_remove_70 rfl ?_
  refine r_aload_n 74 1 (hF.pu _ _ _ _) dJ35_remove_73 rfl rfl ?_
  refine r_dup 75 (hF.pu _ _ _ _) dJ35_remove_74 rfl rfl ?_
  refine f_getf 78 hF (T := TJ35) (C := RJ35) 3 (v := .int mc) okJ35 (fun _ z => ((z.o 1 rfl).fld 3 rfl)) rfl (by decide) (Or.inl q1133) (Or.inl rfl) dJ35_remove_75 rfl ?_
  refine r_iconst 79 1 (hF.pu _ _ _ _) dJ35_remove_78 (by decide) rfl ?_
  refine r_iadd 80 (hF.pu _ _ _ _) dJ35_remove_79 rfl ?_
  refine f_put 83 hF 1 (T := TJ35) (C := RJ35) ([oC a 13 [.int (mc + 1), .int 0, .null, .null], oC it 15 [.null, .null, .int (nI 0), .int (mc + 1), .ref a]]) okJ35 rfl rfl 3 (by decide) (Or.inl q1133) (Or.inl rfl) rfl rfl rfl (Nat.le_of_ble_eq_true rfl) rfl dJ35_remove_80 rfl ?_
  refine f_ups hF [1] ([oC it 15 [.null, .null, .int (nI 0), .int (mc + 1), .ref a], oC a 13 [.int (mc + 1), .int 0, .null, .null]]) rfl ?_
  exact FR.v hR dJ35_remove_83 (Nat.le_of_ble_eq_true rfl) (Nat.le_of_ble_eq_true rfl) ⟨rfl, rfl, rfl⟩
set_option maxHeartbeats 4000000 in
theorem fc_J35_remove_20 (D : DD) (l : Launch) {KS : Nat → Prop} {Hb : Heap} (it a b y c w : Nat) (mc : Int32) : Fc D l yJ35_remove cJ35_remove 2 none 1 0 0 24 KS Hb [.ref it] ([oC it 15 [.ref b, .ref c, .int (nI 1), .int mc, .ref a], oC a 13 [.int mc, .int 2, .ref b, .ref c], oC b 14 [.ref y, .ref c, .null], oC c 14 [.ref w, .null, .ref b]]) ([]) (fun r w_ i => r = none ∧ w_ = [oC it 15 [.null, .ref c, .int (nI 0), .int (mc + 1), .ref a], oC a 13 [.int (mc + 1), .int 1, .ref c, .ref c], oC c 14 [.ref w, .null, .null]] ∧ i = []) := by
  refine Fc.of (by decide) (Nat.le_of_ble_eq_true rfl) (fun s F hF hR => ?_)
  show F 0 0 ([oC it 15 [.ref b, .ref c, .int (nI 1), .int mc, .ref a], oC a 13 [.int mc, .int 2, .ref b, .ref c], oC b 14 [.ref y, .ref c, .null], oC c 14 [.ref w, .null, .ref b]]) ([]) 0 [] [(0, .ref it)]
  refine f_ne hF 2 3 rfl rfl (by decide) (fun hbc => ?_)
  refine r_aload_n 1 0 (hF.pu _ _ _ _) dJ35_remove_0 rfl rfl ?_
  refine f_callp 4 hF (fun _ z => cp_J35_checkForComodification D l it a mc ((z.o 0 rfl).fld 3 rfl) ((z.o 0 rfl).fld 4 rfl) ((z.o 1 rfl).fld 0 rfl)) lk_J35_36 0 yk_J35_checkForComodification rfl ⟨by decide, by decide⟩ (fun _ z => ((z.o 0 rfl).fld 0 rfl)) rfl rfl (Nat.le_of_ble_eq_true rfl) dJ35_remove_1 ⟨Nat.le_of_ble_eq_true rfl, Nat.le_of_ble_eq_true rfl⟩ rfl ?_
  refine r_aload_n 5 0 (hF.pu _ _ _ _) dJ35_remove_4 rfl rfl ?_
  refine f_getf 8 hF (T := TJ35) (C := RJ35) 0 (v := .ref b) okJ35 (fun _ z => ((z.o 0 rfl).fld 0 rfl)) rfl (by decide) (Or.inl q1130) (Or.inl rfl) dJ35_remove_5 rfl ?_
  refine r_ifnonnull 19 (hF.pu _ _ _ _) dJ35_remove_8 (by decide) ?_
  refine r_aload_n 20 0 (hF.pu _ _ _ _) dJ35_remove_19 rfl rfl ?_
  refine f_getf 23 hF (T := TJ35) (C := RJ35) 0 (v := .ref b) okJ35 (fun _ z => ((z.o 0 rfl).fld 0 rfl)) rfl (by decide) (Or.inl q1130) (Or.inl rfl) dJ35_remove_20 rfl ?_
  refine f_getf 26 hF (T := TJ39) (C := RJ39) 1 (v := .ref c) okJ39 (fun _ z => ((z.o 2 rfl).fld 1 rfl)) rfl (by decide) (Or.inl q1733) (Or.inl rfl) dJ35_remove_23 rfl ?_
  refine r_astore_n 27 [(1, .ref c), (0, .ref it)] (hF.pu _ _ _ _) dJ35_remove_26 rfl (by decide) rfl rfl ?_
  refine r_aload_n 28 1 (hF.pu _ _ _ _) dJ35_remove_27 rfl rfl ?_
  refine f_getf 31 hF (T := TJ35) (C := RJ35) 4 (v := .ref a) okJ35 (fun _ z => ((z.o 0 rfl).fld 4 rfl)) rfl (by decide) (Or.inl q1134) (Or.inl rfl) dJ35_remove_28 rfl ?_
  refine r_aload_n 32 1 (hF.pu _ _ _ _) dJ35_remove_31 rfl rfl ?_
  refine f_getf 35 hF (T := TJ35) (C := RJ35) 0 (v := .ref b) okJ35 (fun _ z => ((z.o 0 rfl).fld 0 rfl)) rfl (by decide) (Or.inl q1130) (Or.inl rfl) dJ35_remove_32 rfl ?_
  refine f_perm hF ([oC a 13 [.int mc, .int 2, .ref b, .ref c], oC b 14 [.ref y, .ref c, .null], oC c 14 [.ref w, .null, .ref b], oC it 15 [.ref b, .ref c, .int (nI 1), .int mc, .ref a]]) (pm_sw (A := [oC it 15 [.ref b, .ref c, .int (nI 1), .int mc, .ref a]]) (B := [oC a 13 [.int mc, .int 2, .ref b, .ref c], oC b 14 [.ref y, .ref c, .null], oC c 14 [.ref w, .null, .ref b]]) (R := [])) ?_
  refine f_callV 38 hF (fc_J10_unlink_20 (KS := KS) (Hb := Hb) D l a b y c w mc) (wr := ([oC it 15 [.ref b, .ref c, .int (nI 1), .int mc, .ref a]])) rfl (imk [] rfl) lk_J35_68 1 yk_J10_unlink rfl ⟨by decide, by decide⟩ (fun _ z => ((z.o 0 rfl).fld 0 rfl)) rfl rfl (Nat.le_of_ble_eq_true rfl) dJ35_remove_35 ⟨Nat.le_of_ble_eq_true rfl, Nat.le_of_ble_eq_true rfl⟩ rfl (fun r ws_ im' hp => ?_)
  obtain ⟨rfl, rfl, rfl⟩ := hp
  show F 0 0 ([oC a 13 [.int (mc + 1), .int 1, .ref c, .ref c], oC c 14 [.ref w, .null, .null], oC it 15 [.ref b, .ref c, .int (nI 1), .int mc, .ref a]]) ([]) 38 [.ref y] [(1, .ref c), (0, .ref it)]
  refine r_pop 39 (hF.pu _ _ _ _) dJ35_remove_38 rfl rfl ?_
  refine r_aload_n 40 1 (hF.pu _ _ _ _) dJ35_remove_39 rfl rfl ?_
  refine f_getf 43 hF (T := TJ35) (C := RJ35) 1 (v := .ref c) okJ35 (fun _ z => ((z.o 2 rfl).fld 1 rfl)) rfl (by decide) (Or.inl q1131) (Or.inl rfl) dJ35_remove_40 rfl ?_
  refine r_aload_n 44 1 (hF.pu _ _ _ _) dJ35_remove_43 rfl rfl ?_
  refine f_getf 47 hF (T := TJ35) (C := RJ35) 0 (v := .ref b) okJ35 (fun _ z => ((z.o 2 rfl).fld 0 rfl)) rfl (by decide) (Or.inl q1130) (Or.inl rfl) dJ35_remove_44 rfl ?_
  refine r_acmp_ne 50 58 (rx := (some c)) (ry := (some b)) (hF.pu _ _ _ _) dJ35_remove_47 (by decide) (fun c47 => ?_) rfl (fun c47 => absurd c47 (fun z => hbc (Option.some.inj z).symm))
  refine r_aload_n 59 1 (hF.pu _ _ _ _) dJ35_remove_58 rfl rfl ?_
  refine r_dup 60 (hF.pu _ _ _ _) dJ35_remove_59 rfl rfl ?_
  refine f_getf 63 hF (T := TJ35) (C := RJ35) 2 (v := .int (nI 1)) okJ35 (fun _ z => ((z.o 2 rfl).fld 2 rfl)) rfl (by decide) (Or.inl q1132) (Or.inl rfl) dJ35_remove_60 rfl ?_
  refine r_iconst 64 1 (hF.pu _ _ _ _) dJ35_remove_63 (by decide) rfl ?_
  refine r_isubN 1 1 0 65 (hF.pu _ _ _ _) dJ35_remove_64 (by omega) (by omega) rfl ?_
  refine f_put 68 hF 2 (T := TJ35) (C := RJ35) ([oC a 13 [.int (mc + 1), .int 1, .ref c, .ref c], oC c 14 [.ref w, .null, .null], oC it 15 [.ref b, .ref c, .int (nI 0), .int mc, .ref a]]) okJ35 rfl rfl 2 (by decide) (Or.inl q1132) (Or.inl rfl) rfl rfl rfl (Nat.le_of_ble_eq_true rfl) rfl dJ35_remove_65 rfl ?_
  refine r_aload_n 69 1 (hF.pu _ _ _ _) dJ35_remove_68 rfl rfl ?_
  refine r_null 70 (hF.pu _ _ _ _) dJ35_remove_69 rfl ?_
  refine f_put 73 hF 2 (T := TJ35) (C := RJ35) ([oC a 13 [.int (mc + 1), .int 1, .ref c, .ref c], oC c 14 [.ref w, .null, .null], oC it 15 [.null, .ref c, .int (nI 0), .int mc, .ref a]]) okJ35 rfl rfl 0 (by decide) (Or.inl q1130) (Or.inl rfl) rfl rfl rfl (Nat.le_of_ble_eq_true rfl) rfl dJ35_remove_70 rfl ?_
  refine r_aload_n 74 1 (hF.pu _ _ _ _) dJ35_remove_73 rfl rfl ?_
  refine r_dup 75 (hF.pu _ _ _ _) dJ35_remove_74 rfl rfl ?_
  refine f_getf 78 hF (T := TJ35) (C := RJ35) 3 (v := .int mc) okJ35 (fun _ z => ((z.o 2 rfl).fld 3 rfl)) rfl (by decide) (Or.inl q1133) (Or.inl rfl) dJ35_remove_75 rfl ?_
  refine r_iconst 79 1 (hF.pu _ _ _ _) dJ35_remove_78 (by decide) rfl ?_
  refine r_iadd 80 (hF.pu _ _ _ _) dJ35_remove_79 rfl ?_
  refine f_put 83 hF 2 (T := TJ35) (C := RJ35) ([oC a 13 [.int (mc + 1), .int 1, .ref c, .ref c], oC c 14 [.ref w, .null, .null], oC it 15 [.null, .ref c, .int (nI 0), .int (mc + 1), .ref a]]) okJ35 rfl rfl 3 (by decide) (Or.inl q1133) (Or.inl rfl) rfl rfl rfl (Nat.le_of_ble_eq_true rfl) rfl dJ35_remove_80 rfl ?_
  refine f_ups hF [1] ([oC c 14 [.ref w, .null, .null], oC a 13 [.int (mc + 1), .int 1, .ref c, .ref c], oC it 15 [.null, .ref c, .int (nI 0), .int (mc + 1), .ref a]]) rfl ?_
  refine f_ups hF [1] ([oC a 13 [.int (mc + 1), .int 1, .ref c, .ref c], oC c 14 [.ref w, .null, .null], oC it 15 [.null, .ref c, .int (nI 0), .int (mc + 1), .ref a]]) rfl ?_
  refine f_ups hF [2] ([oC it 15 [.null, .ref c, .int (nI 0), .int (mc + 1), .ref a], oC a 13 [.int (mc + 1), .int 1, .ref c, .ref c], oC c 14 [.ref w, .null, .null]]) rfl ?_
  exact FR.v hR dJ35_remove_83 (Nat.le_of_ble_eq_true rfl) (Nat.le_of_ble_eq_true rfl) ⟨rfl, rfl, rfl⟩
set_option maxHeartbeats 4000000 in
theorem fc_J35_remove_21 (D : DD) (l : Launch) {KS : Nat → Prop} {Hb : Heap} (it a b y c w : Nat) (mc : Int32) : Fc D l yJ35_remove cJ35_remove 2 none 1 0 0 24 KS Hb [.ref it] ([oC it 15 [.ref c, .null, .int (nI 2), .int mc, .ref a], oC a 13 [.int mc, .int 2, .ref b, .ref c], oC b 14 [.ref y, .ref c, .null], oC c 14 [.ref w, .null, .ref b]]) ([]) (fun r w_ i => r = none ∧ w_ = [oC it 15 [.null, .null, .int (nI 1), .int (mc + 1), .ref a], oC a 13 [.int (mc + 1), .int 1, .ref b, .ref b], oC b 14 [.ref y, .null, .null]] ∧ i = []) := by
  refine Fc.of (by decide) (Nat.le_of_ble_eq_true rfl) (fun s F hF hR => ?_)
  show F 0 0 ([oC it 15 [.ref c, .null, .int (nI 2), .int mc, .ref a], oC a 13 [.int mc, .int 2, .ref b, .ref c], oC b 14 [.ref y, .ref c, .null], oC c 14 [.ref w, .null, .ref b]]) ([]) 0 [] [(0, .ref it)]
  refine r_aload_n 1 0 (hF.pu _ _ _ _) dJ35_remove_0 rfl rfl ?_
  refine f_callp 4 hF (fun _ z => cp_J35_checkForComodification D l it a mc ((z.o 0 rfl).fld 3 rfl) ((z.o 0 rfl).fld 4 rfl) ((z.o 1 rfl).fld 0 rfl)) lk_J35_36 0 yk_J35_checkForComodification rfl ⟨by decide, by decide⟩ (fun _ z => ((z.o 0 rfl).fld 0 rfl)) rfl rfl (Nat.le_of_ble_eq_true rfl) dJ35_remove_1 ⟨Nat.le_of_ble_eq_true rfl, Nat.le_of_ble_eq_true rfl⟩ rfl ?_
  refine r_aload_n 5 0 (hF.pu _ _ _ _) dJ35_remove_4 rfl rfl ?_
  refine f_getf 8 hF (T := TJ35) (C := RJ35) 0 (v := .ref c) okJ35 (fun _ z => ((z.o 0 rfl).fld 0 rfl)) rfl (by decide) (Or.inl q1130) (Or.inl rfl) dJ35_remove_5 rfl ?_
  refine r_ifnonnull 19 (hF.pu _ _ _ _) dJ35_remove_8 (by decide) ?_
  refine r_aload_n 20 0 (hF.pu _ _ _ _) dJ35_remove_19 rfl rfl ?_
  refine f_getf 23 hF (T := TJ35) (C := RJ35) 0 (v := .ref c) okJ35 (fun _ z => ((z.o 0 rfl).fld 0 rfl)) rfl (by decide) (Or.inl q1130) (Or.inl rfl) dJ35_remove_20 rfl ?_
  refine f_getf 26 hF (T := TJ39) (C := RJ39) 1 (v := .null) okJ39 (fun _ z => ((z.o 3 rfl).fld 1 rfl)) rfl (by decide) (Or.inl q1733) (Or.inl rfl) dJ35_remove_23 rfl ?_
  refine r_astore_nN 27 [(1, .null), (0, .ref it)] (hF.pu _ _ _ _) dJ35_remove_26 rfl (by decide) rfl rfl ?_
  refine r_aload_n 28 1 (hF.pu _ _ _ _) dJ35_remove_27 rfl rfl ?_
  refine f_getf 31 hF (T := TJ35) (C := RJ35) 4 (v := .ref a) okJ35 (fun _ z => ((z.o 0 rfl).fld 4 rfl)) rfl (by decide) (Or.inl q1134) (Or.inl rfl) dJ35_remove_28 rfl ?_
  refine r_aload_n 32 1 (hF.pu _ _ _ _) dJ35_remove_31 rfl rfl ?_
  refine f_getf 35 hF (T := TJ35) (C := RJ35) 0 (v := .ref c) okJ35 (fun _ z => ((z.o 0 rfl).fld 0 rfl)) rfl (by decide) (Or.inl q1130) (Or.inl rfl) dJ35_remove_32 rfl ?_
  refine f_perm hF ([oC a 13 [.int mc, .int 2, .ref b, .ref c], oC b 14 [.ref y, .ref c, .null], oC c 14 [.ref w, .null, .ref b], oC it 15 [.ref c, .null, .int (nI 2), .int mc, .ref a]]) (pm_sw (A := [oC it 15 [.ref c, .null, .int (nI 2), .int mc, .ref a]]) (B := [oC a 13 [.int mc, .int 2, .ref b, .ref c], oC b 14 [.ref y, .ref c, .null], oC c 14 [.ref w, .null, .ref b]]) (R := [])) ?_
  refine f_callV 38 hF (fc_J10_unlink_21 (KS := KS) (Hb := Hb) D l a b y c w mc) (wr := ([oC it 15 [.ref c, .null, .int (nI 2), .int mc, .ref a]])) rfl (imk [] rfl) lk_J35_68 1 yk_J10_unlink rfl ⟨by decide, by decide⟩ (fun _ z => ((z.o 0 rfl).fld 0 rfl)) rfl rfl (Nat.le_of_ble_eq_true rfl) dJ35_remove_35 ⟨Nat.le_of_ble_eq_true rfl, Nat.le_of_ble_eq_true rfl⟩ rfl (fun r ws_ im' hp => ?_)
  obtain ⟨rfl, rfl, rfl⟩ := hp
  show F 0 0 ([oC a 13 [.int (mc + 1), .int 1, .ref b, .ref b], oC b 14 [.ref y, .null, .null], oC it 15 [.ref c, .null, .int (nI 2), .int mc, .ref a]]) ([]) 38 [.ref w] [(1, .null), (0, .ref it)]
  refine r_pop 39 (hF.pu _ _ _ _) dJ35_remove_38 rfl rfl ?_
  refine r_aload_n 40 1 (hF.pu _ _ _ _) dJ35_remove_39 rfl rfl ?_
  refine f_getf 43 hF (T := TJ35) (C := RJ35) 1 (v := .null) okJ35 (fun _ z => ((z.o 2 rfl).fld 1 rfl)) rfl (by decide) (Or.inl q1131) (Or.inl rfl) dJ35_remove_40 rfl ?_
  refine r_aload_n 44 1 (hF.pu _ _ _ _) dJ35_remove_43 rfl rfl ?_
  refine f_getf 47 hF (T := TJ35) (C := RJ35) 0 (v := .ref c) okJ35 (fun _ z => ((z.o 2 rfl).fld 0 rfl)) rfl (by decide) (Or.inl q1130) (Or.inl rfl) dJ35_remove_44 rfl ?_
  refine r_acmp_ne 50 58 (rx := none) (ry := (some c)) (hF.pu _ _ _ _) dJ35_remove_47 (by decide) (fun c47 => ?_) rfl (fun c47 => absurd c47 (by simp))
  refine r_aload_n 59 1 (hF.pu _ _ _ _) dJ35_remove_58 rfl rfl ?_
  refine r_dup 60 (hF.pu _ _ _ _) dJ35_remove_59 rfl rfl ?_
  refine f_getf 63 hF (T := TJ35) (C := RJ35) 2 (v := .int (nI 2)) okJ35 (fun _ z => ((z.o 2 rfl).fld 2 rfl)) rfl (by decide) (Or.inl q1132) (Or.inl rfl) dJ35_remove_60 rfl ?_
  refine r_iconst 64 1 (hF.pu _ _ _ _) dJ35_remove_63 (by decide) rfl ?_
  refine r_isubN 2 1 1 65 (hF.pu _ _ _ _) dJ35_remove_64 (by omega) (by omega) rfl ?_
  refine f_put 68 hF 2 (T := TJ35) (C := RJ35) ([oC a 13 [.int (mc + 1), .int 1, .ref b, .ref b], oC b 14 [.ref y, .null, .null], oC it 15 [.ref c, .null, .int (nI 1), .int mc, .ref a]]) okJ35 rfl rfl 2 (by decide) (Or.inl q1132) (Or.inl rfl) rfl rfl rfl (Nat.le_of_ble_eq_true rfl) rfl dJ35_remove_65 rfl ?_
  refine r_aload_n 69 1 (hF.pu _ _ _ _) dJ35_remove_68 rfl rfl ?_
  refine r_null 70 (hF.pu _ _ _ _) dJ35_remove_69 rfl ?_
  refine f_put 73 hF 2 (T := TJ35) (C := RJ35) ([oC a 13 [.int (mc + 1), .int 1, .ref b, .ref b], oC b 14 [.ref y, .null, .null], oC it 15 [.null, .null, .int (nI 1), .int mc, .ref a]]) okJ35 rfl rfl 0 (by decide) (Or.inl q1130) (Or.inl rfl) rfl rfl rfl (Nat.le_of_ble_eq_true rfl) rfl dJ35_remove_70 rfl ?_
  refine r_aload_n 74 1 (hF.pu _ _ _ _) dJ35_remove_73 rfl rfl ?_
  refine r_dup 75 (hF.pu _ _ _ _) dJ35_remove_74 rfl rfl ?_
  refine f_getf 78 hF (T := TJ35) (C := RJ35) 3 (v := .int mc) okJ35 (fun _ z => ((z.o 2 rfl).fld 3 rfl)) rfl (by decide) (Or.inl q1133) (Or.inl rfl) dJ35_remove_75 rfl ?_
  refine r_iconst 79 1 (hF.pu _ _ _ _) dJ35_remove_78 (by decide) rfl ?_
  refine r_iadd 80 (hF.pu _ _ _ _) dJ35_remove_79 rfl ?_
  refine f_put 83 hF 2 (T := TJ35) (C := RJ35) ([oC a 13 [.int (mc + 1), .int 1, .ref b, .ref b], oC b 14 [.ref y, .null, .null], oC it 15 [.null, .null, .int (nI 1), .int (mc + 1), .ref a]]) okJ35 rfl rfl 3 (by decide) (Or.inl q1133) (Or.inl rfl) rfl rfl rfl (Nat.le_of_ble_eq_true rfl) rfl dJ35_remove_80 rfl ?_
  refine f_ups hF [1] ([oC b 14 [.ref y, .null, .null], oC a 13 [.int (mc + 1), .int 1, .ref b, .ref b], oC it 15 [.null, .null, .int (nI 1), .int (mc + 1), .ref a]]) rfl ?_
  refine f_ups hF [1] ([oC a 13 [.int (mc + 1), .int 1, .ref b, .ref b], oC b 14 [.ref y, .null, .null], oC it 15 [.null, .null, .int (nI 1), .int (mc + 1), .ref a]]) rfl ?_
  refine f_ups hF [2] ([oC it 15 [.null, .null, .int (nI 1), .int (mc + 1), .ref a], oC a 13 [.int (mc + 1), .int 1, .ref b, .ref b], oC b 14 [.ref y, .null, .null]]) rfl ?_
  exact FR.v hR dJ35_remove_83 (Nat.le_of_ble_eq_true rfl) (Nat.le_of_ble_eq_true rfl) ⟨rfl, rfl, rfl⟩
set_option maxHeartbeats 4000000 in
theorem fc_J47_init (D : DD) (l : Launch) {KS : Nat → Prop} {Hb : Heap} (a : Nat) (v v0 : Int64) : Fc D l yJ47_init cJ47_init 3 none 2 0 0 40 KS Hb [.ref a, .long v] ([oC a 20 [.long v0]]) ([]) (fun r w i => r = none ∧ w = [oC a 20 [.long v]] ∧ i = []) := by
  refine Fc.of (by decide) (Nat.le_of_ble_eq_true rfl) (fun s F hF hR => ?_)
  show F 0 0 ([oC a 20 [.long v0]]) ([]) 0 [] [(0, .ref a), (1, .long v)]
  refine r_aload_n 1 0 (hF.pu _ _ _ _) dJ47_init_0 rfl rfl ?_
  refine f_callI 4 hF (fc_J27_init (KS := KS) (Hb := Hb) D l a) (wr := ([oC a 20 [.long v0]])) rfl (imk [] rfl) q2198 q139 q2612 q2197 rfl 0 yk_J27_init rfl ⟨by decide, by decide⟩ rfl (Nat.le_of_ble_eq_true rfl) dJ47_init_1 ⟨Nat.le_of_ble_eq_true rfl, Nat.le_of_ble_eq_true rfl⟩ rfl (fun r ws_ im' hp => ?_)
  obtain ⟨rfl, rfl, rfl⟩ := hp
  show F 0 0 ([oC a 20 [.long v0]]) ([]) 4 [] [(0, .ref a), (1, .long v)]
  refine r_aload_n 5 0 (hF.pu _ _ _ _) dJ47_init_4 rfl rfl ?_
  refine r_lload_n 6 1 (hF.pu _ _ _ _) dJ47_init_5 rfl rfl ?_
  refine f_putF 9 hF 0 (T := TJ47) (C := RJ47) ([oC a 20 [.long v]]) okJ47 rfl rfl 0 (by decide) q2613 rfl rfl rfl rfl rfl (Nat.le_of_ble_eq_true rfl) rfl dJ47_init_6 rfl ?_
  exact FR.v hR dJ47_init_9 (Nat.le_of_ble_eq_true rfl) (Nat.le_of_ble_eq_true rfl) ⟨rfl, rfl, rfl⟩
theorem dvJ47 : ∀ j, j < 1 → defaultValue (tyJ47 j) = vp_V [.long 0] j := by
  intro j hj
  rcases (show j = 0 by omega) with rfl <;> rfl
theorem yk_J47_init : yOk yJ47_init 1 := by decide +kernel
set_option maxHeartbeats 4000000 in
theorem fc_J47_valueOf (D : DD) (l : Launch) {KS : Nat → Prop} {Hb : Heap} (v : Int64) : Fc D l yJ47_valueOf cJ47_valueOf 3 (Option.some (ClassFile.FieldType.object "java/lang/Long")) 3 1 1 62 KS Hb [.long v] ([]) ([]) (fun r w i => ∃ a, r = some (.ref a) ∧ w = [] ∧ i = [oC a 20 [.long v]]) := by
  refine Fc.of (by decide) (Nat.le_of_ble_eq_true rfl) (fun s F hF hR => ?_)
  show F 0 0 ([]) ([]) 0 [] [(0, .long v)]
  refine r_sipush 3 128 (hF.pu _ _ _ _) dJ47_valueOf_0 (by decide) rfl ?_
  refine r_istore_n 4 [(2, .int 128), (0, .long v)] (hF.pu _ _ _ _) dJ47_valueOf_3 rfl (by decide) rfl rfl ?_
  refine r_lload_n 5 1 (hF.pu _ _ _ _) dJ47_valueOf_4 rfl rfl ?_
  refine r_ldc2 8 (hF.pu _ _ _ _) dJ47_valueOf_5 q2603 rfl ?_
  refine r_lc_lt 12 31 (hF.pu _ _ _ _) dJ47_valueOf_8 dJ47_valueOf_9 (by decide) (fun c8 => ?_) rfl (fun c8 => ?_)
  · refine f_new 34 hF (ci := 20) [.long 0] okJ47 rfl q2607 q2608 q163 dvJ47 ⟨Nat.le_of_ble_eq_true rfl, Nat.le_of_ble_eq_true rfl⟩ dJ47_valueOf_31 rfl (fun a1_ => ?_)
    refine r_dup 35 (hF.pu _ _ _ _) dJ47_valueOf_34 rfl rfl ?_
    refine r_lload_n 36 1 (hF.pu _ _ _ _) dJ47_valueOf_35 rfl rfl ?_
    refine f_callI 39 hF (fc_J47_init (KS := KS) (Hb := Hb) D l a1_ v 0) (wr := ([])) rfl (imk [] rfl) q2611 q163 q2609 q2610 rfl 1 yk_J47_init rfl ⟨by decide, by decide⟩ rfl (Nat.le_of_ble_eq_true rfl) dJ47_valueOf_36 ⟨Nat.le_of_ble_eq_true rfl, Nat.le_of_ble_eq_true rfl⟩ rfl (fun r ws_ im' hp => ?_)
    obtain ⟨rfl, rfl, rfl⟩ := hp
    show F 1 1 ([oC a1_ 20 [.long v]]) ([]) 39 [.ref a1_] [(2, .int 128), (0, .long v)]
    refine f_frz hF ?_
    exact FR.a hR (Or.inl ⟨_, rfl⟩) dJ47_valueOf_39 (Nat.le_of_ble_eq_true rfl) (Nat.le_of_ble_eq_true rfl) ⟨_, rfl, rfl, rfl⟩
  · refine r_lload_n 13 1 (hF.pu _ _ _ _) dJ47_valueOf_12 rfl rfl ?_
    refine r_ldc2 16 (hF.pu _ _ _ _) dJ47_valueOf_13 q2604 rfl ?_
    refine r_lc_gt 20 31 (hF.pu _ _ _ _) dJ47_valueOf_16 dJ47_valueOf_17 (by decide) (fun c16 => ?_) rfl (fun c16 => ?_)
    · refine f_new 34 hF (ci := 20) [.long 0] okJ47 rfl q2607 q2608 q163 dvJ47 ⟨Nat.le_of_ble_eq_true rfl, Nat.le_of_ble_eq_true rfl⟩ dJ47_valueOf_31 rfl (fun a2_ => ?_)
      refine r_dup 35 (hF.pu _ _ _ _) dJ47_valueOf_34 rfl rfl ?_
      refine r_lload_n 36 1 (hF.pu _ _ _ _) dJ47_valueOf_35 rfl rfl ?_
      refine f_callI 39 hF (fc_J47_init (KS := KS) (Hb := Hb) D l a2_ v 0) (wr := ([])) rfl (imk [] rfl) q2611 q163 q2609 q2610 rfl 1 yk_J47_init rfl ⟨by decide, by decide⟩ rfl (Nat.le_of_ble_eq_true rfl) dJ47_valueOf_36 ⟨Nat.le_of_ble_eq_true rfl, Nat.le_of_ble_eq_true rfl⟩ rfl (fun r ws_ im' hp => ?_)
      obtain ⟨rfl, rfl, rfl⟩ := hp
      show F 1 1 ([oC a2_ 20 [.long v]]) ([]) 39 [.ref a2_] [(2, .int 128), (0, .long v)]
      refine f_frz hF ?_
      exact FR.a hR (Or.inl ⟨_, rfl⟩) dJ47_valueOf_39 (Nat.le_of_ble_eq_true rfl) (Nat.le_of_ble_eq_true rfl) ⟨_, rfl, rfl, rfl⟩
    · obtain ⟨kc, hk1, hk2, hk3⟩ := lg_cache (v := v) c8 c16
      refine f_cL hF ?_
      refine f_gets 23 hF (i := 3) (List.mem_of_getElem? (i := 3) rfl) (Or.inl q2605) dJ47_valueOf_20 rfl ?_
      refine r_lload_n 24 1 (hF.pu _ _ _ _) dJ47_valueOf_23 rfl rfl ?_
      refine r_l2i 25 (hF.pu _ _ _ _) dJ47_valueOf_24 rfl ?_
      refine r_sipush 28 128 (hF.pu _ _ _ _) dJ47_valueOf_25 (by decide) rfl ?_
      refine r_iadd 29 (hF.pu _ _ _ _) dJ47_valueOf_28 rfl ?_
      refine r_eqi (nI kc) hk2 ?_
      refine f_aald 30 hF kc (x := some (D.2.2.1 (2000 + kc))) (fun _ z => ⟨_, (z.ma 0 rfl), rfl⟩) rfl rfl (by omega) (by omega) dJ47_valueOf_29 rfl ?_
      refine f_cLk hF (j := kc) hk1 ?_
      rw [hk3]
      refine f_imsub hF [oC (D.2.2.1 (2000 + kc)) 20 [.long v]] (imk [0] rfl) ?_
      exact FR.a hR (Or.inl ⟨_, rfl⟩) dJ47_valueOf_30 (Nat.le_of_ble_eq_true rfl) (Nat.le_of_ble_eq_true rfl) ⟨_, rfl, rfl, rfl⟩
set_option maxHeartbeats 2000000 in
theorem cp_J47_longValue (D : DD) (l : Launch) {H0 : Heap} (a : Nat) (v : Int64) (h : fld D 20 a 0 (.long v) H0) : Cp D l yJ47_longValue cJ47_longValue 1 (some .long) 0 0 [.ref a] H0 (some (.long v)) := by
  refine Cp.of (by decide) (Nat.le_of_ble_eq_true rfl) (fun s A J hJ hR => ?_)
  show J H0 0 0 0 [] [(0, .ref a)]
  refine r_aload_n 1 0 (hJ.pu _ _ _) dJ47_longValue_0 rfl rfl ?_
  refine j_getf 4 hJ (T := TJ47) (C := RJ47) 0 (v := .long v) okJ47 h rfl (by decide) (Or.inl q2613) (Or.inl rfl) dJ47_longValue_1 rfl ?_
  exact Rt.lg hR dJ47_longValue_4 (Nat.zero_le _) (Nat.zero_le _) ⟨rfl, rfl⟩
