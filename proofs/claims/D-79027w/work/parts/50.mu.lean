theorem f_eqi {F : FJ} {k n : Nat} {ws im : va_W} {pc : Nat} {st : List Value} {lv : List (Nat × Value)} (im' : va_W) (e : im = im') (kk : F k n ws im' pc st lv) : F k n ws im pc st lv := e ▸ kk
theorem pm3 {c : Nat × va_E} {N C U W1 : va_W} : (N ++ (c :: (C ++ (U ++ W1)))).Perm (c :: (W1 ++ ((C ++ U) ++ N))) := by
  refine List.perm_middle.trans (List.Perm.cons c ?_)
  rw [← List.append_assoc C U W1]
  refine List.perm_append_comm.trans ?_
  rw [← List.append_assoc W1]
  exact List.perm_append_comm.append_right N
/-- the component behind a change: the object, the deque, the new world, what was made beside it -/
def chP (D : DD) (x dq e cm tx n nw : Nat) (sv : Value) (tl fl : Int32) (q : Nat → Nat) (iv : va_W) (v : Option Value) (g : Nat → Int32) (h : Nat → Int64) (nb nch ncr : Nat) : Option Value → va_W → va_W → Prop := fun r w i => ∃ a W1 W2 N, r = v ∧ i = [] ∧
  w = oC x 1 [.ref a, sv, .ref dq, .ref cm, .ref tx, .int tl, .int fl] :: (W1 ++ (W2 ++ N)) ∧ dqS D dq e (puM n) (puQ n q nw) W1 ∧ wcS D a g h nb nch ncr W2 (N ++ iv)
theorem lk_X1_50 : GoodIn lw_all (wsV RX1 50 yX2_copy.cls yX2_copy (ws_ yX2_copy cX2_copy 3 (Option.some (ClassFile.FieldType.object "TaxWorkbench$World")))) := lw_V q595 q596 q597 q103 q598
theorem yk_X2_copy : yOk yX2_copy 0 := by decide +kernel
theorem lk_X1_54 : GoodIn lw_all (wsV RX1 54 yX1_change_2.cls yX1_change_2 (ws_ yX1_change_2 cX1_change_2 2 (Option.some (ClassFile.FieldType.object "TaxWorkbench$World")))) := lw_V q1756 q1758 qs19 q102 q1759
theorem yk_X1_change_2 : yOk yX1_change_2 1 := by decide +kernel
set_option maxHeartbeats 4000000 in
theorem fc_X1_change (D : DD) (l : Launch) {KS : Nat → Prop} {Hb : Heap} (x nw dq e cm tx n : Nat) (sv : Value) (tl fl : Int32) (q : Nat → Nat) (g : Nat → Int32) (h : Nat → Int64) (nb nch ncr : Nat) (W iv Wd : va_W) (hn : n ≤ 6) (hd : dqS D dq e n q Wd) (hw : wcS D nw g h nb nch ncr W iv) : Fc D l yX1_change cX1_change 1 (Option.some (ClassFile.FieldType.object "TaxWorkbench$World")) 9 42 190 184 KS Hb [.ref x] (oC x 1 [.ref nw, sv, .ref dq, .ref cm, .ref tx, .int tl, .int fl] :: Wd) (W ++ iv) (fun r w i => ∃ a W1 W2, r = some (.ref a) ∧ i = [] ∧ w = oC x 1 [.ref a, sv, .ref dq, .ref cm, .ref tx, .int tl, .int fl] :: (W1 ++ W2) ∧ dqS D dq e (puM n) (puQ n q nw) W1 ∧ wcS D a g h nb nch ncr W2 iv) := by
  obtain ⟨hd0, f, rfl, hd17, hf⟩ := hd
  obtain ⟨pf, rb, f4, f6, R, U, ⟨r2, r3, r4, r6, al, mi, s4, s6, rfl, hs4, hs6, hal, hmi⟩, ⟨u1, u2, u3, u4, m, pe, pa, ca, v0, v1, v2, v3, v4, v5, h0, h1, h2, h3, h4, h5, rfl, hpe, hpa, hca, hh0, hh1, hh2, hh3, hh4, hh5⟩, hiv⟩ := hw
  have he4 : ∀ H, (∀ q ∈ iv, va_at D.1 aCl q H) → ∀ i, i < nch → anyK D "java/lang/Object" (f4 i) H := fun H h i hi => anyK.ofob (h _ (hiv.2.2.1 i hi)) rfl nw_q3971
  have he6 : ∀ H, (∀ q ∈ iv, va_at D.1 aCl q H) → ∀ i, i < ncr → anyK D "java/lang/Object" (f6 i) H := fun H h i hi => anyK.ofob (h _ (hiv.2.2.2.1 i hi)) rfl nw_q3972
  have hep : ∀ H, (∀ q ∈ iv, va_at D.1 aCl q H) → ∀ i, i < 6 → anyK D "TaxWorkbench$Person" (pf i) H := fun H h i hi => anyK.slf (h _ (hiv.2.1 i hi)) rfl
  refine Fc.of (by decide) (Nat.le_of_ble_eq_true rfl) (fun s F hF hR => ?_)
  show F 0 0 ([oC x 1 [.ref nw, sv, .ref dq, .ref cm, .ref tx, .int tl, .int fl], oC dq 16 [.ref e, .int (nI hd0), .int (nI (ix hd0 n))], aC D 3 e (qA 17 f)]) ((oC nw 2 [.ref R, .ref u1, .ref u2, .ref u3, .int (g 88)]) :: (aC D 4 u1 (qA 6 pe)) :: (aC D 0 u2 (iA 6 pa)) :: (oC u3 12 [.int m, .ref u4, .int (nI 6)]) :: (aC D 3 u4 (qA 10 ca)) :: (aC D 1 v0 (lA 6 h0)) :: (aC D 1 v1 (lA 6 h1)) :: (aC D 1 v2 (lA 6 h2)) :: (aC D 1 v3 (lA 6 h3)) :: (aC D 1 v4 (lA 6 h4)) :: (aC D 1 v5 (lA 6 h5)) :: (oC R 3 [.ref rb, .ref r2, .ref r3, .ref r4, .ref r6]) :: (aC D 0 r2 (iA 3 al)) :: (aC D 0 r3 (iA 2 mi)) :: ((s4 ++ s6) ++ iv)) 0 [] [(0, .ref x)]
  refine f_eqi ((oC nw 2 [.ref R, .ref u1, .ref u2, .ref u3, .int (g 88)]) :: (aC D 4 u1 (qA 6 pe)) :: (aC D 0 u2 (iA 6 pa)) :: (oC u3 12 [.int m, .ref u4, .int (nI 6)]) :: (aC D 3 u4 (qA 10 ca)) :: (aC D 1 v0 (lA 6 h0)) :: (aC D 1 v1 (lA 6 h1)) :: (aC D 1 v2 (lA 6 h2)) :: (aC D 1 v3 (lA 6 h3)) :: (aC D 1 v4 (lA 6 h4)) :: (aC D 1 v5 (lA 6 h5)) :: (oC R 3 [.ref rb, .ref r2, .ref r3, .ref r4, .ref r6]) :: (aC D 0 r2 (iA 3 al)) :: (aC D 0 r3 (iA 2 mi)) :: (s4 ++ (s6 ++ iv))) (by rw [List.append_assoc]) ?_
  refine r_aload_n 1 0 (hF.pu _ _ _ _) dX1_change_0 rfl rfl ?_
  refine r_aload_n 2 0 (hF.pu _ _ _ _) dX1_change_1 rfl rfl ?_
  refine f_getf 5 hF (T := TX1) (C := RX1) 0 (v := .ref nw) okX1 (fun _ z => ((z.o 0 rfl).fld 0 rfl)) rfl (by decide) (Or.inl q550) (Or.inl rfl) dX1_change_2 rfl ?_
  refine f_callV 8 hF (fc_X2_copy (KS := KS) (Hb := Hb) D l nw R u1 u2 u3 u4 rb r2 r3 r4 r6 nch ncr m pe pa ca v0 v1 v2 v3 v4 v5 h0 h1 h2 h3 h4 h5 al mi g h pf f4 f6 s4 s6 iv hs4 hs6 hal hmi he4 he6 hep hpe hpa hca hh0 hh1 hh2 hh3 hh4 hh5) (wr := ([oC x 1 [.ref nw, sv, .ref dq, .ref cm, .ref tx, .int tl, .int fl], oC dq 16 [.ref e, .int (nI hd0), .int (nI (ix hd0 n))], aC D 3 e (qA 17 f)])) rfl (fun _ h => h) lk_X1_50 0 yk_X2_copy rfl ⟨by decide, by decide⟩ (fun _ z => ((z.mo 0 rfl).fld 0 rfl)) rfl rfl (Nat.le_of_ble_eq_true rfl) dX1_change_5 ⟨Nat.le_of_ble_eq_true rfl, Nat.le_of_ble_eq_true rfl⟩ rfl (fun r ww im' hp => ?_)
  obtain ⟨a1_, a2_, a3_, rfl, rfl, hru, hwo⟩ := hp
  refine f_perm hF ([oC x 1 [.ref nw, sv, .ref dq, .ref cm, .ref tx, .int tl, .int fl], oC dq 16 [.ref e, .int (nI hd0), .int (nI (ix hd0 n))], aC D 3 e (qA 17 f)] ++ ww) List.perm_append_comm ?_
  show F 42 190 ((oC x 1 [.ref nw, sv, .ref dq, .ref cm, .ref tx, .int tl, .int fl]) :: (oC dq 16 [.ref e, .int (nI hd0), .int (nI (ix hd0 n))]) :: (aC D 3 e (qA 17 f)) :: ww) ((oC nw 2 [.ref R, .ref u1, .ref u2, .ref u3, .int (g 88)]) :: (aC D 4 u1 (qA 6 pe)) :: (aC D 0 u2 (iA 6 pa)) :: (oC u3 12 [.int m, .ref u4, .int (nI 6)]) :: (aC D 3 u4 (qA 10 ca)) :: (aC D 1 v0 (lA 6 h0)) :: (aC D 1 v1 (lA 6 h1)) :: (aC D 1 v2 (lA 6 h2)) :: (aC D 1 v3 (lA 6 h3)) :: (aC D 1 v4 (lA 6 h4)) :: (aC D 1 v5 (lA 6 h5)) :: (oC R 3 [.ref rb, .ref r2, .ref r3, .ref r4, .ref r6]) :: (aC D 0 r2 (iA 3 al)) :: (aC D 0 r3 (iA 2 mi)) :: (s4 ++ (s6 ++ iv))) 8 [.ref a1_, .ref x] [(0, .ref x)]
  refine f_callV 11 hF (fc_X1_change_2 (KS := KS) (Hb := Hb) D l x nw a1_ dq e cm tx hd0 n sv tl fl f q hd17 hn hf [oC nw 2 [.ref R, .ref u1, .ref u2, .ref u3, .int (g 88)]] (fun H h => anyK.ofob (h _ List.mem_cons_self) rfl nw_q3950)) (wr := ww) rfl (imk [0] rfl) lk_X1_54 1 yk_X1_change_2 rfl ⟨by decide, by decide⟩ (fun _ z => ((z.o 0 rfl).fld 0 rfl)) rfl rfl (Nat.le_of_ble_eq_true rfl) dX1_change_8 ⟨Nat.le_of_ble_eq_true rfl, Nat.le_of_ble_eq_true rfl⟩ rfl (fun r ws_ im' hp => ?_)
  obtain ⟨a4_, rfl, rfl, rfl, hdq⟩ := hp
  show F 42 190 ((oC x 1 [.ref a1_, sv, .ref dq, .ref cm, .ref tx, .int tl, .int fl]) :: (a4_ ++ ww)) ((oC nw 2 [.ref R, .ref u1, .ref u2, .ref u3, .int (g 88)]) :: (aC D 4 u1 (qA 6 pe)) :: (aC D 0 u2 (iA 6 pa)) :: (oC u3 12 [.int m, .ref u4, .int (nI 6)]) :: (aC D 3 u4 (qA 10 ca)) :: (aC D 1 v0 (lA 6 h0)) :: (aC D 1 v1 (lA 6 h1)) :: (aC D 1 v2 (lA 6 h2)) :: (aC D 1 v3 (lA 6 h3)) :: (aC D 1 v4 (lA 6 h4)) :: (aC D 1 v5 (lA 6 h5)) :: (oC R 3 [.ref rb, .ref r2, .ref r3, .ref r4, .ref r6]) :: (aC D 0 r2 (iA 3 al)) :: (aC D 0 r3 (iA 2 mi)) :: (s4 ++ (s6 ++ iv))) 11 [.ref a1_] [(0, .ref x)]
  refine f_imsub hF [] (imk [] rfl) ?_
  exact FR.a hR (Or.inl ⟨_, rfl⟩) dX1_change_11 (Nat.le_of_ble_eq_true rfl) (Nat.le_of_ble_eq_true rfl) ⟨_, _, _, rfl, rfl, rfl, hdq, pf, rb, f4, f6, _, _, hru, hwo, hiv⟩
/-- rows that differ from a place on do not change the rules' cells -/
theorem ruS.cg {D : DD} {a : Nat} {g g' : Nat → Int32} {rb nch ncr : Nat} {f4 f6 : Nat → Nat} {W : va_W} (h : ruS D a g rb nch f4 ncr f6 W) (e : ∀ j, j < 18 → g' j = g j) : ruS D a g' rb nch f4 ncr f6 W := by
  obtain ⟨r2, r3, r4, r6, al, mi, s4, s6, h1, h2, h3, h4, h5⟩ := h
  exact ⟨r2, r3, r4, r6, al, mi, s4, s6, h1, h2, h3, fun j hj => (h4 j hj).trans (e _ (by omega)).symm, fun j hj => (h5 j hj).trans (e _ (by omega)).symm⟩
theorem brS.cg {D : DD} {g g' : Nat → Int32} {rb nb : Nat} {iv iv' : va_W} (h : brS D g rb nb iv) (e : ∀ j, j < 13 → g' j = g j) (hi : ∀ c ∈ iv, c ∈ iv') : brS D g' rb nb iv' := by
  rcases h with ⟨h1, x, h2, h3⟩ | ⟨h1, mc, ea, f, fb, h2, h3, h4⟩
  · exact Or.inl ⟨h1, x, hi _ h2, by rw [e _ (by omega), e _ (by omega)]; exact hi _ h3⟩
  · exact Or.inr ⟨h1, mc, ea, f, fb, hi _ h2, hi _ h3, fun k hk => ⟨(h4 k hk).1, by rw [e _ (by omega), e _ (by omega)]; exact hi _ (h4 k hk).2⟩⟩
theorem ivS.cg {D : DD} {g g' : Nat → Int32} {pf pf' : Nat → Nat} {rb nb nch ncr : Nat} {f4 f6 : Nat → Nat} {iv iv' : va_W} (h : ivS D g pf rb nb nch f4 ncr f6 iv) (e : ∀ j, j < 64 → g' j = g j) (hch : nch ≤ 4) (hcr : ncr ≤ 6) (hi : ∀ c ∈ iv, c ∈ iv') (hp : ∀ p, p < 6 → oC (pf' p) 5 [.int (g' (64 + 3 * p + 0)), .int (g' (64 + 3 * p + 1)), .int (g' (64 + 3 * p + 2))] ∈ iv') : ivS D g' pf' rb nb nch f4 ncr f6 iv' :=
  ⟨hi _ h.1, hp, fun k hk => by rw [e _ (by omega), e _ (by omega)]; exact hi _ (h.2.2.1 k hk), fun k hk => by rw [e _ (by omega), e _ (by omega), e _ (by omega), e _ (by omega), e _ (by omega), e _ (by omega)]; exact hi _ (h.2.2.2.1 k hk), h.2.2.2.2.cg (fun j hj => e j (by omega)) hi⟩
def spG (g : Nat → Int32) (p : Nat) (e o d : Int32) : Nat → Int32 := upd (upd (upd g (64 + 3 * p + 0) e) (64 + 3 * p + 1) o) (64 + 3 * p + 2) d
def maG (g : Nat → Int32) (a b : Nat) (u v : Int32) : Nat → Int32 := upd (upd g (82 + a) u) (82 + b) v
theorem upd_ne {g : Nat → Int32} {a j : Nat} {v : Int32} (h : j ≠ a) : upd g a v j = g j := by simp [upd, h]
theorem upd_eq {g : Nat → Int32} {a : Nat} {v : Int32} : upd g a v a = v := by simp [upd]
theorem spG_lo {g : Nat → Int32} {p : Nat} {e o d : Int32} {j : Nat} (h : j < 64 + 3 * p ∨ 64 + 3 * p + 3 ≤ j) : spG g p e o d j = g j := by unfold spG; rw [upd_ne (by omega), upd_ne (by omega), upd_ne (by omega)]
theorem maG_lo {g : Nat → Int32} {a b : Nat} {u v : Int32} {j : Nat} (h : j ≠ 82 + a) (h2 : j ≠ 82 + b) : maG g a b u v j = g j := by unfold maG; rw [upd_ne h2, upd_ne h]
theorem lk_X1_101 : GoodIn lw_all (wsV RX1 101 yX1_change.cls yX1_change (ws_ yX1_change cX1_change 1 (Option.some (ClassFile.FieldType.object "TaxWorkbench$World")))) := lw_V q591 q593 qs3 q102 q594
theorem yk_X1_change : yOk yX1_change 0 := by decide +kernel
set_option maxHeartbeats 4000000 in
theorem fc_X1_setPerson (D : DD) (l : Launch) {KS : Nat → Prop} {Hb : Heap} (x nw dq e cm tx n : Nat) (sv : Value) (tl fl : Int32) (q : Nat → Nat) (g : Nat → Int32) (h : Nat → Int64) (nb nch ncr : Nat) (W iv Wd : va_W) (hn : n ≤ 6) (hd : dqS D dq e n q Wd) (hw : wcS D nw g h nb nch ncr W iv) (hnb : nb ≤ 6) (hch : nch ≤ 4) (hcr : ncr ≤ 6) (p : Nat) (ea oa da : Int32) (hp : p < 6) (b1 : inB ea 0 9999 = true) (b2 : inB oa 0 9999 = true) (b3 : inB da 0 9 = true) : Fc D l yX1_setPerson cX1_setPerson 5 none 10 43 193 204 KS Hb [.ref x, .int (nI p), .int ea, .int oa, .int da] (oC x 1 [.ref nw, sv, .ref dq, .ref cm, .ref tx, .int tl, .int fl] :: Wd) (W ++ iv) (chP D x dq e cm tx n nw sv tl fl q iv none (spG g p ea oa da) h nb nch ncr) := by
  obtain ⟨wd, rd, rfl, hwo⟩ := wo_of hw
  refine Fc.of (by decide) (Nat.le_of_ble_eq_true rfl) (fun s F hF hR => ?_)
  show F 0 0 ((oC x 1 [.ref (wd 0), sv, .ref dq, .ref cm, .ref tx, .int tl, .int fl]) :: Wd) (W ++ iv) 0 [] [(0, .ref x), (1, .int (nI p)), (2, .int ea), (3, .int oa), (4, .int da)]
  refine r_aload_n 1 0 (hF.pu _ _ _ _) dX1_setPerson_0 rfl rfl ?_
  refine r_iload_n 2 1 (hF.pu _ _ _ _) dX1_setPerson_1 rfl rfl ?_
  refine f_callp 5 hF (fun _ z => cp_X1_person D l x wd rd g h nb nch ncr ((z.o 0 rfl).fld 0 rfl) (hwo (fun _ => False) _ (fun q hq => ⟨z.2.2 q hq, id⟩)) hnb hch hcr p (by omega) (per_in (by omega))) lk_X1_211 1 yk_X1_person rfl ⟨by decide, by decide⟩ (fun _ z => ((z.o 0 rfl).fld 0 rfl)) rfl rfl (Nat.le_of_ble_eq_true rfl) dX1_setPerson_2 ⟨Nat.le_of_ble_eq_true rfl, Nat.le_of_ble_eq_true rfl⟩ rfl ?_
  refine r_pop 6 (hF.pu _ _ _ _) dX1_setPerson_5 rfl rfl ?_
  refine r_iload_n 7 2 (hF.pu _ _ _ _) dX1_setPerson_6 rfl rfl ?_
  refine r_iconst 8 0 (hF.pu _ _ _ _) dX1_setPerson_7 (by decide) rfl ?_
  refine r_sipush 11 9999 (hF.pu _ _ _ _) dX1_setPerson_8 (by decide) rfl ?_
  refine f_callS' 14 hF (ts_X1_isBetween D l ea 0 9999) lk_X1_70 3 yk_X1_isBetween rfl ⟨by decide, by decide⟩ rfl (Nat.le_of_ble_eq_true rfl) dX1_setPerson_11 ⟨Nat.le_of_ble_eq_true rfl, Nat.le_of_ble_eq_true rfl⟩ rfl ?_
  refine r_if_eqZ (inB ea 0 9999) 17 43 (hF.pu _ _ _ _) dX1_setPerson_14 (by decide) (fun c14 => absurd c14 (by simp [*])) rfl (fun c14 => ?_)
  refine r_iload_n 18 3 (hF.pu _ _ _ _) dX1_setPerson_17 rfl rfl ?_
  refine r_iconst 19 0 (hF.pu _ _ _ _) dX1_setPerson_18 (by decide) rfl ?_
  refine r_sipush 22 9999 (hF.pu _ _ _ _) dX1_setPerson_19 (by decide) rfl ?_
  refine f_callS' 25 hF (ts_X1_isBetween D l oa 0 9999) lk_X1_70 3 yk_X1_isBetween rfl ⟨by decide, by decide⟩ rfl (Nat.le_of_ble_eq_true rfl) dX1_setPerson_22 ⟨Nat.le_of_ble_eq_true rfl, Nat.le_of_ble_eq_true rfl⟩ rfl ?_
  refine r_if_eqZ (inB oa 0 9999) 28 43 (hF.pu _ _ _ _) dX1_setPerson_25 (by decide) (fun c25 => absurd c25 (by simp [*])) rfl (fun c25 => ?_)
  refine r_iload 30 4 (hF.pu _ _ _ _) dX1_setPerson_28 rfl rfl ?_
  refine r_iconst 31 0 (hF.pu _ _ _ _) dX1_setPerson_30 (by decide) rfl ?_
  refine r_bipush 33 9 (hF.pu _ _ _ _) dX1_setPerson_31 (by decide) rfl ?_
  refine f_callS' 36 hF (ts_X1_isBetween D l da 0 9) lk_X1_70 3 yk_X1_isBetween rfl ⟨by decide, by decide⟩ rfl (Nat.le_of_ble_eq_true rfl) dX1_setPerson_33 ⟨Nat.le_of_ble_eq_true rfl, Nat.le_of_ble_eq_true rfl⟩ rfl ?_
  refine r_if_eqZ (inB da 0 9) 39 43 (hF.pu _ _ _ _) dX1_setPerson_36 (by decide) (fun c36 => absurd c36 (by simp [*])) rfl (fun c36 => ?_)
  refine r_iconst 40 1 (hF.pu _ _ _ _) dX1_setPerson_39 (by decide) rfl ?_
  refine r_goto 44 (hF.pu _ _ _ _) dX1_setPerson_40 (by decide) ?_
  refine f_callps 47 hF (fun _ z => cp_X1_requireArgument_k D l) lk_X1_74 1 yk_X1_requireArgument rfl ⟨by decide, by decide⟩ rfl (Nat.le_of_ble_eq_true rfl) dX1_setPerson_44 ⟨Nat.le_of_ble_eq_true rfl, Nat.le_of_ble_eq_true rfl⟩ rfl ?_
  refine r_aload_n 48 0 (hF.pu _ _ _ _) dX1_setPerson_47 rfl rfl ?_
  refine f_callV 51 hF (fc_X1_change (KS := KS) (Hb := Hb) D l x (wd 0) dq e cm tx n sv tl fl q g h nb nch ncr W iv Wd hn hd hw) (wr := []) (List.append_nil _).symm (fun _ h => h) lk_X1_101 0 yk_X1_change rfl ⟨by decide, by decide⟩ (fun _ z => ((z.o 0 rfl).fld 0 rfl)) rfl rfl (Nat.le_of_ble_eq_true rfl) dX1_setPerson_48 ⟨Nat.le_of_ble_eq_true rfl, Nat.le_of_ble_eq_true rfl⟩ rfl (fun r ws_ im' hp => ?_)
  obtain ⟨a1_, a2_, a3_, rfl, rfl, rfl, hdq, hwc⟩ := hp
  refine f_eqw _ (List.append_nil _) ?_
  show F 42 190 ((oC x 1 [.ref a1_, sv, .ref dq, .ref cm, .ref tx, .int tl, .int fl]) :: (a2_ ++ a3_)) (W ++ iv) 51 [.ref a1_] [(0, .ref x), (1, .int (nI p)), (2, .int ea), (3, .int oa), (4, .int da)]
  refine f_perm hF (oC x 1 [.ref a1_, sv, .ref dq, .ref cm, .ref tx, .int tl, .int fl] :: (a3_ ++ a2_)) (List.perm_append_comm.cons _) ?_
  obtain ⟨pf, rb, f4, f6, R, U, hru, ⟨u1, u2, u3, u4, m, pe, pa, ca, v0, v1, v2, v3, v4, v5, h0, h1, h2, h3, h4, h5, rfl, hpe, hpa, hca, hh0, hh1, hh2, hh3, hh4, hh5⟩, hiv⟩ := hwc
  show F 42 190 ((oC x 1 [.ref a1_, sv, .ref dq, .ref cm, .ref tx, .int tl, .int fl]) :: (oC a1_ 2 [.ref R, .ref u1, .ref u2, .ref u3, .int (g 88)]) :: (aC D 4 u1 (qA 6 pe)) :: (aC D 0 u2 (iA 6 pa)) :: (oC u3 12 [.int m, .ref u4, .int (nI 6)]) :: (aC D 3 u4 (qA 10 ca)) :: (aC D 1 v0 (lA 6 h0)) :: (aC D 1 v1 (lA 6 h1)) :: (aC D 1 v2 (lA 6 h2)) :: (aC D 1 v3 (lA 6 h3)) :: (aC D 1 v4 (lA 6 h4)) :: (aC D 1 v5 (lA 6 h5)) :: (U ++ a2_)) (W ++ iv) 51 [.ref a1_] [(0, .ref x), (1, .int (nI p)), (2, .int ea), (3, .int oa), (4, .int da)]
  refine f_getf 54 hF (T := TX2) (C := RX2) 1 (v := .ref u1) okX2 (fun _ z => ((z.o 1 rfl).fld 1 rfl)) rfl (by decide) (Or.inr ⟨_, nw_q450⟩) (Or.inl rfl) dX1_setPerson_51 rfl ?_
  refine r_iload_n 55 1 (hF.pu _ _ _ _) dX1_setPerson_54 rfl rfl ?_
  refine f_new 58 hF (ci := 5) [.int 0, .int 0, .int 0] okX5 rfl q3177 q336 q117 dvX5 ⟨Nat.le_of_ble_eq_true rfl, Nat.le_of_ble_eq_true rfl⟩ dX1_setPerson_55 rfl (fun a4_ => ?_)
  refine r_dup 59 (hF.pu _ _ _ _) dX1_setPerson_58 rfl rfl ?_
  refine r_iload_n 60 2 (hF.pu _ _ _ _) dX1_setPerson_59 rfl rfl ?_
  refine r_iload_n 61 3 (hF.pu _ _ _ _) dX1_setPerson_60 rfl rfl ?_
  refine r_iload 63 4 (hF.pu _ _ _ _) dX1_setPerson_61 rfl rfl ?_
  refine f_callI 66 hF (fc_X5_init (KS := KS) (Hb := Hb) D l a4_ ea oa da) (wr := ((oC x 1 [.ref a1_, sv, .ref dq, .ref cm, .ref tx, .int tl, .int fl]) :: (oC a1_ 2 [.ref R, .ref u1, .ref u2, .ref u3, .int (g 88)]) :: (aC D 4 u1 (qA 6 pe)) :: (aC D 0 u2 (iA 6 pa)) :: (oC u3 12 [.int m, .ref u4, .int (nI 6)]) :: (aC D 3 u4 (qA 10 ca)) :: (aC D 1 v0 (lA 6 h0)) :: (aC D 1 v1 (lA 6 h1)) :: (aC D 1 v2 (lA 6 h2)) :: (aC D 1 v3 (lA 6 h3)) :: (aC D 1 v4 (lA 6 h4)) :: (aC D 1 v5 (lA 6 h5)) :: (U ++ a2_))) rfl (imk [] rfl) q339 q117 q3178 q338 rfl 3 yk_X5_init rfl ⟨by decide, by decide⟩ rfl (Nat.le_of_ble_eq_true rfl) dX1_setPerson_63 ⟨Nat.le_of_ble_eq_true rfl, Nat.le_of_ble_eq_true rfl⟩ rfl (fun r ws_ im' hp => ?_)
  obtain ⟨rfl, rfl, rfl⟩ := hp
  show F 43 193 ((oC a4_ 5 [.int ea, .int oa, .int da]) :: (oC x 1 [.ref a1_, sv, .ref dq, .ref cm, .ref tx, .int tl, .int fl]) :: (oC a1_ 2 [.ref R, .ref u1, .ref u2, .ref u3, .int (g 88)]) :: (aC D 4 u1 (qA 6 pe)) :: (aC D 0 u2 (iA 6 pa)) :: (oC u3 12 [.int m, .ref u4, .int (nI 6)]) :: (aC D 3 u4 (qA 10 ca)) :: (aC D 1 v0 (lA 6 h0)) :: (aC D 1 v1 (lA 6 h1)) :: (aC D 1 v2 (lA 6 h2)) :: (aC D 1 v3 (lA 6 h3)) :: (aC D 1 v4 (lA 6 h4)) :: (aC D 1 v5 (lA 6 h5)) :: (U ++ a2_)) (W ++ iv) 66 [.ref a4_, .int (nI p), .ref u1] [(0, .ref x), (1, .int (nI p)), (2, .int ea), (3, .int oa), (4, .int da)]
  refine f_aast 67 hF 3 ((oC a4_ 5 [.int ea, .int oa, .int da]) :: (oC x 1 [.ref a1_, sv, .ref dq, .ref cm, .ref tx, .int tl, .int fl]) :: (oC a1_ 2 [.ref R, .ref u1, .ref u2, .ref u3, .int (g 88)]) :: (aC D 4 u1 (qA 6 (va_up pe p (some a4_)))) :: (aC D 0 u2 (iA 6 pa)) :: (oC u3 12 [.int m, .ref u4, .int (nI 6)]) :: (aC D 3 u4 (qA 10 ca)) :: (aC D 1 v0 (lA 6 h0)) :: (aC D 1 v1 (lA 6 h1)) :: (aC D 1 v2 (lA 6 h2)) :: (aC D 1 v3 (lA 6 h3)) :: (aC D 1 v4 (lA 6 h4)) :: (aC D 1 v5 (lA 6 h5)) :: (U ++ a2_)) rfl rfl (fun _ z => (anyK.slf (z.o 0 rfl) rfl)) p rfl (by omega) (by omega) rfl dX1_setPerson_66 rfl ?_
  refine f_perm hF (oC x 1 [.ref a1_, sv, .ref dq, .ref cm, .ref tx, .int tl, .int fl] :: (a2_ ++ (([oC a1_ 2 [.ref R, .ref u1, .ref u2, .ref u3, .int (g 88)], aC D 4 u1 (qA 6 (va_up pe p (some a4_))), aC D 0 u2 (iA 6 pa), oC u3 12 [.int m, .ref u4, .int (nI 6)], aC D 3 u4 (qA 10 ca), aC D 1 v0 (lA 6 h0), aC D 1 v1 (lA 6 h1), aC D 1 v2 (lA 6 h2), aC D 1 v3 (lA 6 h3), aC D 1 v4 (lA 6 h4), aC D 1 v5 (lA 6 h5)] ++ U) ++ [oC a4_ 5 [.int ea, .int oa, .int da]]))) (pm3 (N := [oC a4_ 5 [.int ea, .int oa, .int da]]) (c := oC x 1 [.ref a1_, sv, .ref dq, .ref cm, .ref tx, .int tl, .int fl]) (C := [oC a1_ 2 [.ref R, .ref u1, .ref u2, .ref u3, .int (g 88)], aC D 4 u1 (qA 6 (va_up pe p (some a4_))), aC D 0 u2 (iA 6 pa), oC u3 12 [.int m, .ref u4, .int (nI 6)], aC D 3 u4 (qA 10 ca), aC D 1 v0 (lA 6 h0), aC D 1 v1 (lA 6 h1), aC D 1 v2 (lA 6 h2), aC D 1 v3 (lA 6 h3), aC D 1 v4 (lA 6 h4), aC D 1 v5 (lA 6 h5)])) ?_
  refine f_imsub hF [] (imk [] rfl) ?_
  have e1 : ∀ i, i < 6 → va_up pe p (some a4_) i = some (if i = p then a4_ else pf i) := fun i hi => by
    by_cases hip : i = p
    · subst hip; simp [va_up]
    · simp only [va_up, if_neg hip]; exact hpe i hi
  have e88 : spG g p ea oa da 88 = g 88 := spG_lo (by omega)
  have e2 : ∀ i, i < 6 → pa i = spG g p ea oa da (82 + i) := fun i hi => (hpa i hi).trans (spG_lo (by omega)).symm
  have e3 : ivS D (spG g p ea oa da) (fun i => if i = p then a4_ else pf i) rb nb nch f4 ncr f6 ([oC a4_ 5 [.int ea, .int oa, .int da]] ++ iv) := hiv.cg (fun j hj => spG_lo (by omega)) hch hcr (fun c h => List.mem_append_right _ h) (fun i hi => by
    by_cases hip : i = p
    · subst hip; simp only [if_true]; refine List.mem_append_left _ ?_; simp [spG, upd]
    · simp only [if_neg hip]; rw [spG_lo (by omega), spG_lo (by omega), spG_lo (by omega)]; exact List.mem_append_right _ (hiv.2.1 i hi))
  exact FR.v hR dX1_setPerson_67 (Nat.le_of_ble_eq_true rfl) (Nat.le_of_ble_eq_true rfl) ⟨_, _, _, _, rfl, rfl, rfl, hdq, _, rb, f4, f6, R, U, hru.cg (fun j hj => spG_lo (by omega)), ⟨u1, u2, u3, u4, m, va_up pe p (some a4_), pa, ca, v0, v1, v2, v3, v4, v5, h0, h1, h2, h3, h4, h5, (by rw [e88]; rfl), e1, e2, hca, hh0, hh1, hh2, hh3, hh4, hh5⟩, e3⟩
theorem lk_X1_81 : GoodIn lw_all (va_wsS RX1 81 yX1_requireState (ws_ yX1_requireState cX1_requireState 1 none)) := lw_S q2026 q2027 q102 q2028
theorem yk_X1_requireState : yOk yX1_requireState 1 := by decide +kernel
set_option maxHeartbeats 4000000 in
theorem fc_X1_marry (D : DD) (l : Launch) {KS : Nat → Prop} {Hb : Heap} (x nw dq e cm tx n : Nat) (sv : Value) (tl fl : Int32) (q : Nat → Nat) (g : Nat → Int32) (h : Nat → Int64) (nb nch ncr : Nat) (W iv Wd : va_W) (hn : n ≤ 6) (hd : dqS D dq e n q Wd) (hw : wcS D nw g h nb nch ncr W iv) (hnb : nb ≤ 6) (hch : nch ≤ 4) (hcr : ncr ≤ 6) (a b : Nat) (ha : a < 6) (hb : b < 6) (hab : a ≠ b) (ga : g (82 + a) = -1) (gb : g (82 + b) = -1) : Fc D l yX1_marry cX1_marry 4 none 10 42 190 204 KS Hb [.ref x, .int (nI a), .int (nI b)] (oC x 1 [.ref nw, sv, .ref dq, .ref cm, .ref tx, .int tl, .int fl] :: Wd) (W ++ iv) (chP D x dq e cm tx n nw sv tl fl q iv none (maG g a b (nI b) (nI a)) h nb nch ncr) := by
  obtain ⟨wd, rd, rfl, hwo⟩ := wo_of hw
  refine Fc.of (by decide) (Nat.le_of_ble_eq_true rfl) (fun s F hF hR => ?_)
  show F 0 0 ((oC x 1 [.ref (wd 0), sv, .ref dq, .ref cm, .ref tx, .int tl, .int fl]) :: Wd) (W ++ iv) 0 [] [(0, .ref x), (1, .int (nI a)), (2, .int (nI b))]
  refine r_aload_n 1 0 (hF.pu _ _ _ _) dX1_marry_0 rfl rfl ?_
  refine r_iload_n 2 1 (hF.pu _ _ _ _) dX1_marry_1 rfl rfl ?_
  refine f_callp 5 hF (fun _ z => cp_X1_person D l x wd rd g h nb nch ncr ((z.o 0 rfl).fld 0 rfl) (hwo (fun _ => False) _ (fun q hq => ⟨z.2.2 q hq, id⟩)) hnb hch hcr a (by omega) (per_in (by omega))) lk_X1_211 1 yk_X1_person rfl ⟨by decide, by decide⟩ (fun _ z => ((z.o 0 rfl).fld 0 rfl)) rfl rfl (Nat.le_of_ble_eq_true rfl) dX1_marry_2 ⟨Nat.le_of_ble_eq_true rfl, Nat.le_of_ble_eq_true rfl⟩ rfl ?_
  refine r_pop 6 (hF.pu _ _ _ _) dX1_marry_5 rfl rfl ?_
  refine r_aload_n 7 0 (hF.pu _ _ _ _) dX1_marry_6 rfl rfl ?_
  refine r_iload_n 8 2 (hF.pu _ _ _ _) dX1_marry_7 rfl rfl ?_
  refine f_callp 11 hF (fun _ z => cp_X1_person D l x wd rd g h nb nch ncr ((z.o 0 rfl).fld 0 rfl) (hwo (fun _ => False) _ (fun q hq => ⟨z.2.2 q hq, id⟩)) hnb hch hcr b (by omega) (per_in (by omega))) lk_X1_211 1 yk_X1_person rfl ⟨by decide, by decide⟩ (fun _ z => ((z.o 0 rfl).fld 0 rfl)) rfl rfl (Nat.le_of_ble_eq_true rfl) dX1_marry_8 ⟨Nat.le_of_ble_eq_true rfl, Nat.le_of_ble_eq_true rfl⟩ rfl ?_
  refine r_pop 12 (hF.pu _ _ _ _) dX1_marry_11 rfl rfl ?_
  refine r_iload_n 13 1 (hF.pu _ _ _ _) dX1_marry_12 rfl rfl ?_
  refine r_iload_n 14 2 (hF.pu _ _ _ _) dX1_marry_13 rfl rfl ?_
  refine r_icmp_eqN a b 17 21 (hF.pu _ _ _ _) dX1_marry_14 (by omega) (by omega) (by decide) (fun c14 => absurd c14 (hab)) rfl (fun c14 => ?_)
  refine r_iconst 18 1 (hF.pu _ _ _ _) dX1_marry_17 (by decide) rfl ?_
  refine r_goto 22 (hF.pu _ _ _ _) dX1_marry_18 (by decide) ?_
  refine f_callps 25 hF (fun _ z => cp_X1_requireArgument_k D l) lk_X1_74 1 yk_X1_requireArgument rfl ⟨by decide, by decide⟩ rfl (Nat.le_of_ble_eq_true rfl) dX1_marry_22 ⟨Nat.le_of_ble_eq_true rfl, Nat.le_of_ble_eq_true rfl⟩ rfl ?_
  refine r_aload_n 26 0 (hF.pu _ _ _ _) dX1_marry_25 rfl rfl ?_
  refine f_getf 29 hF (T := TX1) (C := RX1) 0 (v := .ref (wd 0)) okX1 (fun _ z => ((z.o 0 rfl).fld 0 rfl)) rfl (by decide) (Or.inl q550) (Or.inl rfl) dX1_marry_26 rfl ?_
  refine f_getf 32 hF (T := TX2) (C := RX2) 2 (v := .ref (wd 2)) okX2 (fun _ z => ((hwo (fun _ => False) _ (fun q hq => ⟨z.2.2 q hq, id⟩)).o.fld 2 rfl)) rfl (by decide) (Or.inr ⟨_, nw_q452⟩) (Or.inl rfl) dX1_marry_29 rfl ?_
  refine r_iload_n 33 1 (hF.pu _ _ _ _) dX1_marry_32 rfl rfl ?_
  refine f_iald 34 hF a (x := g (82 + a)) (fun _ z => ((hwo (fun _ => False) _ (fun q hq => ⟨z.2.2 q hq, id⟩)).pa.el (j := a) (by omega))) rfl (by omega) (by omega) dX1_marry_33 rfl ?_
  refine r_iconst 35 (-1) (hF.pu _ _ _ _) dX1_marry_34 (by decide) rfl ?_
  refine r_icmp_ne 38 55 (hF.pu _ _ _ _) dX1_marry_35 (by decide) (fun c35 => absurd c35 (fun z => z ga)) rfl (fun c35 => ?_)
  refine r_aload_n 39 0 (hF.pu _ _ _ _) dX1_marry_38 rfl rfl ?_
  refine f_getf 42 hF (T := TX1) (C := RX1) 0 (v := .ref (wd 0)) okX1 (fun _ z => ((z.o 0 rfl).fld 0 rfl)) rfl (by decide) (Or.inl q550) (Or.inl rfl) dX1_marry_39 rfl ?_
  refine f_getf 45 hF (T := TX2) (C := RX2) 2 (v := .ref (wd 2)) okX2 (fun _ z => ((hwo (fun _ => False) _ (fun q hq => ⟨z.2.2 q hq, id⟩)).o.fld 2 rfl)) rfl (by decide) (Or.inr ⟨_, nw_q452⟩) (Or.inl rfl) dX1_marry_42 rfl ?_
  refine r_iload_n 46 2 (hF.pu _ _ _ _) dX1_marry_45 rfl rfl ?_
  refine f_iald 47 hF b (x := g (82 + b)) (fun _ z => ((hwo (fun _ => False) _ (fun q hq => ⟨z.2.2 q hq, id⟩)).pa.el (j := b) (by omega))) rfl (by omega) (by omega) dX1_marry_46 rfl ?_
  refine r_iconst 48 (-1) (hF.pu _ _ _ _) dX1_marry_47 (by decide) rfl ?_
  refine r_icmp_ne 51 55 (hF.pu _ _ _ _) dX1_marry_48 (by decide) (fun c48 => absurd c48 (fun z => z gb)) rfl (fun c48 => ?_)
  refine r_iconst 52 1 (hF.pu _ _ _ _) dX1_marry_51 (by decide) rfl ?_
  refine r_goto 56 (hF.pu _ _ _ _) dX1_marry_52 (by decide) ?_
  refine f_callps 59 hF (fun _ z => cp_X1_requireState_k D l) lk_X1_81 1 yk_X1_requireState rfl ⟨by decide, by decide⟩ rfl (Nat.le_of_ble_eq_true rfl) dX1_marry_56 ⟨Nat.le_of_ble_eq_true rfl, Nat.le_of_ble_eq_true rfl⟩ rfl ?_
  refine r_aload_n 60 0 (hF.pu _ _ _ _) dX1_marry_59 rfl rfl ?_
  refine f_callV 63 hF (fc_X1_change (KS := KS) (Hb := Hb) D l x (wd 0) dq e cm tx n sv tl fl q g h nb nch ncr W iv Wd hn hd hw) (wr := []) (List.append_nil _).symm (fun _ h => h) lk_X1_101 0 yk_X1_change rfl ⟨by decide, by decide⟩ (fun _ z => ((z.o 0 rfl).fld 0 rfl)) rfl rfl (Nat.le_of_ble_eq_true rfl) dX1_marry_60 ⟨Nat.le_of_ble_eq_true rfl, Nat.le_of_ble_eq_true rfl⟩ rfl (fun r ws_ im' hp => ?_)
  obtain ⟨a1_, a2_, a3_, rfl, rfl, rfl, hdq, hwc⟩ := hp
  refine f_eqw _ (List.append_nil _) ?_
  show F 42 190 ((oC x 1 [.ref a1_, sv, .ref dq, .ref cm, .ref tx, .int tl, .int fl]) :: (a2_ ++ a3_)) (W ++ iv) 63 [.ref a1_] [(0, .ref x), (1, .int (nI a)), (2, .int (nI b))]
  refine f_perm hF (oC x 1 [.ref a1_, sv, .ref dq, .ref cm, .ref tx, .int tl, .int fl] :: (a3_ ++ a2_)) (List.perm_append_comm.cons _) ?_
  obtain ⟨pf, rb, f4, f6, R, U, hru, ⟨u1, u2, u3, u4, m, pe, pa, ca, v0, v1, v2, v3, v4, v5, h0, h1, h2, h3, h4, h5, rfl, hpe, hpa, hca, hh0, hh1, hh2, hh3, hh4, hh5⟩, hiv⟩ := hwc
  show F 42 190 ((oC x 1 [.ref a1_, sv, .ref dq, .ref cm, .ref tx, .int tl, .int fl]) :: (oC a1_ 2 [.ref R, .ref u1, .ref u2, .ref u3, .int (g 88)]) :: (aC D 4 u1 (qA 6 pe)) :: (aC D 0 u2 (iA 6 pa)) :: (oC u3 12 [.int m, .ref u4, .int (nI 6)]) :: (aC D 3 u4 (qA 10 ca)) :: (aC D 1 v0 (lA 6 h0)) :: (aC D 1 v1 (lA 6 h1)) :: (aC D 1 v2 (lA 6 h2)) :: (aC D 1 v3 (lA 6 h3)) :: (aC D 1 v4 (lA 6 h4)) :: (aC D 1 v5 (lA 6 h5)) :: (U ++ a2_)) (W ++ iv) 63 [.ref a1_] [(0, .ref x), (1, .int (nI a)), (2, .int (nI b))]
  refine r_astore_n 64 [(3, .ref a1_), (0, .ref x), (1, .int (nI a)), (2, .int (nI b))] (hF.pu _ _ _ _) dX1_marry_63 rfl (by decide) rfl rfl ?_
  refine r_aload_n 65 0 (hF.pu _ _ _ _) dX1_marry_64 rfl rfl ?_
  refine f_getf 68 hF (T := TX2) (C := RX2) 2 (v := .ref u2) okX2 (fun _ z => ((z.o 1 rfl).fld 2 rfl)) rfl (by decide) (Or.inr ⟨_, nw_q452⟩) (Or.inl rfl) dX1_marry_65 rfl ?_
  refine r_iload_n 69 2 (hF.pu _ _ _ _) dX1_marry_68 rfl rfl ?_
  refine r_iload_n 70 3 (hF.pu _ _ _ _) dX1_marry_69 rfl rfl ?_
  refine f_iast 71 hF 3 ((oC x 1 [.ref a1_, sv, .ref dq, .ref cm, .ref tx, .int tl, .int fl]) :: (oC a1_ 2 [.ref R, .ref u1, .ref u2, .ref u3, .int (g 88)]) :: (aC D 4 u1 (qA 6 pe)) :: (aC D 0 u2 (iA 6 (upd pa a (nI b)))) :: (oC u3 12 [.int m, .ref u4, .int (nI 6)]) :: (aC D 3 u4 (qA 10 ca)) :: (aC D 1 v0 (lA 6 h0)) :: (aC D 1 v1 (lA 6 h1)) :: (aC D 1 v2 (lA 6 h2)) :: (aC D 1 v3 (lA 6 h3)) :: (aC D 1 v4 (lA 6 h4)) :: (aC D 1 v5 (lA 6 h5)) :: (U ++ a2_)) rfl a rfl (by omega) (by omega) rfl dX1_marry_70 rfl ?_
  refine r_aload_n 72 0 (hF.pu _ _ _ _) dX1_marry_71 rfl rfl ?_
  refine f_getf 75 hF (T := TX2) (C := RX2) 2 (v := .ref u2) okX2 (fun _ z => ((z.o 1 rfl).fld 2 rfl)) rfl (by decide) (Or.inr ⟨_, nw_q452⟩) (Or.inl rfl) dX1_marry_72 rfl ?_
  refine r_iload_n 76 3 (hF.pu _ _ _ _) dX1_marry_75 rfl rfl ?_
  refine r_iload_n 77 2 (hF.pu _ _ _ _) dX1_marry_76 rfl rfl ?_
  refine f_iast 78 hF 3 ((oC x 1 [.ref a1_, sv, .ref dq, .ref cm, .ref tx, .int tl, .int fl]) :: (oC a1_ 2 [.ref R, .ref u1, .ref u2, .ref u3, .int (g 88)]) :: (aC D 4 u1 (qA 6 pe)) :: (aC D 0 u2 (iA 6 (upd (upd pa a (nI b)) b (nI a)))) :: (oC u3 12 [.int m, .ref u4, .int (nI 6)]) :: (aC D 3 u4 (qA 10 ca)) :: (aC D 1 v0 (lA 6 h0)) :: (aC D 1 v1 (lA 6 h1)) :: (aC D 1 v2 (lA 6 h2)) :: (aC D 1 v3 (lA 6 h3)) :: (aC D 1 v4 (lA 6 h4)) :: (aC D 1 v5 (lA 6 h5)) :: (U ++ a2_)) rfl b rfl (by omega) (by omega) rfl dX1_marry_77 rfl ?_
  refine f_perm hF (oC x 1 [.ref a1_, sv, .ref dq, .ref cm, .ref tx, .int tl, .int fl] :: (a2_ ++ (([oC a1_ 2 [.ref R, .ref u1, .ref u2, .ref u3, .int (g 88)], aC D 4 u1 (qA 6 pe), aC D 0 u2 (iA 6 (upd (upd pa a (nI b)) b (nI a))), oC u3 12 [.int m, .ref u4, .int (nI 6)], aC D 3 u4 (qA 10 ca), aC D 1 v0 (lA 6 h0), aC D 1 v1 (lA 6 h1), aC D 1 v2 (lA 6 h2), aC D 1 v3 (lA 6 h3), aC D 1 v4 (lA 6 h4), aC D 1 v5 (lA 6 h5)] ++ U) ++ []))) (pm3 (N := []) (c := oC x 1 [.ref a1_, sv, .ref dq, .ref cm, .ref tx, .int tl, .int fl]) (C := [oC a1_ 2 [.ref R, .ref u1, .ref u2, .ref u3, .int (g 88)], aC D 4 u1 (qA 6 pe), aC D 0 u2 (iA 6 (upd (upd pa a (nI b)) b (nI a))), oC u3 12 [.int m, .ref u4, .int (nI 6)], aC D 3 u4 (qA 10 ca), aC D 1 v0 (lA 6 h0), aC D 1 v1 (lA 6 h1), aC D 1 v2 (lA 6 h2), aC D 1 v3 (lA 6 h3), aC D 1 v4 (lA 6 h4), aC D 1 v5 (lA 6 h5)])) ?_
  refine f_imsub hF [] (imk [] rfl) ?_
  have e2 : ∀ i, i < 6 → (upd (upd pa a (nI b)) b (nI a)) i = maG g a b (nI b) (nI a) (82 + i) := fun i hi => by
    have h9 := hpa i hi
    unfold maG; simp only [upd]
    by_cases h1 : i = b
    · subst h1; simp
    · by_cases h2 : i = a
      · subst h2; simp [h1]
      · rw [if_neg h1, if_neg h2, if_neg (by omega), if_neg (by omega)]; exact h9
  have e0 : ∀ j, j < 82 → maG g a b (nI b) (nI a) j = g j := fun j hj => maG_lo (by omega) (by omega)
  have e88 : maG g a b (nI b) (nI a) 88 = g 88 := maG_lo (by omega) (by omega)
  have e3 : ivS D (maG g a b (nI b) (nI a)) pf rb nb nch f4 ncr f6 ([] ++ iv) := hiv.cg (fun j hj => e0 j (by omega)) hch hcr (fun c h => h) (fun i hi => by rw [e0 _ (by omega), e0 _ (by omega), e0 _ (by omega)]; exact hiv.2.1 i hi)
  exact FR.v hR dX1_marry_78 (Nat.le_of_ble_eq_true rfl) (Nat.le_of_ble_eq_true rfl) ⟨_, _, _, _, rfl, rfl, rfl, hdq, _, rb, f4, f6, R, U, hru.cg (fun j hj => e0 j (by omega)), ⟨u1, u2, u3, u4, m, pe, upd (upd pa a (nI b)) b (nI a), ca, v0, v1, v2, v3, v4, v5, h0, h1, h2, h3, h4, h5, (by rw [e88]; rfl), hpe, e2, hca, hh0, hh1, hh2, hh3, hh4, hh5⟩, e3⟩
set_option maxHeartbeats 4000000 in
theorem fc_X1_part (D : DD) (l : Launch) {KS : Nat → Prop} {Hb : Heap} (x nw dq e cm tx n : Nat) (sv : Value) (tl fl : Int32) (q : Nat → Nat) (g : Nat → Int32) (h : Nat → Int64) (nb nch ncr : Nat) (W iv Wd : va_W) (hn : n ≤ 6) (hd : dqS D dq e n q Wd) (hw : wcS D nw g h nb nch ncr W iv) (hnb : nb ≤ 6) (hch : nch ≤ 4) (hcr : ncr ≤ 6) (p o : Nat) (hp : p < 6) (ho : o < 6) (hpo : p ≠ o) (hno : ¬ g (82 + p) = -1) (go : g (82 + p) = nI o) : Fc D l yX1_part cX1_part 4 (some .int) 10 42 190 204 KS Hb [.ref x, .int (nI p)] (oC x 1 [.ref nw, sv, .ref dq, .ref cm, .ref tx, .int tl, .int fl] :: Wd) (W ++ iv) (chP D x dq e cm tx n nw sv tl fl q iv (some (.int (nI o))) (maG g p o (-1) (-1)) h nb nch ncr) := by
  obtain ⟨wd, rd, rfl, hwo⟩ := wo_of hw
  refine Fc.of (by decide) (Nat.le_of_ble_eq_true rfl) (fun s F hF hR => ?_)
  show F 0 0 ((oC x 1 [.ref (wd 0), sv, .ref dq, .ref cm, .ref tx, .int tl, .int fl]) :: Wd) (W ++ iv) 0 [] [(0, .ref x), (1, .int (nI p))]
  refine r_aload_n 1 0 (hF.pu _ _ _ _) dX1_part_0 rfl rfl ?_
  refine r_iload_n 2 1 (hF.pu _ _ _ _) dX1_part_1 rfl rfl ?_
  refine f_callp 5 hF (fun _ z => cp_X1_requirePartner D l x wd rd g h nb nch ncr ((z.o 0 rfl).fld 0 rfl) (hwo (fun _ => False) _ (fun q hq => ⟨z.2.2 q hq, id⟩)) hnb hch hcr p (by omega) hno) lk_X1_235 1 yk_X1_requirePartner rfl ⟨by decide, by decide⟩ (fun _ z => ((z.o 0 rfl).fld 0 rfl)) rfl rfl (Nat.le_of_ble_eq_true rfl) dX1_part_2 ⟨Nat.le_of_ble_eq_true rfl, Nat.le_of_ble_eq_true rfl⟩ rfl ?_
  refine r_eqi (nI o) go ?_
  refine r_istore_n 6 [(2, .int (nI o)), (0, .ref x), (1, .int (nI p))] (hF.pu _ _ _ _) dX1_part_5 rfl (by decide) rfl rfl ?_
  refine r_aload_n 7 1 (hF.pu _ _ _ _) dX1_part_6 rfl rfl ?_
  refine f_callV 10 hF (fc_X1_change (KS := KS) (Hb := Hb) D l x (wd 0) dq e cm tx n sv tl fl q g h nb nch ncr W iv Wd hn hd hw) (wr := []) (List.append_nil _).symm (fun _ h => h) lk_X1_101 0 yk_X1_change rfl ⟨by decide, by decide⟩ (fun _ z => ((z.o 0 rfl).fld 0 rfl)) rfl rfl (Nat.le_of_ble_eq_true rfl) dX1_part_7 ⟨Nat.le_of_ble_eq_true rfl, Nat.le_of_ble_eq_true rfl⟩ rfl (fun r ws_ im' hp => ?_)
  obtain ⟨a1_, a2_, a3_, rfl, rfl, rfl, hdq, hwc⟩ := hp
  refine f_eqw _ (List.append_nil _) ?_
  show F 42 190 ((oC x 1 [.ref a1_, sv, .ref dq, .ref cm, .ref tx, .int tl, .int fl]) :: (a2_ ++ a3_)) (W ++ iv) 10 [.ref a1_] [(2, .int (nI o)), (0, .ref x), (1, .int (nI p))]
  refine f_perm hF (oC x 1 [.ref a1_, sv, .ref dq, .ref cm, .ref tx, .int tl, .int fl] :: (a3_ ++ a2_)) (List.perm_append_comm.cons _) ?_
  obtain ⟨pf, rb, f4, f6, R, U, hru, ⟨u1, u2, u3, u4, m, pe, pa, ca, v0, v1, v2, v3, v4, v5, h0, h1, h2, h3, h4, h5, rfl, hpe, hpa, hca, hh0, hh1, hh2, hh3, hh4, hh5⟩, hiv⟩ := hwc
  show F 42 190 ((oC x 1 [.ref a1_, sv, .ref dq, .ref cm, .ref tx, .int tl, .int fl]) :: (oC a1_ 2 [.ref R, .ref u1, .ref u2, .ref u3, .int (g 88)]) :: (aC D 4 u1 (qA 6 pe)) :: (aC D 0 u2 (iA 6 pa)) :: (oC u3 12 [.int m, .ref u4, .int (nI 6)]) :: (aC D 3 u4 (qA 10 ca)) :: (aC D 1 v0 (lA 6 h0)) :: (aC D 1 v1 (lA 6 h1)) :: (aC D 1 v2 (lA 6 h2)) :: (aC D 1 v3 (lA 6 h3)) :: (aC D 1 v4 (lA 6 h4)) :: (aC D 1 v5 (lA 6 h5)) :: (U ++ a2_)) (W ++ iv) 10 [.ref a1_] [(2, .int (nI o)), (0, .ref x), (1, .int (nI p))]
  refine r_astore_n 11 [(3, .ref a1_), (2, .int (nI o)), (0, .ref x), (1, .int (nI p))] (hF.pu _ _ _ _) dX1_part_10 rfl (by decide) rfl rfl ?_
  refine r_aload_n 12 0 (hF.pu _ _ _ _) dX1_part_11 rfl rfl ?_
  refine f_getf 15 hF (T := TX2) (C := RX2) 2 (v := .ref u2) okX2 (fun _ z => ((z.o 1 rfl).fld 2 rfl)) rfl (by decide) (Or.inr ⟨_, nw_q452⟩) (Or.inl rfl) dX1_part_12 rfl ?_
  refine r_iload_n 16 3 (hF.pu _ _ _ _) dX1_part_15 rfl rfl ?_
  refine r_iconst 17 (-1) (hF.pu _ _ _ _) dX1_part_16 (by decide) rfl ?_
  refine f_iast 18 hF 3 ((oC x 1 [.ref a1_, sv, .ref dq, .ref cm, .ref tx, .int tl, .int fl]) :: (oC a1_ 2 [.ref R, .ref u1, .ref u2, .ref u3, .int (g 88)]) :: (aC D 4 u1 (qA 6 pe)) :: (aC D 0 u2 (iA 6 (upd pa p (-1)))) :: (oC u3 12 [.int m, .ref u4, .int (nI 6)]) :: (aC D 3 u4 (qA 10 ca)) :: (aC D 1 v0 (lA 6 h0)) :: (aC D 1 v1 (lA 6 h1)) :: (aC D 1 v2 (lA 6 h2)) :: (aC D 1 v3 (lA 6 h3)) :: (aC D 1 v4 (lA 6 h4)) :: (aC D 1 v5 (lA 6 h5)) :: (U ++ a2_)) rfl p rfl (by omega) (by omega) rfl dX1_part_17 rfl ?_
  refine r_aload_n 19 0 (hF.pu _ _ _ _) dX1_part_18 rfl rfl ?_
  refine f_getf 22 hF (T := TX2) (C := RX2) 2 (v := .ref u2) okX2 (fun _ z => ((z.o 1 rfl).fld 2 rfl)) rfl (by decide) (Or.inr ⟨_, nw_q452⟩) (Or.inl rfl) dX1_part_19 rfl ?_
  refine r_iload_n 23 1 (hF.pu _ _ _ _) dX1_part_22 rfl rfl ?_
  refine r_iconst 24 (-1) (hF.pu _ _ _ _) dX1_part_23 (by decide) rfl ?_
  refine f_iast 25 hF 3 ((oC x 1 [.ref a1_, sv, .ref dq, .ref cm, .ref tx, .int tl, .int fl]) :: (oC a1_ 2 [.ref R, .ref u1, .ref u2, .ref u3, .int (g 88)]) :: (aC D 4 u1 (qA 6 pe)) :: (aC D 0 u2 (iA 6 (upd (upd pa p (-1)) o (-1)))) :: (oC u3 12 [.int m, .ref u4, .int (nI 6)]) :: (aC D 3 u4 (qA 10 ca)) :: (aC D 1 v0 (lA 6 h0)) :: (aC D 1 v1 (lA 6 h1)) :: (aC D 1 v2 (lA 6 h2)) :: (aC D 1 v3 (lA 6 h3)) :: (aC D 1 v4 (lA 6 h4)) :: (aC D 1 v5 (lA 6 h5)) :: (U ++ a2_)) rfl o rfl (by omega) (by omega) rfl dX1_part_24 rfl ?_
  refine r_iload_n 26 1 (hF.pu _ _ _ _) dX1_part_25 rfl rfl ?_
  refine f_perm hF (oC x 1 [.ref a1_, sv, .ref dq, .ref cm, .ref tx, .int tl, .int fl] :: (a2_ ++ (([oC a1_ 2 [.ref R, .ref u1, .ref u2, .ref u3, .int (g 88)], aC D 4 u1 (qA 6 pe), aC D 0 u2 (iA 6 (upd (upd pa p (-1)) o (-1))), oC u3 12 [.int m, .ref u4, .int (nI 6)], aC D 3 u4 (qA 10 ca), aC D 1 v0 (lA 6 h0), aC D 1 v1 (lA 6 h1), aC D 1 v2 (lA 6 h2), aC D 1 v3 (lA 6 h3), aC D 1 v4 (lA 6 h4), aC D 1 v5 (lA 6 h5)] ++ U) ++ []))) (pm3 (N := []) (c := oC x 1 [.ref a1_, sv, .ref dq, .ref cm, .ref tx, .int tl, .int fl]) (C := [oC a1_ 2 [.ref R, .ref u1, .ref u2, .ref u3, .int (g 88)], aC D 4 u1 (qA 6 pe), aC D 0 u2 (iA 6 (upd (upd pa p (-1)) o (-1))), oC u3 12 [.int m, .ref u4, .int (nI 6)], aC D 3 u4 (qA 10 ca), aC D 1 v0 (lA 6 h0), aC D 1 v1 (lA 6 h1), aC D 1 v2 (lA 6 h2), aC D 1 v3 (lA 6 h3), aC D 1 v4 (lA 6 h4), aC D 1 v5 (lA 6 h5)])) ?_
  refine f_imsub hF [] (imk [] rfl) ?_
  have e2 : ∀ i, i < 6 → (upd (upd pa p (-1)) o (-1)) i = maG g p o (-1) (-1) (82 + i) := fun i hi => by
    have h9 := hpa i hi
    unfold maG; simp only [upd]
    by_cases h1 : i = o
    · subst h1; simp
    · by_cases h2 : i = p
      · subst h2; simp [h1]
      · rw [if_neg h1, if_neg h2, if_neg (by omega), if_neg (by omega)]; exact h9
  have e0 : ∀ j, j < 82 → maG g p o (-1) (-1) j = g j := fun j hj => maG_lo (by omega) (by omega)
  have e88 : maG g p o (-1) (-1) 88 = g 88 := maG_lo (by omega) (by omega)
  have e3 : ivS D (maG g p o (-1) (-1)) pf rb nb nch f4 ncr f6 ([] ++ iv) := hiv.cg (fun j hj => e0 j (by omega)) hch hcr (fun c h => h) (fun i hi => by rw [e0 _ (by omega), e0 _ (by omega), e0 _ (by omega)]; exact hiv.2.1 i hi)
  exact FR.i hR rfl dX1_part_26 (Nat.le_of_ble_eq_true rfl) (Nat.le_of_ble_eq_true rfl) ⟨_, _, _, _, rfl, rfl, rfl, hdq, _, rb, f4, f6, R, U, hru.cg (fun j hj => e0 j (by omega)), ⟨u1, u2, u3, u4, m, pe, upd (upd pa p (-1)) o (-1), ca, v0, v1, v2, v3, v4, v5, h0, h1, h2, h3, h4, h5, (by rw [e88]; rfl), hpe, e2, hca, hh0, hh1, hh2, hh3, hh4, hh5⟩, e3⟩
