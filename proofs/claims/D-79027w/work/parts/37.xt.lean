set_option maxHeartbeats 2000000 in
theorem ts_X1_isBetween (D : DD) (l : Launch) (v lo hi : Int32)  : Cs D l yX1_isBetween cX1_isBetween 3 (some .boolean) 0 0 [.int v, .int lo, .int hi] (.int (zB (inB v lo hi))) := by
  refine Cs.of (by decide) (Nat.le_of_ble_eq_true rfl) (fun s H0 A J hJ hR => ?_)
  have hp := hJ.pu H0 0 0
  show J H0 0 0 0 [] [(0, .int v), (1, .int lo), (2, .int hi)]
  refine r_iload_n 1 0 hp dX1_isBetween_0 rfl rfl ?_
  refine r_iload_n 2 1 hp dX1_isBetween_1 rfl rfl ?_
  refine r_icmp_lt 5 14 hp dX1_isBetween_2 (by decide) (fun c2 => ?_) rfl (fun c2 => ?_)
  · refine r_iconst 15 0 hp dX1_isBetween_14 (by decide) rfl ?_
    exact hR.1 15 _ _ _ rfl rfl dX1_isBetween_15 (by simp [inB, zB, *])
  · refine r_iload_n 6 0 hp dX1_isBetween_5 rfl rfl ?_
    refine r_iload_n 7 2 hp dX1_isBetween_6 rfl rfl ?_
    refine r_icmp_gt 10 14 hp dX1_isBetween_7 (by decide) (fun c7 => ?_) rfl (fun c7 => ?_)
    · refine r_iconst 15 0 hp dX1_isBetween_14 (by decide) rfl ?_
      exact hR.1 15 _ _ _ rfl rfl dX1_isBetween_15 (by simp [inB, zB, *])
    · refine r_iconst 11 1 hp dX1_isBetween_10 (by decide) rfl ?_
      refine r_goto 15 hp dX1_isBetween_11 (by decide) ?_
      exact hR.1 15 _ _ _ rfl rfl dX1_isBetween_15 (by simp [inB, zB, *])
theorem lk_X1_70 : GoodIn lw_all (va_wsS RX1 70 yX1_isBetween (ws_ yX1_isBetween cX1_isBetween 3 (some .boolean))) := lw_S q2015 q2016 q102 q2017
theorem yk_X1_isBetween : yOk yX1_isBetween 3 := by decide +kernel
theorem lk_X1_142 : GoodIn lw_all (va_wsS RX1 142 yX1_requireIndex (ws_ yX1_requireIndex cX1_requireIndex 1 none)) := lw_S q2392 q2393 q102 q2394
theorem yk_X1_requireIndex : yOk yX1_requireIndex 1 := by decide +kernel
set_option maxHeartbeats 2000000 in
theorem xt_X1_person_b (D : DD) (l : Launch) (hl : l.stackTraces = false) {H0 : Heap} {K0 : Nat → Prop} (x : Nat) (wd rd : Nat → Nat) (g : Nat → Int32) (h : Nat → Int64) (nb nch ncr : Nat) (hx0 : fld D 1 x 0 (.ref (wd 0)) H0) (hw : woK K0 D wd rd g h nb nch ncr H0) (hnb : nb ≤ 6) (hch : nch ≤ 4) (hcr : ncr ≤ 6) (p : Int32) (hb : inB p 0 5 = false) : Xt D l yX1_person cX1_person 2 (Option.some (ClassFile.FieldType.object "TaxWorkbench$Person")) 7 1 6 120 [.ref x, .int p] H0 RJ20 (fun H => fr (fun q => H0.size ≤ q) H0 H) (fun q => H0.size ≤ q) := by
  refine Xt.of hl (by decide) (Nat.le_of_ble_eq_true rfl) (fun q h => h) (fun s J X hT hO => ?_)
  have hJ := hT.j
  show J H0 0 0 0 [] [(0, .ref x), (1, .int p)]
  refine r_iload_n 1 1 (hJ.pu _ _ _) dX1_person_0 rfl rfl ?_
  refine r_iconst 2 0 (hJ.pu _ _ _) dX1_person_1 (by decide) rfl ?_
  refine r_iconst 3 5 (hJ.pu _ _ _) dX1_person_2 (by decide) rfl ?_
  refine cs_row 6 hJ (ts_X1_isBetween D l p 0 5) lk_X1_70 3 yk_X1_isBetween rfl ⟨by decide, by decide⟩ rfl (Nat.le_of_ble_eq_true rfl) dX1_person_3 ⟨Nat.zero_le _, Nat.zero_le _⟩ rfl ?_
  refine r_eqi (0) (by simp [zB, hb]) ?_
  exact x_callS hT (xt_X1_requireIndex D l hl) (ci := 26) rfl lk_X1_142 1 yk_X1_requireIndex rfl ⟨by decide, by decide⟩ rfl (Nat.le_of_ble_eq_true rfl) dX1_person_6 ⟨by decide, by decide⟩ (fun x hx => Or.inr hx) (fun q H1 h1 h2 h3 => hO _ _ _ _ _ _ (by decide) (by decide) h1 h2)
set_option maxHeartbeats 2000000 in
theorem cp_X1_person (D : DD) (l : Launch) {H0 : Heap} {K0 : Nat → Prop} (x : Nat) (wd rd : Nat → Nat) (g : Nat → Int32) (h : Nat → Int64) (nb nch ncr : Nat) (hx0 : fld D 1 x 0 (.ref (wd 0)) H0) (hw : woK K0 D wd rd g h nb nch ncr H0) (hnb : nb ≤ 6) (hch : nch ≤ 4) (hcr : ncr ≤ 6) (p : Nat) (hp : p < 6) (hb : inB (nI p) 0 5 = true) : Cp D l yX1_person cX1_person 2 (Option.some (ClassFile.FieldType.object "TaxWorkbench$Person")) 1 22 [.ref x, .int (nI p)] H0 (some (.ref (wd (10 + p)))) := by
  refine Cp.of (by decide) (Nat.le_of_ble_eq_true rfl) (fun s A J hJ hR => ?_)
  show J H0 0 0 0 [] [(0, .ref x), (1, .int (nI p))]
  refine r_iload_n 1 1 (hJ.pu _ _ _) dX1_person_0 rfl rfl ?_
  refine r_iconst 2 0 (hJ.pu _ _ _) dX1_person_1 (by decide) rfl ?_
  refine r_iconst 3 5 (hJ.pu _ _ _) dX1_person_2 (by decide) rfl ?_
  refine cs_row 6 hJ (ts_X1_isBetween D l (nI p) 0 5) lk_X1_70 3 yk_X1_isBetween rfl ⟨by decide, by decide⟩ rfl (Nat.le_of_ble_eq_true rfl) dX1_person_3 ⟨Nat.zero_le _, Nat.zero_le _⟩ rfl ?_
  refine r_eqi 1 (by simp [zB, *]) ?_
  refine j_callps 9 hJ (cp_X1_requireIndex_k D l) lk_X1_142 1 yk_X1_requireIndex rfl ⟨by decide, by decide⟩ rfl (Nat.le_of_ble_eq_true rfl) dX1_person_6 ⟨Nat.zero_le _, Nat.zero_le _⟩ rfl ?_
  refine r_aload_n 10 0 (hJ.pu _ _ _) dX1_person_9 rfl rfl ?_
  refine j_getf 13 hJ (T := TX1) (C := RX1) 0 (v := .ref (wd 0)) okX1 hx0 rfl (by decide) (Or.inl q550) (Or.inl rfl) dX1_person_10 rfl ?_
  refine j_getf 16 hJ (T := TX2) (C := RX2) 1 (v := .ref (wd 1)) okX2 (hw.o.fld 1 rfl) rfl (by decide) (Or.inr ⟨_, nw_q450⟩) (Or.inl rfl) dX1_person_13 rfl ?_
  refine r_iload_n 17 1 (hJ.pu _ _ _) dX1_person_16 rfl rfl ?_
  refine j_aalde 18 hJ p (x := some (wd (10 + p))) (hw.pe.el (j := p) (by omega)) rfl rfl (by omega) (by omega) dX1_person_17 rfl ?_
  exact Rt.a hR (Or.inl ⟨_, rfl⟩) dX1_person_18 (Nat.zero_le _) (Nat.zero_le _) ⟨rfl, rfl⟩
theorem lk_X1_124 : GoodIn lw_all (wsV RX1 124 yJ10_size.cls yJ10_size (ws_ yJ10_size cJ10_size 1 (some .int))) := lw_V q587 q588 q589 q116 q590
set_option maxHeartbeats 2000000 in
theorem xt_X1_requireCredit_b (D : DD) (l : Launch) (hl : l.stackTraces = false) {H0 : Heap} {K0 : Nat → Prop} (x : Nat) (wd rd : Nat → Nat) (g : Nat → Int32) (h : Nat → Int64) (nb nch ncr : Nat) (hx0 : fld D 1 x 0 (.ref (wd 0)) H0) (hw : woK K0 D wd rd g h nb nch ncr H0) (hnb : nb ≤ 6) (hch : nch ≤ 4) (hcr : ncr ≤ 6) (c : Int32) (hb : inB c 0 ((nI ncr) - 1) = false) : Xt D l yX1_requireCredit cX1_requireCredit 2 none 7 1 6 120 [.ref x, .int c] H0 RJ20 (fun H => fr (fun q => H0.size ≤ q) H0 H) (fun q => H0.size ≤ q) := by
  refine Xt.of hl (by decide) (Nat.le_of_ble_eq_true rfl) (fun q h => h) (fun s J X hT hO => ?_)
  have hJ := hT.j
  show J H0 0 0 0 [] [(0, .ref x), (1, .int c)]
  refine r_iload_n 1 1 (hJ.pu _ _ _) dX1_requireCredit_0 rfl rfl ?_
  refine r_iconst 2 0 (hJ.pu _ _ _) dX1_requireCredit_1 (by decide) rfl ?_
  refine r_aload_n 3 0 (hJ.pu _ _ _) dX1_requireCredit_2 rfl rfl ?_
  refine j_getf 6 hJ (T := TX1) (C := RX1) 0 (v := .ref (wd 0)) okX1 hx0 rfl (by decide) (Or.inl q550) (Or.inl rfl) dX1_requireCredit_3 rfl ?_
  refine j_getf 9 hJ (T := TX2) (C := RX2) 0 (v := .ref (rd 0)) okX2 (hw.o.fld 0 rfl) rfl (by decide) (Or.inr ⟨_, nw_q448⟩) (Or.inl rfl) dX1_requireCredit_6 rfl ?_
  refine j_getf 12 hJ (T := TX3) (C := RX3) 4 (v := .ref (rd 6)) okX3 (hw.ru.o.fld 4 rfl) rfl (by decide) (Or.inr ⟨_, nw_q320⟩) (Or.inl rfl) dX1_requireCredit_9 rfl ?_
  refine j_callp 15 hJ (cp_J10_size D l (rd 6) ncr (fun k => rd (400 + k)) (fun k => rd (300 + k)) hw.ru.rl) lk_X1_124 0 yk_J10_size rfl ⟨by decide, by decide⟩ hw.ru.rl.sz rfl rfl (Nat.le_of_ble_eq_true rfl) dX1_requireCredit_12 ⟨Nat.zero_le _, Nat.zero_le _⟩ rfl ?_
  refine r_iconst 16 1 (hJ.pu _ _ _) dX1_requireCredit_15 (by decide) rfl ?_
  refine r_isub 17 (hJ.pu _ _ _) dX1_requireCredit_16 rfl ?_
  refine cs_row 20 hJ (ts_X1_isBetween D l c 0 ((nI ncr) - 1)) lk_X1_70 3 yk_X1_isBetween rfl ⟨by decide, by decide⟩ rfl (Nat.le_of_ble_eq_true rfl) dX1_requireCredit_17 ⟨Nat.zero_le _, Nat.zero_le _⟩ rfl ?_
  refine r_eqi (0) (by simp [zB, hb]) ?_
  exact x_callS hT (xt_X1_requireIndex D l hl) (ci := 26) rfl lk_X1_142 1 yk_X1_requireIndex rfl ⟨by decide, by decide⟩ rfl (Nat.le_of_ble_eq_true rfl) dX1_requireCredit_20 ⟨by decide, by decide⟩ (fun x hx => Or.inr hx) (fun q H1 h1 h2 h3 => hO _ _ _ _ _ _ (by decide) (by decide) h1 h2)
set_option maxHeartbeats 2000000 in
theorem cp_X1_requireCredit (D : DD) (l : Launch) {H0 : Heap} {K0 : Nat → Prop} (x : Nat) (wd rd : Nat → Nat) (g : Nat → Int32) (h : Nat → Int64) (nb nch ncr : Nat) (hx0 : fld D 1 x 0 (.ref (wd 0)) H0) (hw : woK K0 D wd rd g h nb nch ncr H0) (hnb : nb ≤ 6) (hch : nch ≤ 4) (hcr : ncr ≤ 6) (c : Int32) (hb : inB c 0 ((nI ncr) - 1) = true) : Cp D l yX1_requireCredit cX1_requireCredit 2 none 1 22 [.ref x, .int c] H0 none := by
  refine Cp.of (by decide) (Nat.le_of_ble_eq_true rfl) (fun s A J hJ hR => ?_)
  show J H0 0 0 0 [] [(0, .ref x), (1, .int c)]
  refine r_iload_n 1 1 (hJ.pu _ _ _) dX1_requireCredit_0 rfl rfl ?_
  refine r_iconst 2 0 (hJ.pu _ _ _) dX1_requireCredit_1 (by decide) rfl ?_
  refine r_aload_n 3 0 (hJ.pu _ _ _) dX1_requireCredit_2 rfl rfl ?_
  refine j_getf 6 hJ (T := TX1) (C := RX1) 0 (v := .ref (wd 0)) okX1 hx0 rfl (by decide) (Or.inl q550) (Or.inl rfl) dX1_requireCredit_3 rfl ?_
  refine j_getf 9 hJ (T := TX2) (C := RX2) 0 (v := .ref (rd 0)) okX2 (hw.o.fld 0 rfl) rfl (by decide) (Or.inr ⟨_, nw_q448⟩) (Or.inl rfl) dX1_requireCredit_6 rfl ?_
  refine j_getf 12 hJ (T := TX3) (C := RX3) 4 (v := .ref (rd 6)) okX3 (hw.ru.o.fld 4 rfl) rfl (by decide) (Or.inr ⟨_, nw_q320⟩) (Or.inl rfl) dX1_requireCredit_9 rfl ?_
  refine j_callp 15 hJ (cp_J10_size D l (rd 6) ncr (fun k => rd (400 + k)) (fun k => rd (300 + k)) hw.ru.rl) lk_X1_124 0 yk_J10_size rfl ⟨by decide, by decide⟩ hw.ru.rl.sz rfl rfl (Nat.le_of_ble_eq_true rfl) dX1_requireCredit_12 ⟨Nat.zero_le _, Nat.zero_le _⟩ rfl ?_
  refine r_iconst 16 1 (hJ.pu _ _ _) dX1_requireCredit_15 (by decide) rfl ?_
  refine r_isub 17 (hJ.pu _ _ _) dX1_requireCredit_16 rfl ?_
  refine cs_row 20 hJ (ts_X1_isBetween D l c 0 ((nI ncr) - 1)) lk_X1_70 3 yk_X1_isBetween rfl ⟨by decide, by decide⟩ rfl (Nat.le_of_ble_eq_true rfl) dX1_requireCredit_17 ⟨Nat.zero_le _, Nat.zero_le _⟩ rfl ?_
  refine r_eqi 1 (by simp [zB, *]) ?_
  refine j_callps 23 hJ (cp_X1_requireIndex_k D l) lk_X1_142 1 yk_X1_requireIndex rfl ⟨by decide, by decide⟩ rfl (Nat.le_of_ble_eq_true rfl) dX1_requireCredit_20 ⟨Nat.zero_le _, Nat.zero_le _⟩ rfl ?_
  exact Rt.v hR dX1_requireCredit_23 (Nat.zero_le _) (Nat.zero_le _) ⟨rfl, rfl⟩
theorem lk_X1_211 : GoodIn lw_all (wsV RX1 211 yX1_person.cls yX1_person (ws_ yX1_person cX1_person 2 (Option.some (ClassFile.FieldType.object "TaxWorkbench$Person")))) := lw_V q3173 q3175 qs51 q102 q3176
theorem yk_X1_person : yOk yX1_person 1 := by decide +kernel
set_option maxHeartbeats 2000000 in
theorem xt_X1_requirePartner_b (D : DD) (l : Launch) (hl : l.stackTraces = false) {H0 : Heap} {K0 : Nat → Prop} (x : Nat) (wd rd : Nat → Nat) (g : Nat → Int32) (h : Nat → Int64) (nb nch ncr : Nat) (hx0 : fld D 1 x 0 (.ref (wd 0)) H0) (hw : woK K0 D wd rd g h nb nch ncr H0) (hnb : nb ≤ 6) (hch : nch ≤ 4) (hcr : ncr ≤ 6) (p : Int32) (hb : inB p 0 5 = false) : Xt D l yX1_requirePartner cX1_requirePartner 2 (some .int) 8 1 6 141 [.ref x, .int p] H0 RJ20 (fun H => fr (fun q => H0.size ≤ q) H0 H) (fun q => H0.size ≤ q) := by
  refine Xt.of hl (by decide) (Nat.le_of_ble_eq_true rfl) (fun q h => h) (fun s J X hT hO => ?_)
  have hJ := hT.j
  show J H0 0 0 0 [] [(0, .ref x), (1, .int p)]
  refine r_aload_n 1 0 (hJ.pu _ _ _) dX1_requirePartner_0 rfl rfl ?_
  refine r_iload_n 2 1 (hJ.pu _ _ _) dX1_requirePartner_1 rfl rfl ?_
  exact x_callV hT (xt_X1_person_b D l hl x wd rd g h nb nch ncr hx0 hw hnb hch hcr p hb) (ci := 26) rfl lk_X1_211 1 yk_X1_person rfl ⟨by decide, by decide⟩ hx0 rfl rfl (Nat.le_of_ble_eq_true rfl) dX1_requirePartner_2 ⟨by decide, by decide⟩ (fun x hx => Or.inr hx) (fun q H1 h1 h2 h3 => hO _ _ _ _ _ _ (by decide) (by decide) h1 h2)
theorem lk_X1_232 : GoodIn lw_all (va_wsS RX1 232 yX1_requireElement (ws_ yX1_requireElement cX1_requireElement 1 none)) := lw_S q3205 q3206 q102 q3207
theorem yk_X1_requireElement : yOk yX1_requireElement 1 := by decide +kernel
set_option maxHeartbeats 2000000 in
theorem xt_X1_requirePartner_c (D : DD) (l : Launch) (hl : l.stackTraces = false) {H0 : Heap} {K0 : Nat → Prop} (x : Nat) (wd rd : Nat → Nat) (g : Nat → Int32) (h : Nat → Int64) (nb nch ncr : Nat) (hx0 : fld D 1 x 0 (.ref (wd 0)) H0) (hw : woK K0 D wd rd g h nb nch ncr H0) (hnb : nb ≤ 6) (hch : nch ≤ 4) (hcr : ncr ≤ 6) (p : Nat) (hp : p < 6) (hno : g (82 + p) = -1) : Xt D l yX1_requirePartner cX1_requirePartner 2 (some .int) 7 1 6 120 [.ref x, .int (nI p)] H0 RJ38 (fun H => fr (fun q => H0.size ≤ q) H0 H) (fun q => H0.size ≤ q) := by
  refine Xt.of hl (by decide) (Nat.le_of_ble_eq_true rfl) (fun q h => h) (fun s J X hT hO => ?_)
  have hJ := hT.j
  show J H0 0 0 0 [] [(0, .ref x), (1, .int (nI p))]
  refine r_aload_n 1 0 (hJ.pu _ _ _) dX1_requirePartner_0 rfl rfl ?_
  refine r_iload_n 2 1 (hJ.pu _ _ _) dX1_requirePartner_1 rfl rfl ?_
  refine j_callp 5 hJ (cp_X1_person D l x wd rd g h nb nch ncr hx0 hw hnb hch hcr p (by omega) (per_in (by omega))) lk_X1_211 1 yk_X1_person rfl ⟨by decide, by decide⟩ hx0 rfl rfl (Nat.le_of_ble_eq_true rfl) dX1_requirePartner_2 ⟨Nat.zero_le _, Nat.zero_le _⟩ rfl ?_
  refine r_pop 6 (hJ.pu _ _ _) dX1_requirePartner_5 rfl rfl ?_
  refine r_aload_n 7 0 (hJ.pu _ _ _) dX1_requirePartner_6 rfl rfl ?_
  refine j_getf 10 hJ (T := TX1) (C := RX1) 0 (v := .ref (wd 0)) okX1 hx0 rfl (by decide) (Or.inl q550) (Or.inl rfl) dX1_requirePartner_7 rfl ?_
  refine j_getf 13 hJ (T := TX2) (C := RX2) 2 (v := .ref (wd 2)) okX2 (hw.o.fld 2 rfl) rfl (by decide) (Or.inr ⟨_, nw_q452⟩) (Or.inl rfl) dX1_requirePartner_10 rfl ?_
  refine r_iload_n 14 1 (hJ.pu _ _ _) dX1_requirePartner_13 rfl rfl ?_
  refine j_ialde 15 hJ p (hw.pa.el (j := p) (by omega)) rfl (by omega) (by omega) dX1_requirePartner_14 rfl ?_
  refine r_iconst 16 (-1) (hJ.pu _ _ _) dX1_requirePartner_15 (by decide) rfl ?_
  refine r_icmp_eq 19 23 (hJ.pu _ _ _) dX1_requirePartner_16 (by decide) (fun c16 => ?_) rfl (fun c16 => absurd c16 (fun z => z hno))
  refine r_iconst 24 0 (hJ.pu _ _ _) dX1_requirePartner_23 (by decide) rfl ?_
  exact x_callS hT (xt_X1_requireElement D l hl) (ci := 27) rfl lk_X1_232 1 yk_X1_requireElement rfl ⟨by decide, by decide⟩ rfl (Nat.le_of_ble_eq_true rfl) dX1_requirePartner_24 ⟨by decide, by decide⟩ (fun x hx => Or.inr hx) (fun q H1 h1 h2 h3 => hO _ _ _ _ _ _ (by decide) (by decide) h1 h2)
set_option maxHeartbeats 2000000 in
theorem cp_X1_requirePartner (D : DD) (l : Launch) {H0 : Heap} {K0 : Nat → Prop} (x : Nat) (wd rd : Nat → Nat) (g : Nat → Int32) (h : Nat → Int64) (nb nch ncr : Nat) (hx0 : fld D 1 x 0 (.ref (wd 0)) H0) (hw : woK K0 D wd rd g h nb nch ncr H0) (hnb : nb ≤ 6) (hch : nch ≤ 4) (hcr : ncr ≤ 6) (p : Nat) (hp : p < 6) (hno : ¬ g (82 + p) = -1) : Cp D l yX1_requirePartner cX1_requirePartner 2 (some .int) 2 43 [.ref x, .int (nI p)] H0 (some (.int (g (82 + p)))) := by
  refine Cp.of (by decide) (Nat.le_of_ble_eq_true rfl) (fun s A J hJ hR => ?_)
  show J H0 0 0 0 [] [(0, .ref x), (1, .int (nI p))]
  refine r_aload_n 1 0 (hJ.pu _ _ _) dX1_requirePartner_0 rfl rfl ?_
  refine r_iload_n 2 1 (hJ.pu _ _ _) dX1_requirePartner_1 rfl rfl ?_
  refine j_callp 5 hJ (cp_X1_person D l x wd rd g h nb nch ncr hx0 hw hnb hch hcr p (by omega) (per_in (by omega))) lk_X1_211 1 yk_X1_person rfl ⟨by decide, by decide⟩ hx0 rfl rfl (Nat.le_of_ble_eq_true rfl) dX1_requirePartner_2 ⟨Nat.zero_le _, Nat.zero_le _⟩ rfl ?_
  refine r_pop 6 (hJ.pu _ _ _) dX1_requirePartner_5 rfl rfl ?_
  refine r_aload_n 7 0 (hJ.pu _ _ _) dX1_requirePartner_6 rfl rfl ?_
  refine j_getf 10 hJ (T := TX1) (C := RX1) 0 (v := .ref (wd 0)) okX1 hx0 rfl (by decide) (Or.inl q550) (Or.inl rfl) dX1_requirePartner_7 rfl ?_
  refine j_getf 13 hJ (T := TX2) (C := RX2) 2 (v := .ref (wd 2)) okX2 (hw.o.fld 2 rfl) rfl (by decide) (Or.inr ⟨_, nw_q452⟩) (Or.inl rfl) dX1_requirePartner_10 rfl ?_
  refine r_iload_n 14 1 (hJ.pu _ _ _) dX1_requirePartner_13 rfl rfl ?_
  refine j_ialde 15 hJ p (hw.pa.el (j := p) (by omega)) rfl (by omega) (by omega) dX1_requirePartner_14 rfl ?_
  refine r_iconst 16 (-1) (hJ.pu _ _ _) dX1_requirePartner_15 (by decide) rfl ?_
  refine r_icmp_eq 19 23 (hJ.pu _ _ _) dX1_requirePartner_16 (by decide) (fun c16 => absurd c16 (hno)) rfl (fun c16 => ?_)
  refine r_iconst 20 1 (hJ.pu _ _ _) dX1_requirePartner_19 (by decide) rfl ?_
  refine r_goto 24 (hJ.pu _ _ _) dX1_requirePartner_20 (by decide) ?_
  refine j_callps 27 hJ (cp_X1_requireElement_k D l) lk_X1_232 1 yk_X1_requireElement rfl ⟨by decide, by decide⟩ rfl (Nat.le_of_ble_eq_true rfl) dX1_requirePartner_24 ⟨Nat.zero_le _, Nat.zero_le _⟩ rfl ?_
  refine r_aload_n 28 0 (hJ.pu _ _ _) dX1_requirePartner_27 rfl rfl ?_
  refine j_getf 31 hJ (T := TX1) (C := RX1) 0 (v := .ref (wd 0)) okX1 hx0 rfl (by decide) (Or.inl q550) (Or.inl rfl) dX1_requirePartner_28 rfl ?_
  refine j_getf 34 hJ (T := TX2) (C := RX2) 2 (v := .ref (wd 2)) okX2 (hw.o.fld 2 rfl) rfl (by decide) (Or.inr ⟨_, nw_q452⟩) (Or.inl rfl) dX1_requirePartner_31 rfl ?_
  refine r_iload_n 35 1 (hJ.pu _ _ _) dX1_requirePartner_34 rfl rfl ?_
  refine j_ialde 36 hJ p (hw.pa.el (j := p) (by omega)) rfl (by omega) (by omega) dX1_requirePartner_35 rfl ?_
  exact Rt.i hR rfl dX1_requirePartner_36 (Nat.zero_le _) (Nat.zero_le _) ⟨rfl, rfl⟩
