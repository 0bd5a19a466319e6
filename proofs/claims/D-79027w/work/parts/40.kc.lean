def hhT (g : Nat → Int32) (h : Nat → Int64) (nb nch ncr p : Nat) : Int64 := minL (joT g h nb nch ncr p (qG g p)) (seT g h nb nch ncr (fiN p (qG g p)) (laN p (qG g p)) (dnG g p + dnG g (qG g p)))
def adT (g : Nat → Int32) (h : Nat → Int64) (nb nch ncr p : Nat) : Int64 := if g (82 + p) = -1 then owT g h nb nch ncr p else if p < qG g p then hhT g h nb nch ncr p else 0
def ttT (g : Nat → Int32) (h : Nat → Int64) (nb nch ncr : Nat) : Nat → Int64
  | 0 => 0
  | k + 1 => ttT g h nb nch ncr k + adT g h nb nch ncr k
abbrev cpG (g : Nat → Int32) (p : Nat) : Prop := cpl g p (qG g p) (fiN p (qG g p)) (laN p (qG g p)) (dnG g p + dnG g (qG g p))
set_option maxHeartbeats 2000000 in
theorem cp_X2_isFirst_a (D : DD) (l : Launch) {H0 : Heap} {K0 : Nat → Prop} (x : Nat) (wd rd : Nat → Nat) (g : Nat → Int32) (h : Nat → Int64) (nb nch ncr : Nat) (hx0 : fld D 1 x 0 (.ref (wd 0)) H0) (hw : woK K0 D wd rd g h nb nch ncr H0) (hnb : nb ≤ 6) (hch : nch ≤ 4) (hcr : ncr ≤ 6) (p : Nat) (hp : p < 6) (hs : g (82 + p) = -1) : Cp D l yX2_isFirst cX2_isFirst 2 (some .boolean) 0 0 [.ref (wd 0), .int (nI p)] H0 (some (.int 1)) := by
  refine Cp.of (by decide) (Nat.le_of_ble_eq_true rfl) (fun s A J hJ hR => ?_)
  show J H0 0 0 0 [] [(0, .ref (wd 0)), (1, .int (nI p))]
  refine r_aload_n 1 0 (hJ.pu _ _ _) dX2_isFirst_0 rfl rfl ?_
  refine j_getf 4 hJ (T := TX2) (C := RX2) 2 (v := .ref (wd 2)) okX2 (hw.o.fld 2 rfl) rfl (by decide) (Or.inl q451) (Or.inl rfl) dX2_isFirst_1 rfl ?_
  refine r_iload_n 5 1 (hJ.pu _ _ _) dX2_isFirst_4 rfl rfl ?_
  refine j_ialde 6 hJ p (hw.pa.el (j := p) (by omega)) rfl (by omega) (by omega) dX2_isFirst_5 rfl ?_
  refine r_iconst 7 (-1) (hJ.pu _ _ _) dX2_isFirst_6 (by decide) rfl ?_
  refine r_icmp_eq 10 20 (hJ.pu _ _ _) dX2_isFirst_7 (by decide) (fun c7 => ?_) rfl (fun c7 => absurd c7 (fun z => z hs))
  refine r_iconst 21 1 (hJ.pu _ _ _) dX2_isFirst_20 (by decide) rfl ?_
  refine r_goto 25 (hJ.pu _ _ _) dX2_isFirst_21 (by decide) ?_
  exact Rt.i hR rfl dX2_isFirst_25 (Nat.zero_le _) (Nat.zero_le _) ⟨rfl, rfl⟩
set_option maxHeartbeats 2000000 in
theorem cp_X2_isFirst_c (D : DD) (l : Launch) {H0 : Heap} {K0 : Nat → Prop} (x : Nat) (wd rd : Nat → Nat) (g : Nat → Int32) (h : Nat → Int64) (nb nch ncr : Nat) (hx0 : fld D 1 x 0 (.ref (wd 0)) H0) (hw : woK K0 D wd rd g h nb nch ncr H0) (hnb : nb ≤ 6) (hch : nch ≤ 4) (hcr : ncr ≤ 6) (p : Nat) (hp : p < 6) (q : Nat) (hpq : g (82 + p) = nI q) (hq : q < 6) : Cp D l yX2_isFirst cX2_isFirst 2 (some .boolean) 0 0 [.ref (wd 0), .int (nI p)] H0 (some (.int (zB (decide (p < q))))) := by
  refine Cp.of (by decide) (Nat.le_of_ble_eq_true rfl) (fun s A J hJ hR => ?_)
  show J H0 0 0 0 [] [(0, .ref (wd 0)), (1, .int (nI p))]
  refine r_aload_n 1 0 (hJ.pu _ _ _) dX2_isFirst_0 rfl rfl ?_
  refine j_getf 4 hJ (T := TX2) (C := RX2) 2 (v := .ref (wd 2)) okX2 (hw.o.fld 2 rfl) rfl (by decide) (Or.inl q451) (Or.inl rfl) dX2_isFirst_1 rfl ?_
  refine r_iload_n 5 1 (hJ.pu _ _ _) dX2_isFirst_4 rfl rfl ?_
  refine j_ialde 6 hJ p (hw.pa.el (j := p) (by omega)) rfl (by omega) (by omega) dX2_isFirst_5 rfl ?_
  refine r_eqi (nI q) hpq ?_
  refine r_iconst 7 (-1) (hJ.pu _ _ _) dX2_isFirst_6 (by decide) rfl ?_
  refine r_icmp_eq 10 20 (hJ.pu _ _ _) dX2_isFirst_7 (by decide) (fun c7 => absurd c7 (nI_nm1 hq)) rfl (fun c7 => ?_)
  refine r_iload_n 11 1 (hJ.pu _ _ _) dX2_isFirst_10 rfl rfl ?_
  refine r_aload_n 12 0 (hJ.pu _ _ _) dX2_isFirst_11 rfl rfl ?_
  refine j_getf 15 hJ (T := TX2) (C := RX2) 2 (v := .ref (wd 2)) okX2 (hw.o.fld 2 rfl) rfl (by decide) (Or.inl q451) (Or.inl rfl) dX2_isFirst_12 rfl ?_
  refine r_iload_n 16 1 (hJ.pu _ _ _) dX2_isFirst_15 rfl rfl ?_
  refine j_ialde 17 hJ p (hw.pa.el (j := p) (by omega)) rfl (by omega) (by omega) dX2_isFirst_16 rfl ?_
  refine r_eqi (nI q) hpq ?_
  refine r_icmp_geN p q 20 24 (hJ.pu _ _ _) dX2_isFirst_17 (by omega) (by omega) (by decide) (fun c17 => ?_) rfl (fun c17 => ?_)
  · refine r_iconst 25 0 (hJ.pu _ _ _) dX2_isFirst_24 (by decide) rfl ?_
    exact Rt.i hR rfl dX2_isFirst_25 (Nat.zero_le _) (Nat.zero_le _) ⟨(by first | (rw [show decide (p < q) = true from decide_eq_true (by omega)]; done) | (rw [show decide (p < q) = true from decide_eq_true (by omega)]; rfl) | (rw [show decide (p < q) = false from decide_eq_false (by omega)]; rfl)), rfl⟩
  · refine r_iconst 21 1 (hJ.pu _ _ _) dX2_isFirst_20 (by decide) rfl ?_
    refine r_goto 25 (hJ.pu _ _ _) dX2_isFirst_21 (by decide) ?_
    exact Rt.i hR rfl dX2_isFirst_25 (Nat.zero_le _) (Nat.zero_le _) ⟨(by first | (rw [show decide (p < q) = true from decide_eq_true (by omega)]; done) | (rw [show decide (p < q) = true from decide_eq_true (by omega)]; rfl) | (rw [show decide (p < q) = false from decide_eq_false (by omega)]; rfl)), rfl⟩
theorem lk_X1_303 : GoodIn lw_all (wsV RX1 303 yX1_household.cls yX1_household (ws_ yX1_household cX1_household 2 (some .long))) := lw_V q1876 q1878 qs22 q102 q1879
theorem yk_X1_household : yOk yX1_household 1 := by decide +kernel
set_option maxHeartbeats 4000000 in
theorem kc_X1_householdTax_a (D : DD) (l : Launch) (kd : Nat → Nat) (hN : kwN kd) {Q : Heap → Prop} (hQ : kQ kd Q) {K0 : Nat → Prop} (x : Nat) (wd rd : Nat → Nat) (g : Nat → Int32) (h : Nat → Int64) (nb nch ncr : Nat) (hx0 : ∀ {H : Heap}, Q H → fld D 1 x 0 (.ref (wd 0)) H) (hx3 : ∀ {H : Heap}, Q H → fld D 1 x 3 (.ref (kd 0)) H) (hw : ∀ {H : Heap}, Q H → woK K0 D wd rd g h nb nch ncr H) (hnb : nb ≤ 6) (hch : nch ≤ 4) (hcr : ncr ≤ 6) (p : Nat) (hp : p < 6) (hs : g (82 + p) = -1) (L : TL) (C : TC) : Kc D l yX1_householdTax cX1_householdTax 2 (some .long) 9 239 kd Q [.ref x, .int (nI p)] L C (fun r L' C' => r = some (.long (owT g h nb nch ncr p))) := by
  refine Kc.of hN hQ (by decide) (Nat.le_of_ble_eq_true rfl) (fun s K hK hR => ?_)
  show K L C 0 [] [(0, .ref x), (1, .int (nI p))]
  refine r_aload_n 1 0 (hK.pu _ _) dX1_householdTax_0 rfl rfl ?_
  refine r_iload_n 2 1 (hK.pu _ _) dX1_householdTax_1 rfl rfl ?_
  refine k_callp 5 hK (fun _ hh z => cp_X1_person D l x wd rd g h nb nch ncr (hx0 z) (hw z) hnb hch hcr p (by omega) (per_in (by omega))) lk_X1_211 1 yk_X1_person rfl ⟨by decide, by decide⟩ (fun _ hh z => (hx0 z)) rfl rfl (Nat.le_of_ble_eq_true rfl) dX1_householdTax_2 rfl ?_
  refine r_pop 6 (hK.pu _ _) dX1_householdTax_5 rfl rfl ?_
  refine r_aload_n 7 0 (hK.pu _ _) dX1_householdTax_6 rfl rfl ?_
  refine r_iload_n 8 1 (hK.pu _ _) dX1_householdTax_7 rfl rfl ?_
  refine k_call 11 hK (kc_X1_household_a D l kd hN hQ x wd rd g h nb nch ncr hx0 hx3 hw hnb hch hcr p (by omega) hs L C) lk_X1_303 1 yk_X1_household rfl ⟨by decide, by decide⟩ (fun _ hh z => (hx0 z)) rfl rfl (Nat.le_of_ble_eq_true rfl) dX1_householdTax_8 rfl (fun r L1 C1 h1 => ?_)
  subst h1
  exact KR.lg hR dX1_householdTax_11 rfl
set_option maxHeartbeats 4000000 in
theorem kc_X1_householdTax_c (D : DD) (l : Launch) (kd : Nat → Nat) (hN : kwN kd) {Q : Heap → Prop} (hQ : kQ kd Q) {K0 : Nat → Prop} (x : Nat) (wd rd : Nat → Nat) (g : Nat → Int32) (h : Nat → Int64) (nb nch ncr : Nat) (hx0 : ∀ {H : Heap}, Q H → fld D 1 x 0 (.ref (wd 0)) H) (hx3 : ∀ {H : Heap}, Q H → fld D 1 x 3 (.ref (kd 0)) H) (hw : ∀ {H : Heap}, Q H → woK K0 D wd rd g h nb nch ncr H) (hnb : nb ≤ 6) (hch : nch ≤ 4) (hcr : ncr ≤ 6) (p : Nat) (hp : p < 6) (hcq : cpG g p) (L : TL) (C : TC) : Kc D l yX1_householdTax cX1_householdTax 2 (some .long) 11 288 kd Q [.ref x, .int (nI p)] L C (fun r L' C' => r = some (.long (hhT g h nb nch ncr p))) := by
  refine Kc.of hN hQ (by decide) (Nat.le_of_ble_eq_true rfl) (fun s K hK hR => ?_)
  show K L C 0 [] [(0, .ref x), (1, .int (nI p))]
  refine r_aload_n 1 0 (hK.pu _ _) dX1_householdTax_0 rfl rfl ?_
  refine r_iload_n 2 1 (hK.pu _ _) dX1_householdTax_1 rfl rfl ?_
  refine k_callp 5 hK (fun _ hh z => cp_X1_person D l x wd rd g h nb nch ncr (hx0 z) (hw z) hnb hch hcr p (by omega) (per_in (by omega))) lk_X1_211 1 yk_X1_person rfl ⟨by decide, by decide⟩ (fun _ hh z => (hx0 z)) rfl rfl (Nat.le_of_ble_eq_true rfl) dX1_householdTax_2 rfl ?_
  refine r_pop 6 (hK.pu _ _) dX1_householdTax_5 rfl rfl ?_
  refine r_aload_n 7 0 (hK.pu _ _) dX1_householdTax_6 rfl rfl ?_
  refine r_iload_n 8 1 (hK.pu _ _) dX1_householdTax_7 rfl rfl ?_
  refine k_call 11 hK (kc_X1_household_c D l kd hN hQ x wd rd g h nb nch ncr hx0 hx3 hw hnb hch hcr p _ _ _ _ hcq L C) lk_X1_303 1 yk_X1_household rfl ⟨by decide, by decide⟩ (fun _ hh z => (hx0 z)) rfl rfl (Nat.le_of_ble_eq_true rfl) dX1_householdTax_8 rfl (fun r L1 C1 h1 => ?_)
  subst h1
  exact KR.lg hR dX1_householdTax_11 rfl
theorem lk_X1_306 : GoodIn lw_all (wsV RX1 306 yX2_isFirst.cls yX2_isFirst (ws_ yX2_isFirst cX2_isFirst 2 (some .boolean))) := lw_V q1872 q1873 q1874 q103 q1875
theorem yk_X2_isFirst : yOk yX2_isFirst 1 := by decide +kernel
set_option maxHeartbeats 4000000 in
theorem kc_X1_totalTax (D : DD) (l : Launch) (kd : Nat → Nat) (hN : kwN kd) {Q : Heap → Prop} (hQ : kQ kd Q) {K0 : Nat → Prop} (x : Nat) (wd rd : Nat → Nat) (g : Nat → Int32) (h : Nat → Int64) (nb nch ncr : Nat) (hx0 : ∀ {H : Heap}, Q H → fld D 1 x 0 (.ref (wd 0)) H) (hx3 : ∀ {H : Heap}, Q H → fld D 1 x 3 (.ref (kd 0)) H) (hw : ∀ {H : Heap}, Q H → woK K0 D wd rd g h nb nch ncr H) (hnb : nb ≤ 6) (hch : nch ≤ 4) (hcr : ncr ≤ 6) (hcp : ∀ p, p < 6 → g (82 + p) = -1 ∨ cpG g p) (L : TL) (C : TC) : Kc D l yX1_totalTax cX1_totalTax 4 (some .long) 11 288 kd Q [.ref x] L C (fun r L' C' => r = some (.long (ttT g h nb nch ncr 6))) := by
  refine Kc.of hN hQ (by decide) (Nat.le_of_ble_eq_true rfl) (fun s K hK hR => ?_)
  show K L C 0 [] [(0, .ref x)]
  refine r_lconst 1 0 (hK.pu _ _) dX1_totalTax_0 (by decide) rfl ?_
  refine r_lstore_n 2 [(1, .long 0), (0, .ref x)] (hK.pu _ _) dX1_totalTax_1 rfl (by decide) rfl rfl ?_
  refine r_iconst 3 0 (hK.pu _ _) dX1_totalTax_2 (by decide) rfl ?_
  refine r_istore_n 4 [(3, .int 0), (1, .long 0), (0, .ref x)] (hK.pu _ _) dX1_totalTax_3 rfl (by decide) rfl rfl ?_
  have lp_4 : ∀ (m : Nat) (k : Nat) (L : TL) (C : TC), (k ≤ 6) → (6 - k) < m → K L C 4 [] [(3, .int (nI k)), (1, .long (ttT g h nb nch ncr k)), (0, .ref x)] := by
    intro m
    induction m with
    | zero => intro k L C hk hm; exact absurd hm (Nat.not_lt_zero _)
    | succ m ih =>
      intro k L C hk hm
      refine r_iload_n 5 0 (hK.pu _ _) dX1_totalTax_4 rfl rfl ?_
      refine r_bipush 7 6 (hK.pu _ _) dX1_totalTax_5 (by decide) rfl ?_
      refine r_icmp_geN k 6 10 39 (hK.pu _ _) dX1_totalTax_7 (by omega) (by omega) (by decide) (fun c7 => ?_) rfl (fun c7 => ?_)
      · have hk6 : k = 6 := by omega
        subst hk6
        refine r_lload_n 40 1 (hK.pu _ _) dX1_totalTax_39 rfl rfl ?_
        exact KR.lg hR dX1_totalTax_40 rfl
      · rcases hcp k (by omega) with hs | hcq
        · refine r_lload_n 11 1 (hK.pu _ _) dX1_totalTax_10 rfl rfl ?_
          refine r_aload_n 12 2 (hK.pu _ _) dX1_totalTax_11 rfl rfl ?_
          refine k_getq 15 hK (T := TX1) (C' := RX1) 0 (v := .ref (wd 0)) okX1 (fun _ z => (hx0 z)) rfl (by decide) (Or.inl q550) (Or.inl rfl) dX1_totalTax_12 rfl ?_
          refine r_iload_n 16 0 (hK.pu _ _) dX1_totalTax_15 rfl rfl ?_
          refine k_callp 19 hK (fun _ hh z => cp_X2_isFirst_a D l x wd rd g h nb nch ncr (hx0 z) (hw z) hnb hch hcr k (by omega) hs) lk_X1_306 1 yk_X2_isFirst rfl ⟨by decide, by decide⟩ (fun _ hh z => ((hw z).o.fld 0 rfl)) rfl rfl (Nat.le_of_ble_eq_true rfl) dX1_totalTax_16 rfl ?_
          refine r_if_eq 22 30 (hK.pu _ _) dX1_totalTax_19 (by decide) (fun c => absurd c (by decide)) rfl (fun _ => ?_)
          refine r_aload_n 23 2 (hK.pu _ _) dX1_totalTax_22 rfl rfl ?_
          refine r_iload_n 24 0 (hK.pu _ _) dX1_totalTax_23 rfl rfl ?_
          refine k_call 27 hK (kc_X1_household_a D l kd hN hQ x wd rd g h nb nch ncr hx0 hx3 hw hnb hch hcr k (by omega) hs L C) lk_X1_303 1 yk_X1_household rfl ⟨by decide, by decide⟩ (fun _ hh z => (hx0 z)) rfl rfl (Nat.le_of_ble_eq_true rfl) dX1_totalTax_24 rfl (fun r L1 C1 h1 => ?_)
          subst h1
          refine r_goto 31 (hK.pu _ _) dX1_totalTax_27 (by decide) ?_
          refine r_ladd 32 (hK.pu _ _) dX1_totalTax_31 rfl ?_
          refine r_eql (ttT g h nb nch ncr (k + 1)) (by show _ = ttT g h nb nch ncr k + adT g h nb nch ncr k; unfold adT; first | (rw [if_pos hs] <;> rfl) | (rw [if_neg (by rw [hcq.2.2.2.2.2.1]; exact nI_nm1 hcq.2.1), if_pos (of_decide_eq_true c19)] <;> rfl) | (rw [if_neg (by rw [hcq.2.2.2.2.2.1]; exact nI_nm1 hcq.2.1), if_neg (of_decide_eq_false c19)] <;> rfl)) ?_
          refine r_lstore_n 33 [(1, .long (ttT g h nb nch ncr (k + 1))), (3, .int (nI k)), (0, .ref x)] (hK.pu _ _) dX1_totalTax_32 rfl (by decide) rfl rfl ?_
          refine r_iinc 36 (nI (k + 1)) 1 [(3, .int (nI (k + 1))), (1, .long (ttT g h nb nch ncr (k + 1))), (0, .ref x)] (hK.pu _ _) dX1_totalTax_33 rfl (nI_1 k) (by decide) rfl rfl ?_
          refine r_goto 4 (hK.pu _ _) dX1_totalTax_36 (by decide) ?_
          exact ih (k + 1) L1 C1 (by omega) (by omega)
        · refine r_lload_n 11 1 (hK.pu _ _) dX1_totalTax_10 rfl rfl ?_
          refine r_aload_n 12 2 (hK.pu _ _) dX1_totalTax_11 rfl rfl ?_
          refine k_getq 15 hK (T := TX1) (C' := RX1) 0 (v := .ref (wd 0)) okX1 (fun _ z => (hx0 z)) rfl (by decide) (Or.inl q550) (Or.inl rfl) dX1_totalTax_12 rfl ?_
          refine r_iload_n 16 0 (hK.pu _ _) dX1_totalTax_15 rfl rfl ?_
          refine k_callp 19 hK (fun _ hh z => cp_X2_isFirst_c D l x wd rd g h nb nch ncr (hx0 z) (hw z) hnb hch hcr k (by omega) (qG g k) hcq.2.2.2.2.2.1 hcq.2.1) lk_X1_306 1 yk_X2_isFirst rfl ⟨by decide, by decide⟩ (fun _ hh z => ((hw z).o.fld 0 rfl)) rfl rfl (Nat.le_of_ble_eq_true rfl) dX1_totalTax_16 rfl ?_
          refine r_if_eqZ (decide (k < qG g k)) 22 30 (hK.pu _ _) dX1_totalTax_19 (by decide) (fun c19 => ?_) rfl (fun c19 => ?_)
          · refine r_lconst 31 0 (hK.pu _ _) dX1_totalTax_30 (by decide) rfl ?_
            refine r_ladd 32 (hK.pu _ _) dX1_totalTax_31 rfl ?_
            refine r_eql (ttT g h nb nch ncr (k + 1)) (by show _ = ttT g h nb nch ncr k + adT g h nb nch ncr k; unfold adT; first | (rw [if_pos hs] <;> rfl) | (rw [if_neg (by rw [hcq.2.2.2.2.2.1]; exact nI_nm1 hcq.2.1), if_pos (of_decide_eq_true c19)] <;> rfl) | (rw [if_neg (by rw [hcq.2.2.2.2.2.1]; exact nI_nm1 hcq.2.1), if_neg (of_decide_eq_false c19)] <;> rfl)) ?_
            refine r_lstore_n 33 [(1, .long (ttT g h nb nch ncr (k + 1))), (3, .int (nI k)), (0, .ref x)] (hK.pu _ _) dX1_totalTax_32 rfl (by decide) rfl rfl ?_
            refine r_iinc 36 (nI (k + 1)) 1 [(3, .int (nI (k + 1))), (1, .long (ttT g h nb nch ncr (k + 1))), (0, .ref x)] (hK.pu _ _) dX1_totalTax_33 rfl (nI_1 k) (by decide) rfl rfl ?_
            refine r_goto 4 (hK.pu _ _) dX1_totalTax_36 (by decide) ?_
            exact ih (k + 1) L C (by omega) (by omega)
          · refine r_aload_n 23 2 (hK.pu _ _) dX1_totalTax_22 rfl rfl ?_
            refine r_iload_n 24 0 (hK.pu _ _) dX1_totalTax_23 rfl rfl ?_
            refine k_call 27 hK (kc_X1_household_c D l kd hN hQ x wd rd g h nb nch ncr hx0 hx3 hw hnb hch hcr k _ _ _ _ hcq L C) lk_X1_303 1 yk_X1_household rfl ⟨by decide, by decide⟩ (fun _ hh z => (hx0 z)) rfl rfl (Nat.le_of_ble_eq_true rfl) dX1_totalTax_24 rfl (fun r L2 C2 h2 => ?_)
            subst h2
            refine r_goto 31 (hK.pu _ _) dX1_totalTax_27 (by decide) ?_
            refine r_ladd 32 (hK.pu _ _) dX1_totalTax_31 rfl ?_
            refine r_eql (ttT g h nb nch ncr (k + 1)) (by show _ = ttT g h nb nch ncr k + adT g h nb nch ncr k; unfold adT; first | (rw [if_pos hs] <;> rfl) | (rw [if_neg (by rw [hcq.2.2.2.2.2.1]; exact nI_nm1 hcq.2.1), if_pos (of_decide_eq_true c19)] <;> rfl) | (rw [if_neg (by rw [hcq.2.2.2.2.2.1]; exact nI_nm1 hcq.2.1), if_neg (of_decide_eq_false c19)] <;> rfl)) ?_
            refine r_lstore_n 33 [(1, .long (ttT g h nb nch ncr (k + 1))), (3, .int (nI k)), (0, .ref x)] (hK.pu _ _) dX1_totalTax_32 rfl (by decide) rfl rfl ?_
            refine r_iinc 36 (nI (k + 1)) 1 [(3, .int (nI (k + 1))), (1, .long (ttT g h nb nch ncr (k + 1))), (0, .ref x)] (hK.pu _ _) dX1_totalTax_33 rfl (nI_1 k) (by decide) rfl rfl ?_
            refine r_goto 4 (hK.pu _ _) dX1_totalTax_36 (by decide) ?_
            exact ih (k + 1) L2 C2 (by omega) (by omega)
  exact lp_4 7 0 L C (by omega) (by omega)
