set_option maxHeartbeats 2000000 in
theorem xt_X1_kinkCause_c (D : DD) (l : Launch) (hl : l.stackTraces = false) {H0 : Heap} {K0 : Nat → Prop} (x : Nat) (wd rd : Nat → Nat) (g : Nat → Int32) (h : Nat → Int64) (nb nch ncr : Nat) (hx0 : fld D 1 x 0 (.ref (wd 0)) H0) (hw : woK K0 D wd rd g h nb nch ncr H0) (hnb : nb ≤ 6) (hch : nch ≤ 4) (hcr : ncr ≤ 6) (p : Nat) (hp : p < 6) (q : Int32) (hb : inB q 1 9998 = false) : Xt D l yX1_kinkCause cX1_kinkCause 3 (some .int) 7 1 6 120 [.ref x, .int (nI p), .int q] H0 RJ38 (fun H => fr (fun q => H0.size ≤ q) H0 H) (fun q => H0.size ≤ q) := by
  refine Xt.of hl (by decide) (Nat.le_of_ble_eq_true rfl) (fun q h => h) (fun s J X hT hO => ?_)
  have hJ := hT.j
  show J H0 0 0 0 [] [(0, .ref x), (1, .int (nI p)), (2, .int q)]
  refine r_aload_n 1 0 (hJ.pu _ _ _) dX1_kinkCause_0 rfl rfl ?_
  refine r_iload_n 2 1 (hJ.pu _ _ _) dX1_kinkCause_1 rfl rfl ?_
  refine j_callp 5 hJ (cp_X1_person D l x wd rd g h nb nch ncr hx0 hw hnb hch hcr p (by omega) (per_in (by omega))) lk_X1_211 1 yk_X1_person rfl ⟨by decide, by decide⟩ hx0 rfl rfl (Nat.le_of_ble_eq_true rfl) dX1_kinkCause_2 ⟨Nat.zero_le _, Nat.zero_le _⟩ rfl ?_
  refine r_pop 6 (hJ.pu _ _ _) dX1_kinkCause_5 rfl rfl ?_
  refine r_iload_n 7 2 (hJ.pu _ _ _) dX1_kinkCause_6 rfl rfl ?_
  refine r_iconst 8 1 (hJ.pu _ _ _) dX1_kinkCause_7 (by decide) rfl ?_
  refine r_sipush 11 9998 (hJ.pu _ _ _) dX1_kinkCause_8 (by decide) rfl ?_
  refine cs_row 14 hJ (ts_X1_isBetween D l q 1 9998) lk_X1_70 3 yk_X1_isBetween rfl ⟨by decide, by decide⟩ rfl (Nat.le_of_ble_eq_true rfl) dX1_kinkCause_11 ⟨Nat.zero_le _, Nat.zero_le _⟩ rfl ?_
  refine r_eqi (0) (by simp [zB, hb]) ?_
  refine r_if_eq 17 47 (hJ.pu _ _ _) dX1_kinkCause_14 (by decide) (fun _ => ?_) rfl (fun c => absurd (by decide) c)
  refine r_iconst 48 0 (hJ.pu _ _ _) dX1_kinkCause_47 (by decide) rfl ?_
  exact x_callS hT (xt_X1_requireElement D l hl) (ci := 27) rfl lk_X1_232 1 yk_X1_requireElement rfl ⟨by decide, by decide⟩ rfl (Nat.le_of_ble_eq_true rfl) dX1_kinkCause_48 ⟨by decide, by decide⟩ (fun x hx => Or.inr hx) (fun q H1 h1 h2 h3 => hO _ _ _ _ _ _ (by decide) (by decide) h1 h2)
set_option maxRecDepth 100000 in
theorem at_J55 : ∀ w ∈ vx_at0 RX1 364 RJ55 ["java/lang/RuntimeException", "java/lang/Exception"], w ∈ lw_all ∨ w ∈ nwL ∧ nwOk w = true := at_of (
  show ∀ w ∈ _, vx_no w = true → w ∈ lw_all ∨ w ∈ nwL ∧ nwOk w = true from (fa_c (fun _ => (Or.inl q126)) (fa_c (fun _ => (Or.inl q702)) (fa_c (fun _ => (Or.inl q711)) (fa_c (fun _ => (Or.inl q721)) (fa_c (fun _ => (Or.inl q724)) (fa_c (fun _ => (Or.inl q726)) (fa_c (fun _ => (Or.inl q703)) (fa_c (fun _ => (Or.inl q704)) (fa_c (fun _ => (Or.inl q179)) (fa_c (fun _ => (Or.inl q180)) (fa_c (fun _ => (Or.inl q705)) (fa_c (fun _ => (Or.inl q710)) (fa_c (fun _ => (Or.inl q722)) (fa_c (fun _ => (Or.inl q960)) (fa_c (fun _ => (Or.inl q692)) (fa_c (fun _ => (Or.inl q961)) (fa_c (fun _ => (Or.inl q694)) (fa_c (fun _ => (Or.inl q962)) (fa_c (fun _ => (Or.inl q696)) (fa_c (fun _ => (Or.inl q706)) (fa_c (fun h => absurd h (by decide +kernel)) (fa_c (fun _ => (Or.inl q708)) (fa_c (fun h => absurd h (by decide +kernel)) (fa_c (fun _ => (Or.inl q698)) (fa_c (fun _ => (Or.inl q3463)) (fa_c (fun _ => (Or.inl q3464)) (fa_c (fun _ => (Or.inl q3465)) (fa_c (fun _ => (Or.inl q1513)) (fa_c (fun _ => (Or.inr ⟨nw_q683, rfl⟩)) (fa_c (fun _ => (Or.inl q1513)) (fa_c (fun _ => (Or.inl q1514)) (fa_c (fun _ => (Or.inl q1515)) (fa_c (fun _ => (Or.inl q1516)) (fa_c (fun _ => (Or.inr ⟨nw_q685, rfl⟩)) (fa_c (fun _ => (Or.inl q1516)) (fa_c (fun _ => (Or.inl q1517)) (fa_c (fun _ => (Or.inl q1518)) (fa_c (fun _ => (Or.inl q703)) (fa_c (fun _ => (Or.inr ⟨nw_q687, rfl⟩)) (fa_c (fun _ => (Or.inl q3462)) (fa_c (fun _ => (Or.inl q3444)) (fa_c (fun _ => (Or.inr ⟨nw_q3455, rfl⟩)) (fa_c (fun _ => (Or.inl q3456)) (fa_c (fun _ => (Or.inl q714)) (fa_c (fun _ => (Or.inl q3450)) (fa_c (fun _ => (Or.inl q3451)) (fa_c (fun _ => (Or.inl q3453)) (fa_c (fun _ => (Or.inl q3449)) (fa_c (fun h => absurd h (by decide +kernel)) (fa_c (fun h => absurd h (by decide +kernel)) (fa_c (fun _ => (Or.inl q701)) (fa_c (fun _ => (Or.inl q700)) (fa_c (fun _ => (Or.inl q3448)) fa_n))))))))))))))))))))))))))))))))))))))))))))))))))))))
set_option maxHeartbeats 2000000 in
theorem xt_X1_averageRate_c (D : DD) (l : Launch) (hl : l.stackTraces = false) {H0 : Heap} {K0 : Nat → Prop} (x : Nat) (wd rd : Nat → Nat) (g : Nat → Int32) (h : Nat → Int64) (nb nch ncr : Nat) (hx0 : fld D 1 x 0 (.ref (wd 0)) H0) (hw : woK K0 D wd rd g h nb nch ncr H0) (hnb : nb ≤ 6) (hch : nch ≤ 4) (hcr : ncr ≤ 6) (p : Nat) (hp : p < 6) (hz : g (64 + 3 * p + 0) + g (64 + 3 * p + 1) = 0) : Xt D l yX1_averageRate cX1_averageRate 5 (some .double) 6 1 6 100 [.ref x, .int (nI p)] H0 RJ55 (fun H => fr (fun q => H0.size ≤ q) H0 H) (fun q => H0.size ≤ q) := by
  refine Xt.of hl (by decide) (Nat.le_of_ble_eq_true rfl) (fun q h => h) (fun s J X hT hO => ?_)
  have hJ := hT.j
  show J H0 0 0 0 [] [(0, .ref x), (1, .int (nI p))]
  refine r_aload_n 1 0 (hJ.pu _ _ _) dX1_averageRate_0 rfl rfl ?_
  refine r_iload_n 2 1 (hJ.pu _ _ _) dX1_averageRate_1 rfl rfl ?_
  refine j_callp 5 hJ (cp_X1_person D l x wd rd g h nb nch ncr hx0 hw hnb hch hcr p (by omega) (per_in (by omega))) lk_X1_211 1 yk_X1_person rfl ⟨by decide, by decide⟩ hx0 rfl rfl (Nat.le_of_ble_eq_true rfl) dX1_averageRate_2 ⟨Nat.zero_le _, Nat.zero_le _⟩ rfl ?_
  refine r_astore_n 6 [(2, .ref (wd (10 + p))), (0, .ref x), (1, .int (nI p))] (hJ.pu _ _ _) dX1_averageRate_5 rfl (by decide) rfl rfl ?_
  refine r_aload_n 7 0 (hJ.pu _ _ _) dX1_averageRate_6 rfl rfl ?_
  refine j_getf 10 hJ (T := TX5) (C := RX5) 0 (v := .int (g (64 + 3 * p + 0))) okX5 ((hw.p (p := p) (by omega)).fld 0 rfl) rfl (by decide) (Or.inr ⟨_, nw_q342⟩) (Or.inl rfl) dX1_averageRate_7 rfl ?_
  refine r_aload_n 11 0 (hJ.pu _ _ _) dX1_averageRate_10 rfl rfl ?_
  refine j_getf 14 hJ (T := TX5) (C := RX5) 1 (v := .int (g (64 + 3 * p + 1))) okX5 ((hw.p (p := p) (by omega)).fld 1 rfl) rfl (by decide) (Or.inr ⟨_, nw_q344⟩) (Or.inl rfl) dX1_averageRate_11 rfl ?_
  refine r_iadd 15 (hJ.pu _ _ _) dX1_averageRate_14 rfl ?_
  refine r_i2l 16 (hJ.pu _ _ _) dX1_averageRate_15 rfl ?_
  refine r_lstore_n 17 [(3, .long (Int32.toInt64 ((g (64 + 3 * p + 0)) + (g (64 + 3 * p + 1))))), (2, .ref (wd (10 + p))), (0, .ref x), (1, .int (nI p))] (hJ.pu _ _ _) dX1_averageRate_16 rfl (by decide) rfl rfl ?_
  refine r_lload_n 18 0 (hJ.pu _ _ _) dX1_averageRate_17 rfl rfl ?_
  refine r_lconst 19 0 (hJ.pu _ _ _) dX1_averageRate_18 (by decide) rfl ?_
  refine r_lc_ne 23 31 (hJ.pu _ _ _) dX1_averageRate_19 dX1_averageRate_20 (by decide) (fun c19 => absurd c19 (fun z => z (by rw [hz]; rfl))) rfl (fun c19 => ?_)
  refine x_make0 hT (cls := RJ55) (names := ["java/lang/RuntimeException", "java/lang/Exception"]) (ci := 28) rfl (by decide +kernel) (by decide +kernel) q3461 q172 at_J55 (by decide +kernel) dX1_averageRate_23 dX1_averageRate_26 dX1_averageRate_27 dX1_averageRate_30 ⟨by decide, by decide, by decide, by decide⟩ (Nat.le_of_ble_eq_true rfl) (fun q H1 h1 h2 => ?_)
  exact hO _ _ _ _ _ _ (by decide) (by decide) h1 h2
theorem i2l_ne {x : Int32} (h : ¬ x = 0) : ¬ Int32.toInt64 x = 0 := fun z => h (by have := congrArg Int64.toInt32 z; simpa using this)
set_option maxHeartbeats 4000000 in
theorem kc_X1_averageRate (D : DD) (l : Launch) (kd : Nat → Nat) (hN : kwN kd) {Q : Heap → Prop} (hQ : kQ kd Q) {K0 : Nat → Prop} (x : Nat) (wd rd : Nat → Nat) (g : Nat → Int32) (h : Nat → Int64) (nb nch ncr : Nat) (hx0 : ∀ {H : Heap}, Q H → fld D 1 x 0 (.ref (wd 0)) H) (hx3 : ∀ {H : Heap}, Q H → fld D 1 x 3 (.ref (kd 0)) H) (hw : ∀ {H : Heap}, Q H → woK K0 D wd rd g h nb nch ncr H) (hnb : nb ≤ 6) (hch : nch ≤ 4) (hcr : ncr ≤ 6) (p : Nat) (hp : p < 6) (hz : ¬ g (64 + 3 * p + 0) + g (64 + 3 * p + 1) = 0) (hnan : vf_n64 (FP.ddiv (FP.l2d (owT g h nb nch ncr p)) (FP.l2d (1000000 * (Int32.toInt64 (g (64 + 3 * p + 0) + g (64 + 3 * p + 1))))))) (L : TL) (C : TC) : Kc D l yX1_averageRate cX1_averageRate 5 (some .double) 8 218 kd Q [.ref x, .int (nI p)] L C (fun r L' C' => r = some (.double (FP.ddiv (FP.l2d (owT g h nb nch ncr p)) (FP.l2d (1000000 * (Int32.toInt64 (g (64 + 3 * p + 0) + g (64 + 3 * p + 1)))))))) := by
  refine Kc.of hN hQ (by decide) (Nat.le_of_ble_eq_true rfl) (fun s K hK hR => ?_)
  show K L C 0 [] [(0, .ref x), (1, .int (nI p))]
  refine r_aload_n 1 0 (hK.pu _ _) dX1_averageRate_0 rfl rfl ?_
  refine r_iload_n 2 1 (hK.pu _ _) dX1_averageRate_1 rfl rfl ?_
  refine k_callp 5 hK (fun _ hh z => cp_X1_person D l x wd rd g h nb nch ncr (hx0 z) (hw z) hnb hch hcr p (by omega) (per_in (by omega))) lk_X1_211 1 yk_X1_person rfl ⟨by decide, by decide⟩ (fun _ hh z => (hx0 z)) rfl rfl (Nat.le_of_ble_eq_true rfl) dX1_averageRate_2 rfl ?_
  refine r_astore_n 6 [(2, .ref (wd (10 + p))), (0, .ref x), (1, .int (nI p))] (hK.pu _ _) dX1_averageRate_5 rfl (by decide) rfl rfl ?_
  refine r_aload_n 7 0 (hK.pu _ _) dX1_averageRate_6 rfl rfl ?_
  refine k_getq 10 hK (T := TX5) (C' := RX5) 0 (v := .int (g (64 + 3 * p + 0))) okX5 (fun _ z => (((hw z).p (p := p) (by omega)).fld 0 rfl)) rfl (by decide) (Or.inr ⟨_, nw_q342⟩) (Or.inl rfl) dX1_averageRate_7 rfl ?_
  refine r_aload_n 11 0 (hK.pu _ _) dX1_averageRate_10 rfl rfl ?_
  refine k_getq 14 hK (T := TX5) (C' := RX5) 1 (v := .int (g (64 + 3 * p + 1))) okX5 (fun _ z => (((hw z).p (p := p) (by omega)).fld 1 rfl)) rfl (by decide) (Or.inr ⟨_, nw_q344⟩) (Or.inl rfl) dX1_averageRate_11 rfl ?_
  refine r_iadd 15 (hK.pu _ _) dX1_averageRate_14 rfl ?_
  refine r_i2l 16 (hK.pu _ _) dX1_averageRate_15 rfl ?_
  refine r_lstore_n 17 [(3, .long (Int32.toInt64 ((g (64 + 3 * p + 0)) + (g (64 + 3 * p + 1))))), (2, .ref (wd (10 + p))), (0, .ref x), (1, .int (nI p))] (hK.pu _ _) dX1_averageRate_16 rfl (by decide) rfl rfl ?_
  refine r_lload_n 18 0 (hK.pu _ _) dX1_averageRate_17 rfl rfl ?_
  refine r_lconst 19 0 (hK.pu _ _) dX1_averageRate_18 (by decide) rfl ?_
  refine r_lc_ne 23 31 (hK.pu _ _) dX1_averageRate_19 dX1_averageRate_20 (by decide) (fun c19 => ?_) rfl (fun c19 => absurd c19 (i2l_ne hz))
  refine r_aload_n 32 2 (hK.pu _ _) dX1_averageRate_31 rfl rfl ?_
  refine r_iload_n 33 3 (hK.pu _ _) dX1_averageRate_32 rfl rfl ?_
  refine k_call 36 hK (kc_X1_alone D l kd hN hQ x wd rd g h nb nch ncr hx0 hx3 hw hnb hch hcr p (by omega) L C) lk_X1_264 1 yk_X1_alone rfl ⟨by decide, by decide⟩ (fun _ hh z => (hx0 z)) rfl rfl (Nat.le_of_ble_eq_true rfl) dX1_averageRate_33 rfl (fun r L1 C1 h1 => ?_)
  obtain ⟨rfl, p1⟩ := h1
  refine r_l2d 37 (hK.pu _ _) dX1_averageRate_36 rfl ?_
  refine r_ldc2 40 (hK.pu _ _) dX1_averageRate_37 q3466 rfl ?_
  refine r_lload_n 41 0 (hK.pu _ _) dX1_averageRate_40 rfl rfl ?_
  refine r_lmul 42 (hK.pu _ _) dX1_averageRate_41 rfl ?_
  refine r_l2d 43 (hK.pu _ _) dX1_averageRate_42 rfl ?_
  refine r_ddiv 44 (hK.pu _ _) dX1_averageRate_43 hnan rfl ?_
  exact KR.db hR dX1_averageRate_44 rfl
theorem lk_X1_353 : GoodIn lw_all (wsV RX1 353 yX1_causeOf.cls yX1_causeOf (ws_ yX1_causeOf cX1_causeOf 5 (some .int))) := lw_V q3427 q3429 qs61 q102 q3430
theorem yk_X1_causeOf : yOk yX1_causeOf 2 := by decide +kernel
set_option maxHeartbeats 4000000 in
theorem kc_X1_kinkCause (D : DD) (l : Launch) (kd : Nat → Nat) (hN : kwN kd) {Q : Heap → Prop} (hQ : kQ kd Q) {K0 : Nat → Prop} (x : Nat) (wd rd : Nat → Nat) (g : Nat → Int32) (h : Nat → Int64) (nb nch ncr : Nat) (hx0 : ∀ {H : Heap}, Q H → fld D 1 x 0 (.ref (wd 0)) H) (hx3 : ∀ {H : Heap}, Q H → fld D 1 x 3 (.ref (kd 0)) H) (hw : ∀ {H : Heap}, Q H → woK K0 D wd rd g h nb nch ncr H) (hnb : nb ≤ 6) (hch : nch ≤ 4) (hcr : ncr ≤ 6) (p : Nat) (hp : p < 6) (e : Int32) (he : inB e 1 9998 = true) (hk : ¬ beD g h nb nch ncr p e (3 + ncr) = 0) (L : TL) (C : TC) : Kc D l yX1_kinkCause cX1_kinkCause 3 (some .int) 10 268 kd Q [.ref x, .int (nI p), .int e] L C (fun r L' C' => ∃ k, r = some (.int (nI k)) ∧ ((k < 4 + ncr ∧ ¬ beD g h nb nch ncr p e k = 0 ∧ ∀ j, j < k → beD g h nb nch ncr p e j = 0) ∨ (k = 4 + ncr - 1 ∧ ∀ j, j < 4 + ncr → beD g h nb nch ncr p e j = 0))) := by
  refine Kc.of hN hQ (by decide) (Nat.le_of_ble_eq_true rfl) (fun s K hK hR => ?_)
  show K L C 0 [] [(0, .ref x), (1, .int (nI p)), (2, .int e)]
  refine r_aload_n 1 0 (hK.pu _ _) dX1_kinkCause_0 rfl rfl ?_
  refine r_iload_n 2 1 (hK.pu _ _) dX1_kinkCause_1 rfl rfl ?_
  refine k_callp 5 hK (fun _ hh z => cp_X1_person D l x wd rd g h nb nch ncr (hx0 z) (hw z) hnb hch hcr p (by omega) (per_in (by omega))) lk_X1_211 1 yk_X1_person rfl ⟨by decide, by decide⟩ (fun _ hh z => (hx0 z)) rfl rfl (Nat.le_of_ble_eq_true rfl) dX1_kinkCause_2 rfl ?_
  refine r_pop 6 (hK.pu _ _) dX1_kinkCause_5 rfl rfl ?_
  refine r_iload_n 7 2 (hK.pu _ _) dX1_kinkCause_6 rfl rfl ?_
  refine r_iconst 8 1 (hK.pu _ _) dX1_kinkCause_7 (by decide) rfl ?_
  refine r_sipush 11 9998 (hK.pu _ _) dX1_kinkCause_8 (by decide) rfl ?_
  refine k_callS 14 hK (ts_X1_isBetween D l e 1 9998) lk_X1_70 3 yk_X1_isBetween rfl ⟨by decide, by decide⟩ rfl (Nat.le_of_ble_eq_true rfl) dX1_kinkCause_11 rfl ?_
  refine r_eqi (1) (by simp [zB, he]) ?_
  refine r_if_eq 17 47 (hK.pu _ _) dX1_kinkCause_14 (by decide) (fun c => absurd c (by decide)) rfl (fun _ => ?_)
  refine r_aload_n 18 0 (hK.pu _ _) dX1_kinkCause_17 rfl rfl ?_
  refine r_iload_n 19 1 (hK.pu _ _) dX1_kinkCause_18 rfl rfl ?_
  refine r_iload_n 20 2 (hK.pu _ _) dX1_kinkCause_19 rfl rfl ?_
  refine r_iconst 21 3 (hK.pu _ _) dX1_kinkCause_20 (by decide) rfl ?_
  refine r_aload_n 22 0 (hK.pu _ _) dX1_kinkCause_21 rfl rfl ?_
  refine k_getq 25 hK (T := TX1) (C' := RX1) 0 (v := .ref (wd 0)) okX1 (fun _ z => (hx0 z)) rfl (by decide) (Or.inl q550) (Or.inl rfl) dX1_kinkCause_22 rfl ?_
  refine k_getq 28 hK (T := TX2) (C' := RX2) 0 (v := .ref (rd 0)) okX2 (fun _ z => ((hw z).o.fld 0 rfl)) rfl (by decide) (Or.inr ⟨_, nw_q448⟩) (Or.inl rfl) dX1_kinkCause_25 rfl ?_
  refine k_getq 31 hK (T := TX3) (C' := RX3) 4 (v := .ref (rd 6)) okX3 (fun _ z => ((hw z).ru.o.fld 4 rfl)) rfl (by decide) (Or.inr ⟨_, nw_q320⟩) (Or.inl rfl) dX1_kinkCause_28 rfl ?_
  refine k_callp 34 hK (fun _ hh z => cp_J10_size D l (rd 6) ncr (fun k => rd (400 + k)) (fun k => rd (300 + k)) (hw z).ru.rl) lk_X1_124 0 yk_J10_size rfl ⟨by decide, by decide⟩ (fun _ hh z => (hw z).ru.rl.sz) rfl rfl (Nat.le_of_ble_eq_true rfl) dX1_kinkCause_31 rfl ?_
  refine r_iaddN 3 ncr (3 + ncr) 35 (hK.pu _ _) dX1_kinkCause_34 rfl rfl ?_
  refine k_call 38 hK (kc_X1_bend D l kd hN hQ x wd rd g h nb nch ncr hx0 hx3 hw hnb hch hcr p (by omega) e (3 + ncr) (by omega) L C) lk_X1_350 3 yk_X1_bend rfl ⟨by decide, by decide⟩ (fun _ hh z => (hx0 z)) rfl rfl (Nat.le_of_ble_eq_true rfl) dX1_kinkCause_35 rfl (fun r L1 C1 h1 => ?_)
  subst h1
  refine r_lconst 39 0 (hK.pu _ _) dX1_kinkCause_38 (by decide) rfl ?_
  refine r_lc_eq 43 47 (hK.pu _ _) dX1_kinkCause_39 dX1_kinkCause_40 (by decide) (fun c39 => absurd c39 (hk)) rfl (fun c39 => ?_)
  refine r_iconst 44 1 (hK.pu _ _) dX1_kinkCause_43 (by decide) rfl ?_
  refine r_goto 48 (hK.pu _ _) dX1_kinkCause_44 (by decide) ?_
  refine k_callps 51 hK (fun _ _ _ => cp_X1_requireElement_k D l) lk_X1_232 1 yk_X1_requireElement rfl ⟨by decide, by decide⟩ rfl (Nat.le_of_ble_eq_true rfl) dX1_kinkCause_48 rfl ?_
  refine r_aload_n 52 0 (hK.pu _ _) dX1_kinkCause_51 rfl rfl ?_
  refine r_iload_n 53 1 (hK.pu _ _) dX1_kinkCause_52 rfl rfl ?_
  refine r_iload_n 54 2 (hK.pu _ _) dX1_kinkCause_53 rfl rfl ?_
  refine k_call 57 hK (kc_X1_causeOf D l kd hN hQ x wd rd g h nb nch ncr hx0 hx3 hw hnb hch hcr p (by omega) e L1 C1) lk_X1_353 2 yk_X1_causeOf rfl ⟨by decide, by decide⟩ (fun _ hh z => (hx0 z)) rfl rfl (Nat.le_of_ble_eq_true rfl) dX1_kinkCause_54 rfl (fun r L2 C2 h2 => ?_)
  obtain ⟨k, rfl, hq9⟩ := h2
  exact KR.i hR rfl dX1_kinkCause_57 ⟨_, rfl, hq9⟩
