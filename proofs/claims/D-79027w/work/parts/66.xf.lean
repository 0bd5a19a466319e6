set_option maxHeartbeats 2000000 in
theorem xt_X1_setPerson_c (D : DD) (l : Launch) (hl : l.stackTraces = false) {H0 : Heap} {K0 : Nat → Prop} (x : Nat) (wd rd : Nat → Nat) (g : Nat → Int32) (h : Nat → Int64) (nb nch ncr : Nat) (hx0 : fld D 1 x 0 (.ref (wd 0)) H0) (hw : woK K0 D wd rd g h nb nch ncr H0) (hnb : nb ≤ 6) (hch : nch ≤ 4) (hcr : ncr ≤ 6) (p : Nat) (hp : p < 6) (e o d : Int32) (he : inB e 0 9999 = false) : Xt D l yX1_setPerson cX1_setPerson 5 none 7 1 6 120 [.ref x, .int (nI p), .int e, .int o, .int d] H0 RJ18 (fun H => fr (fun q => H0.size ≤ q) H0 H) (fun q => H0.size ≤ q) := by
  refine Xt.of hl (by decide) (Nat.le_of_ble_eq_true rfl) (fun q h => h) (fun s J X hT hO => ?_)
  have hJ := hT.j
  show J H0 0 0 0 [] [(0, .ref x), (1, .int (nI p)), (2, .int e), (3, .int o), (4, .int d)]
  refine r_aload_n 1 0 (hJ.pu _ _ _) dX1_setPerson_0 rfl rfl ?_
  refine r_iload_n 2 1 (hJ.pu _ _ _) dX1_setPerson_1 rfl rfl ?_
  refine j_callp 5 hJ (cp_X1_person D l x wd rd g h nb nch ncr hx0 hw hnb hch hcr p (by omega) (per_in (by omega))) lk_X1_211 1 yk_X1_person rfl ⟨by decide, by decide⟩ hx0 rfl rfl (Nat.le_of_ble_eq_true rfl) dX1_setPerson_2 ⟨Nat.zero_le _, Nat.zero_le _⟩ rfl ?_
  refine r_pop 6 (hJ.pu _ _ _) dX1_setPerson_5 rfl rfl ?_
  refine r_iload_n 7 2 (hJ.pu _ _ _) dX1_setPerson_6 rfl rfl ?_
  refine r_iconst 8 0 (hJ.pu _ _ _) dX1_setPerson_7 (by decide) rfl ?_
  refine r_sipush 11 9999 (hJ.pu _ _ _) dX1_setPerson_8 (by decide) rfl ?_
  refine cs_row 14 hJ (ts_X1_isBetween D l e 0 9999) lk_X1_70 3 yk_X1_isBetween rfl ⟨by decide, by decide⟩ rfl (Nat.le_of_ble_eq_true rfl) dX1_setPerson_11 ⟨Nat.zero_le _, Nat.zero_le _⟩ rfl ?_
  refine r_if_eqZ (inB e 0 9999) 17 43 (hJ.pu _ _ _) dX1_setPerson_14 (by decide) (fun c14 => ?_) rfl (fun c14 => absurd c14 (by simp [*]))
  refine r_iconst 44 0 (hJ.pu _ _ _) dX1_setPerson_43 (by decide) rfl ?_
  exact x_callS hT (xt_X1_requireArgument D l hl) (ci := 24) rfl lk_X1_74 1 yk_X1_requireArgument rfl ⟨by decide, by decide⟩ rfl (Nat.le_of_ble_eq_true rfl) dX1_setPerson_44 ⟨by decide, by decide⟩ (fun x hx => Or.inr hx) (fun q H1 h1 h2 h3 => hO _ _ _ _ _ _ (by decide) (by decide) h1 h2)
set_option maxHeartbeats 2000000 in
theorem xt_X1_setPerson_d (D : DD) (l : Launch) (hl : l.stackTraces = false) {H0 : Heap} {K0 : Nat → Prop} (x : Nat) (wd rd : Nat → Nat) (g : Nat → Int32) (h : Nat → Int64) (nb nch ncr : Nat) (hx0 : fld D 1 x 0 (.ref (wd 0)) H0) (hw : woK K0 D wd rd g h nb nch ncr H0) (hnb : nb ≤ 6) (hch : nch ≤ 4) (hcr : ncr ≤ 6) (p : Nat) (hp : p < 6) (e o d : Int32) (he : inB e 0 9999 = true) (ho : inB o 0 9999 = false) : Xt D l yX1_setPerson cX1_setPerson 5 none 7 1 6 120 [.ref x, .int (nI p), .int e, .int o, .int d] H0 RJ18 (fun H => fr (fun q => H0.size ≤ q) H0 H) (fun q => H0.size ≤ q) := by
  refine Xt.of hl (by decide) (Nat.le_of_ble_eq_true rfl) (fun q h => h) (fun s J X hT hO => ?_)
  have hJ := hT.j
  show J H0 0 0 0 [] [(0, .ref x), (1, .int (nI p)), (2, .int e), (3, .int o), (4, .int d)]
  refine r_aload_n 1 0 (hJ.pu _ _ _) dX1_setPerson_0 rfl rfl ?_
  refine r_iload_n 2 1 (hJ.pu _ _ _) dX1_setPerson_1 rfl rfl ?_
  refine j_callp 5 hJ (cp_X1_person D l x wd rd g h nb nch ncr hx0 hw hnb hch hcr p (by omega) (per_in (by omega))) lk_X1_211 1 yk_X1_person rfl ⟨by decide, by decide⟩ hx0 rfl rfl (Nat.le_of_ble_eq_true rfl) dX1_setPerson_2 ⟨Nat.zero_le _, Nat.zero_le _⟩ rfl ?_
  refine r_pop 6 (hJ.pu _ _ _) dX1_setPerson_5 rfl rfl ?_
  refine r_iload_n 7 2 (hJ.pu _ _ _) dX1_setPerson_6 rfl rfl ?_
  refine r_iconst 8 0 (hJ.pu _ _ _) dX1_setPerson_7 (by decide) rfl ?_
  refine r_sipush 11 9999 (hJ.pu _ _ _) dX1_setPerson_8 (by decide) rfl ?_
  refine cs_row 14 hJ (ts_X1_isBetween D l e 0 9999) lk_X1_70 3 yk_X1_isBetween rfl ⟨by decide, by decide⟩ rfl (Nat.le_of_ble_eq_true rfl) dX1_setPerson_11 ⟨Nat.zero_le _, Nat.zero_le _⟩ rfl ?_
  refine r_if_eqZ (inB e 0 9999) 17 43 (hJ.pu _ _ _) dX1_setPerson_14 (by decide) (fun c14 => absurd c14 (by simp [*])) rfl (fun c14 => ?_)
  refine r_iload_n 18 3 (hJ.pu _ _ _) dX1_setPerson_17 rfl rfl ?_
  refine r_iconst 19 0 (hJ.pu _ _ _) dX1_setPerson_18 (by decide) rfl ?_
  refine r_sipush 22 9999 (hJ.pu _ _ _) dX1_setPerson_19 (by decide) rfl ?_
  refine cs_row 25 hJ (ts_X1_isBetween D l o 0 9999) lk_X1_70 3 yk_X1_isBetween rfl ⟨by decide, by decide⟩ rfl (Nat.le_of_ble_eq_true rfl) dX1_setPerson_22 ⟨Nat.zero_le _, Nat.zero_le _⟩ rfl ?_
  refine r_if_eqZ (inB o 0 9999) 28 43 (hJ.pu _ _ _) dX1_setPerson_25 (by decide) (fun c25 => ?_) rfl (fun c25 => absurd c25 (by simp [*]))
  refine r_iconst 44 0 (hJ.pu _ _ _) dX1_setPerson_43 (by decide) rfl ?_
  exact x_callS hT (xt_X1_requireArgument D l hl) (ci := 24) rfl lk_X1_74 1 yk_X1_requireArgument rfl ⟨by decide, by decide⟩ rfl (Nat.le_of_ble_eq_true rfl) dX1_setPerson_44 ⟨by decide, by decide⟩ (fun x hx => Or.inr hx) (fun q H1 h1 h2 h3 => hO _ _ _ _ _ _ (by decide) (by decide) h1 h2)
set_option maxHeartbeats 2000000 in
theorem xt_X1_setPerson_e (D : DD) (l : Launch) (hl : l.stackTraces = false) {H0 : Heap} {K0 : Nat → Prop} (x : Nat) (wd rd : Nat → Nat) (g : Nat → Int32) (h : Nat → Int64) (nb nch ncr : Nat) (hx0 : fld D 1 x 0 (.ref (wd 0)) H0) (hw : woK K0 D wd rd g h nb nch ncr H0) (hnb : nb ≤ 6) (hch : nch ≤ 4) (hcr : ncr ≤ 6) (p : Nat) (hp : p < 6) (e o d : Int32) (he : inB e 0 9999 = true) (ho : inB o 0 9999 = true) (hd : inB d 0 9 = false) : Xt D l yX1_setPerson cX1_setPerson 5 none 7 1 6 120 [.ref x, .int (nI p), .int e, .int o, .int d] H0 RJ18 (fun H => fr (fun q => H0.size ≤ q) H0 H) (fun q => H0.size ≤ q) := by
  refine Xt.of hl (by decide) (Nat.le_of_ble_eq_true rfl) (fun q h => h) (fun s J X hT hO => ?_)
  have hJ := hT.j
  show J H0 0 0 0 [] [(0, .ref x), (1, .int (nI p)), (2, .int e), (3, .int o), (4, .int d)]
  refine r_aload_n 1 0 (hJ.pu _ _ _) dX1_setPerson_0 rfl rfl ?_
  refine r_iload_n 2 1 (hJ.pu _ _ _) dX1_setPerson_1 rfl rfl ?_
  refine j_callp 5 hJ (cp_X1_person D l x wd rd g h nb nch ncr hx0 hw hnb hch hcr p (by omega) (per_in (by omega))) lk_X1_211 1 yk_X1_person rfl ⟨by decide, by decide⟩ hx0 rfl rfl (Nat.le_of_ble_eq_true rfl) dX1_setPerson_2 ⟨Nat.zero_le _, Nat.zero_le _⟩ rfl ?_
  refine r_pop 6 (hJ.pu _ _ _) dX1_setPerson_5 rfl rfl ?_
  refine r_iload_n 7 2 (hJ.pu _ _ _) dX1_setPerson_6 rfl rfl ?_
  refine r_iconst 8 0 (hJ.pu _ _ _) dX1_setPerson_7 (by decide) rfl ?_
  refine r_sipush 11 9999 (hJ.pu _ _ _) dX1_setPerson_8 (by decide) rfl ?_
  refine cs_row 14 hJ (ts_X1_isBetween D l e 0 9999) lk_X1_70 3 yk_X1_isBetween rfl ⟨by decide, by decide⟩ rfl (Nat.le_of_ble_eq_true rfl) dX1_setPerson_11 ⟨Nat.zero_le _, Nat.zero_le _⟩ rfl ?_
  refine r_if_eqZ (inB e 0 9999) 17 43 (hJ.pu _ _ _) dX1_setPerson_14 (by decide) (fun c14 => absurd c14 (by simp [*])) rfl (fun c14 => ?_)
  refine r_iload_n 18 3 (hJ.pu _ _ _) dX1_setPerson_17 rfl rfl ?_
  refine r_iconst 19 0 (hJ.pu _ _ _) dX1_setPerson_18 (by decide) rfl ?_
  refine r_sipush 22 9999 (hJ.pu _ _ _) dX1_setPerson_19 (by decide) rfl ?_
  refine cs_row 25 hJ (ts_X1_isBetween D l o 0 9999) lk_X1_70 3 yk_X1_isBetween rfl ⟨by decide, by decide⟩ rfl (Nat.le_of_ble_eq_true rfl) dX1_setPerson_22 ⟨Nat.zero_le _, Nat.zero_le _⟩ rfl ?_
  refine r_if_eqZ (inB o 0 9999) 28 43 (hJ.pu _ _ _) dX1_setPerson_25 (by decide) (fun c25 => absurd c25 (by simp [*])) rfl (fun c25 => ?_)
  refine r_iload 30 4 (hJ.pu _ _ _) dX1_setPerson_28 rfl rfl ?_
  refine r_iconst 31 0 (hJ.pu _ _ _) dX1_setPerson_30 (by decide) rfl ?_
  refine r_bipush 33 9 (hJ.pu _ _ _) dX1_setPerson_31 (by decide) rfl ?_
  refine cs_row 36 hJ (ts_X1_isBetween D l d 0 9) lk_X1_70 3 yk_X1_isBetween rfl ⟨by decide, by decide⟩ rfl (Nat.le_of_ble_eq_true rfl) dX1_setPerson_33 ⟨Nat.zero_le _, Nat.zero_le _⟩ rfl ?_
  refine r_if_eqZ (inB d 0 9) 39 43 (hJ.pu _ _ _) dX1_setPerson_36 (by decide) (fun c36 => ?_) rfl (fun c36 => absurd c36 (by simp [*]))
  refine r_iconst 44 0 (hJ.pu _ _ _) dX1_setPerson_43 (by decide) rfl ?_
  exact x_callS hT (xt_X1_requireArgument D l hl) (ci := 24) rfl lk_X1_74 1 yk_X1_requireArgument rfl ⟨by decide, by decide⟩ rfl (Nat.le_of_ble_eq_true rfl) dX1_setPerson_44 ⟨by decide, by decide⟩ (fun x hx => Or.inr hx) (fun q H1 h1 h2 h3 => hO _ _ _ _ _ _ (by decide) (by decide) h1 h2)
set_option maxHeartbeats 2000000 in
theorem xt_X1_marry_b (D : DD) (l : Launch) (hl : l.stackTraces = false) {H0 : Heap} {K0 : Nat → Prop} (x : Nat) (wd rd : Nat → Nat) (g : Nat → Int32) (h : Nat → Int64) (nb nch ncr : Nat) (hx0 : fld D 1 x 0 (.ref (wd 0)) H0) (hw : woK K0 D wd rd g h nb nch ncr H0) (hnb : nb ≤ 6) (hch : nch ≤ 4) (hcr : ncr ≤ 6) (p : Int32) (hb : inB p 0 5 = false) (q : Int32) : Xt D l yX1_marry cX1_marry 4 none 8 1 6 141 [.ref x, .int p, .int q] H0 RJ20 (fun H => fr (fun q => H0.size ≤ q) H0 H) (fun q => H0.size ≤ q) := by
  refine Xt.of hl (by decide) (Nat.le_of_ble_eq_true rfl) (fun q h => h) (fun s J X hT hO => ?_)
  have hJ := hT.j
  show J H0 0 0 0 [] [(0, .ref x), (1, .int p), (2, .int q)]
  refine r_aload_n 1 0 (hJ.pu _ _ _) dX1_marry_0 rfl rfl ?_
  refine r_iload_n 2 1 (hJ.pu _ _ _) dX1_marry_1 rfl rfl ?_
  exact x_callV hT (xt_X1_person_b D l hl x wd rd g h nb nch ncr hx0 hw hnb hch hcr p hb) (ci := 26) rfl lk_X1_211 1 yk_X1_person rfl ⟨by decide, by decide⟩ hx0 rfl rfl (Nat.le_of_ble_eq_true rfl) dX1_marry_2 ⟨by decide, by decide⟩ (fun x hx => Or.inr hx) (fun q H1 h1 h2 h3 => hO _ _ _ _ _ _ (by decide) (by decide) h1 h2)
set_option maxHeartbeats 2000000 in
theorem xt_X1_marry_c (D : DD) (l : Launch) (hl : l.stackTraces = false) {H0 : Heap} {K0 : Nat → Prop} (x : Nat) (wd rd : Nat → Nat) (g : Nat → Int32) (h : Nat → Int64) (nb nch ncr : Nat) (hx0 : fld D 1 x 0 (.ref (wd 0)) H0) (hw : woK K0 D wd rd g h nb nch ncr H0) (hnb : nb ≤ 6) (hch : nch ≤ 4) (hcr : ncr ≤ 6) (p : Nat) (hp : p < 6) (q : Int32) (hb : inB q 0 5 = false) : Xt D l yX1_marry cX1_marry 4 none 8 1 6 141 [.ref x, .int (nI p), .int q] H0 RJ20 (fun H => fr (fun q => H0.size ≤ q) H0 H) (fun q => H0.size ≤ q) := by
  refine Xt.of hl (by decide) (Nat.le_of_ble_eq_true rfl) (fun q h => h) (fun s J X hT hO => ?_)
  have hJ := hT.j
  show J H0 0 0 0 [] [(0, .ref x), (1, .int (nI p)), (2, .int q)]
  refine r_aload_n 1 0 (hJ.pu _ _ _) dX1_marry_0 rfl rfl ?_
  refine r_iload_n 2 1 (hJ.pu _ _ _) dX1_marry_1 rfl rfl ?_
  refine j_callp 5 hJ (cp_X1_person D l x wd rd g h nb nch ncr hx0 hw hnb hch hcr p (by omega) (per_in (by omega))) lk_X1_211 1 yk_X1_person rfl ⟨by decide, by decide⟩ hx0 rfl rfl (Nat.le_of_ble_eq_true rfl) dX1_marry_2 ⟨Nat.zero_le _, Nat.zero_le _⟩ rfl ?_
  refine r_pop 6 (hJ.pu _ _ _) dX1_marry_5 rfl rfl ?_
  refine r_aload_n 7 0 (hJ.pu _ _ _) dX1_marry_6 rfl rfl ?_
  refine r_iload_n 8 2 (hJ.pu _ _ _) dX1_marry_7 rfl rfl ?_
  exact x_callV hT (xt_X1_person_b D l hl x wd rd g h nb nch ncr hx0 hw hnb hch hcr q hb) (ci := 26) rfl lk_X1_211 1 yk_X1_person rfl ⟨by decide, by decide⟩ hx0 rfl rfl (Nat.le_of_ble_eq_true rfl) dX1_marry_8 ⟨by decide, by decide⟩ (fun x hx => Or.inr hx) (fun q H1 h1 h2 h3 => hO _ _ _ _ _ _ (by decide) (by decide) h1 h2)
set_option maxHeartbeats 2000000 in
theorem xt_X1_marry_d (D : DD) (l : Launch) (hl : l.stackTraces = false) {H0 : Heap} {K0 : Nat → Prop} (x : Nat) (wd rd : Nat → Nat) (g : Nat → Int32) (h : Nat → Int64) (nb nch ncr : Nat) (hx0 : fld D 1 x 0 (.ref (wd 0)) H0) (hw : woK K0 D wd rd g h nb nch ncr H0) (hnb : nb ≤ 6) (hch : nch ≤ 4) (hcr : ncr ≤ 6) (p : Nat) (hp : p < 6) : Xt D l yX1_marry cX1_marry 4 none 7 1 6 120 [.ref x, .int (nI p), .int (nI p)] H0 RJ18 (fun H => fr (fun q => H0.size ≤ q) H0 H) (fun q => H0.size ≤ q) := by
  refine Xt.of hl (by decide) (Nat.le_of_ble_eq_true rfl) (fun q h => h) (fun s J X hT hO => ?_)
  have hJ := hT.j
  show J H0 0 0 0 [] [(0, .ref x), (1, .int (nI p)), (2, .int (nI p))]
  refine r_aload_n 1 0 (hJ.pu _ _ _) dX1_marry_0 rfl rfl ?_
  refine r_iload_n 2 1 (hJ.pu _ _ _) dX1_marry_1 rfl rfl ?_
  refine j_callp 5 hJ (cp_X1_person D l x wd rd g h nb nch ncr hx0 hw hnb hch hcr p (by omega) (per_in (by omega))) lk_X1_211 1 yk_X1_person rfl ⟨by decide, by decide⟩ hx0 rfl rfl (Nat.le_of_ble_eq_true rfl) dX1_marry_2 ⟨Nat.zero_le _, Nat.zero_le _⟩ rfl ?_
  refine r_pop 6 (hJ.pu _ _ _) dX1_marry_5 rfl rfl ?_
  refine r_aload_n 7 0 (hJ.pu _ _ _) dX1_marry_6 rfl rfl ?_
  refine r_iload_n 8 2 (hJ.pu _ _ _) dX1_marry_7 rfl rfl ?_
  refine j_callp 11 hJ (cp_X1_person D l x wd rd g h nb nch ncr hx0 hw hnb hch hcr p (by omega) (per_in (by omega))) lk_X1_211 1 yk_X1_person rfl ⟨by decide, by decide⟩ hx0 rfl rfl (Nat.le_of_ble_eq_true rfl) dX1_marry_8 ⟨Nat.zero_le _, Nat.zero_le _⟩ rfl ?_
  refine r_pop 12 (hJ.pu _ _ _) dX1_marry_11 rfl rfl ?_
  refine r_iload_n 13 1 (hJ.pu _ _ _) dX1_marry_12 rfl rfl ?_
  refine r_iload_n 14 2 (hJ.pu _ _ _) dX1_marry_13 rfl rfl ?_
  refine r_icmp_eqN p p 17 21 (hJ.pu _ _ _) dX1_marry_14 (by omega) (by omega) (by decide) (fun c14 => ?_) rfl (fun c14 => absurd c14 (fun z => z rfl))
  refine r_iconst 22 0 (hJ.pu _ _ _) dX1_marry_21 (by decide) rfl ?_
  exact x_callS hT (xt_X1_requireArgument D l hl) (ci := 24) rfl lk_X1_74 1 yk_X1_requireArgument rfl ⟨by decide, by decide⟩ rfl (Nat.le_of_ble_eq_true rfl) dX1_marry_22 ⟨by decide, by decide⟩ (fun x hx => Or.inr hx) (fun q H1 h1 h2 h3 => hO _ _ _ _ _ _ (by decide) (by decide) h1 h2)
set_option maxHeartbeats 2000000 in
theorem xt_X1_marry_e (D : DD) (l : Launch) (hl : l.stackTraces = false) {H0 : Heap} {K0 : Nat → Prop} (x : Nat) (wd rd : Nat → Nat) (g : Nat → Int32) (h : Nat → Int64) (nb nch ncr : Nat) (hx0 : fld D 1 x 0 (.ref (wd 0)) H0) (hw : woK K0 D wd rd g h nb nch ncr H0) (hnb : nb ≤ 6) (hch : nch ≤ 4) (hcr : ncr ≤ 6) (p : Nat) (hp : p < 6) (q : Nat) (hq : q < 6) (hne : ¬ p = q) (hno : ¬ g (82 + p) = -1) : Xt D l yX1_marry cX1_marry 4 none 7 1 6 120 [.ref x, .int (nI p), .int (nI q)] H0 RJ19 (fun H => fr (fun q => H0.size ≤ q) H0 H) (fun q => H0.size ≤ q) := by
  refine Xt.of hl (by decide) (Nat.le_of_ble_eq_true rfl) (fun q h => h) (fun s J X hT hO => ?_)
  have hJ := hT.j
  show J H0 0 0 0 [] [(0, .ref x), (1, .int (nI p)), (2, .int (nI q))]
  refine r_aload_n 1 0 (hJ.pu _ _ _) dX1_marry_0 rfl rfl ?_
  refine r_iload_n 2 1 (hJ.pu _ _ _) dX1_marry_1 rfl rfl ?_
  refine j_callp 5 hJ (cp_X1_person D l x wd rd g h nb nch ncr hx0 hw hnb hch hcr p (by omega) (per_in (by omega))) lk_X1_211 1 yk_X1_person rfl ⟨by decide, by decide⟩ hx0 rfl rfl (Nat.le_of_ble_eq_true rfl) dX1_marry_2 ⟨Nat.zero_le _, Nat.zero_le _⟩ rfl ?_
  refine r_pop 6 (hJ.pu _ _ _) dX1_marry_5 rfl rfl ?_
  refine r_aload_n 7 0 (hJ.pu _ _ _) dX1_marry_6 rfl rfl ?_
  refine r_iload_n 8 2 (hJ.pu _ _ _) dX1_marry_7 rfl rfl ?_
  refine j_callp 11 hJ (cp_X1_person D l x wd rd g h nb nch ncr hx0 hw hnb hch hcr q (by omega) (per_in (by omega))) lk_X1_211 1 yk_X1_person rfl ⟨by decide, by decide⟩ hx0 rfl rfl (Nat.le_of_ble_eq_true rfl) dX1_marry_8 ⟨Nat.zero_le _, Nat.zero_le _⟩ rfl ?_
  refine r_pop 12 (hJ.pu _ _ _) dX1_marry_11 rfl rfl ?_
  refine r_iload_n 13 1 (hJ.pu _ _ _) dX1_marry_12 rfl rfl ?_
  refine r_iload_n 14 2 (hJ.pu _ _ _) dX1_marry_13 rfl rfl ?_
  refine r_icmp_eqN p q 17 21 (hJ.pu _ _ _) dX1_marry_14 (by omega) (by omega) (by decide) (fun c14 => absurd c14 (hne)) rfl (fun c14 => ?_)
  refine r_iconst 18 1 (hJ.pu _ _ _) dX1_marry_17 (by decide) rfl ?_
  refine r_goto 22 (hJ.pu _ _ _) dX1_marry_18 (by decide) ?_
  refine j_callps 25 hJ (cp_X1_requireArgument_k D l) lk_X1_74 1 yk_X1_requireArgument rfl ⟨by decide, by decide⟩ rfl (Nat.le_of_ble_eq_true rfl) dX1_marry_22 ⟨Nat.zero_le _, Nat.zero_le _⟩ rfl ?_
  refine r_aload_n 26 0 (hJ.pu _ _ _) dX1_marry_25 rfl rfl ?_
  refine j_getf 29 hJ (T := TX1) (C := RX1) 0 (v := .ref (wd 0)) okX1 hx0 rfl (by decide) (Or.inl q550) (Or.inl rfl) dX1_marry_26 rfl ?_
  refine j_getf 32 hJ (T := TX2) (C := RX2) 2 (v := .ref (wd 2)) okX2 (hw.o.fld 2 rfl) rfl (by decide) (Or.inr ⟨_, nw_q452⟩) (Or.inl rfl) dX1_marry_29 rfl ?_
  refine r_iload_n 33 1 (hJ.pu _ _ _) dX1_marry_32 rfl rfl ?_
  refine j_ialde 34 hJ p (hw.pa.el (j := p) (by omega)) rfl (by omega) (by omega) dX1_marry_33 rfl ?_
  refine r_iconst 35 (-1) (hJ.pu _ _ _) dX1_marry_34 (by decide) rfl ?_
  refine r_icmp_ne 38 55 (hJ.pu _ _ _) dX1_marry_35 (by decide) (fun c35 => ?_) rfl (fun c35 => absurd c35 (hno))
  refine r_iconst 56 0 (hJ.pu _ _ _) dX1_marry_55 (by decide) rfl ?_
  exact x_callS hT (xt_X1_requireState D l hl) (ci := 25) rfl lk_X1_81 1 yk_X1_requireState rfl ⟨by decide, by decide⟩ rfl (Nat.le_of_ble_eq_true rfl) dX1_marry_56 ⟨by decide, by decide⟩ (fun x hx => Or.inr hx) (fun q H1 h1 h2 h3 => hO _ _ _ _ _ _ (by decide) (by decide) h1 h2)
set_option maxHeartbeats 2000000 in
theorem xt_X1_marry_f (D : DD) (l : Launch) (hl : l.stackTraces = false) {H0 : Heap} {K0 : Nat → Prop} (x : Nat) (wd rd : Nat → Nat) (g : Nat → Int32) (h : Nat → Int64) (nb nch ncr : Nat) (hx0 : fld D 1 x 0 (.ref (wd 0)) H0) (hw : woK K0 D wd rd g h nb nch ncr H0) (hnb : nb ≤ 6) (hch : nch ≤ 4) (hcr : ncr ≤ 6) (p : Nat) (hp : p < 6) (q : Nat) (hq : q < 6) (hne : ¬ p = q) (hno : g (82 + p) = -1) (hn2 : ¬ g (82 + q) = -1) : Xt D l yX1_marry cX1_marry 4 none 7 1 6 120 [.ref x, .int (nI p), .int (nI q)] H0 RJ19 (fun H => fr (fun q => H0.size ≤ q) H0 H) (fun q => H0.size ≤ q) := by
  refine Xt.of hl (by decide) (Nat.le_of_ble_eq_true rfl) (fun q h => h) (fun s J X hT hO => ?_)
  have hJ := hT.j
  show J H0 0 0 0 [] [(0, .ref x), (1, .int (nI p)), (2, .int (nI q))]
  refine r_aload_n 1 0 (hJ.pu _ _ _) dX1_marry_0 rfl rfl ?_
  refine r_iload_n 2 1 (hJ.pu _ _ _) dX1_marry_1 rfl rfl ?_
  refine j_callp 5 hJ (cp_X1_person D l x wd rd g h nb nch ncr hx0 hw hnb hch hcr p (by omega) (per_in (by omega))) lk_X1_211 1 yk_X1_person rfl ⟨by decide, by decide⟩ hx0 rfl rfl (Nat.le_of_ble_eq_true rfl) dX1_marry_2 ⟨Nat.zero_le _, Nat.zero_le _⟩ rfl ?_
  refine r_pop 6 (hJ.pu _ _ _) dX1_marry_5 rfl rfl ?_
  refine r_aload_n 7 0 (hJ.pu _ _ _) dX1_marry_6 rfl rfl ?_
  refine r_iload_n 8 2 (hJ.pu _ _ _) dX1_marry_7 rfl rfl ?_
  refine j_callp 11 hJ (cp_X1_person D l x wd rd g h nb nch ncr hx0 hw hnb hch hcr q (by omega) (per_in (by omega))) lk_X1_211 1 yk_X1_person rfl ⟨by decide, by decide⟩ hx0 rfl rfl (Nat.le_of_ble_eq_true rfl) dX1_marry_8 ⟨Nat.zero_le _, Nat.zero_le _⟩ rfl ?_
  refine r_pop 12 (hJ.pu _ _ _) dX1_marry_11 rfl rfl ?_
  refine r_iload_n 13 1 (hJ.pu _ _ _) dX1_marry_12 rfl rfl ?_
  refine r_iload_n 14 2 (hJ.pu _ _ _) dX1_marry_13 rfl rfl ?_
  refine r_icmp_eqN p q 17 21 (hJ.pu _ _ _) dX1_marry_14 (by omega) (by omega) (by decide) (fun c14 => absurd c14 (hne)) rfl (fun c14 => ?_)
  refine r_iconst 18 1 (hJ.pu _ _ _) dX1_marry_17 (by decide) rfl ?_
  refine r_goto 22 (hJ.pu _ _ _) dX1_marry_18 (by decide) ?_
  refine j_callps 25 hJ (cp_X1_requireArgument_k D l) lk_X1_74 1 yk_X1_requireArgument rfl ⟨by decide, by decide⟩ rfl (Nat.le_of_ble_eq_true rfl) dX1_marry_22 ⟨Nat.zero_le _, Nat.zero_le _⟩ rfl ?_
  refine r_aload_n 26 0 (hJ.pu _ _ _) dX1_marry_25 rfl rfl ?_
  refine j_getf 29 hJ (T := TX1) (C := RX1) 0 (v := .ref (wd 0)) okX1 hx0 rfl (by decide) (Or.inl q550) (Or.inl rfl) dX1_marry_26 rfl ?_
  refine j_getf 32 hJ (T := TX2) (C := RX2) 2 (v := .ref (wd 2)) okX2 (hw.o.fld 2 rfl) rfl (by decide) (Or.inr ⟨_, nw_q452⟩) (Or.inl rfl) dX1_marry_29 rfl ?_
  refine r_iload_n 33 1 (hJ.pu _ _ _) dX1_marry_32 rfl rfl ?_
  refine j_ialde 34 hJ p (hw.pa.el (j := p) (by omega)) rfl (by omega) (by omega) dX1_marry_33 rfl ?_
  refine r_iconst 35 (-1) (hJ.pu _ _ _) dX1_marry_34 (by decide) rfl ?_
  refine r_icmp_ne 38 55 (hJ.pu _ _ _) dX1_marry_35 (by decide) (fun c35 => absurd c35 (fun z => z hno)) rfl (fun c35 => ?_)
  refine r_aload_n 39 0 (hJ.pu _ _ _) dX1_marry_38 rfl rfl ?_
  refine j_getf 42 hJ (T := TX1) (C := RX1) 0 (v := .ref (wd 0)) okX1 hx0 rfl (by decide) (Or.inl q550) (Or.inl rfl) dX1_marry_39 rfl ?_
  refine j_getf 45 hJ (T := TX2) (C := RX2) 2 (v := .ref (wd 2)) okX2 (hw.o.fld 2 rfl) rfl (by decide) (Or.inr ⟨_, nw_q452⟩) (Or.inl rfl) dX1_marry_42 rfl ?_
  refine r_iload_n 46 2 (hJ.pu _ _ _) dX1_marry_45 rfl rfl ?_
  refine j_ialde 47 hJ q (hw.pa.el (j := q) (by omega)) rfl (by omega) (by omega) dX1_marry_46 rfl ?_
  refine r_iconst 48 (-1) (hJ.pu _ _ _) dX1_marry_47 (by decide) rfl ?_
  refine r_icmp_ne 51 55 (hJ.pu _ _ _) dX1_marry_48 (by decide) (fun c48 => ?_) rfl (fun c48 => absurd c48 (hn2))
  refine r_iconst 56 0 (hJ.pu _ _ _) dX1_marry_55 (by decide) rfl ?_
  exact x_callS hT (xt_X1_requireState D l hl) (ci := 25) rfl lk_X1_81 1 yk_X1_requireState rfl ⟨by decide, by decide⟩ rfl (Nat.le_of_ble_eq_true rfl) dX1_marry_56 ⟨by decide, by decide⟩ (fun x hx => Or.inr hx) (fun q H1 h1 h2 h3 => hO _ _ _ _ _ _ (by decide) (by decide) h1 h2)
set_option maxHeartbeats 2000000 in
theorem xt_X1_appendCharacter_b (D : DD) (l : Launch) (hl : l.stackTraces = false) {H0 : Heap} (x : Nat) (c : Int32) (hc : inB c 33 126 = false) : Xt D l yX1_appendCharacter cX1_appendCharacter 2 (some .int) 7 1 6 120 [.ref x, .int c] H0 RJ18 (fun H => fr (fun q => H0.size ≤ q) H0 H) (fun q => H0.size ≤ q) := by
  refine Xt.of hl (by decide) (Nat.le_of_ble_eq_true rfl) (fun q h => h) (fun s J X hT hO => ?_)
  have hJ := hT.j
  show J H0 0 0 0 [] [(0, .ref x), (1, .int c)]
  refine r_iload_n 1 1 (hJ.pu _ _ _) dX1_appendCharacter_0 rfl rfl ?_
  refine r_bipush 3 33 (hJ.pu _ _ _) dX1_appendCharacter_1 (by decide) rfl ?_
  refine r_bipush 5 126 (hJ.pu _ _ _) dX1_appendCharacter_3 (by decide) rfl ?_
  refine cs_row 8 hJ (ts_X1_isBetween D l c 33 126) lk_X1_70 3 yk_X1_isBetween rfl ⟨by decide, by decide⟩ rfl (Nat.le_of_ble_eq_true rfl) dX1_appendCharacter_5 ⟨Nat.zero_le _, Nat.zero_le _⟩ rfl ?_
  refine r_eqi (0) (by simp [zB, hc]) ?_
  exact x_callS hT (xt_X1_requireArgument D l hl) (ci := 24) rfl lk_X1_74 1 yk_X1_requireArgument rfl ⟨by decide, by decide⟩ rfl (Nat.le_of_ble_eq_true rfl) dX1_appendCharacter_8 ⟨by decide, by decide⟩ (fun x hx => Or.inr hx) (fun q H1 h1 h2 h3 => hO _ _ _ _ _ _ (by decide) (by decide) h1 h2)
set_option maxHeartbeats 2000000 in
theorem xt_X1_restore_b (D : DD) (l : Launch) (hl : l.stackTraces = false) {H0 : Heap} (x : Nat) (hx : fld D 1 x 1 .null H0) : Xt D l yX1_restore cX1_restore 1 none 7 1 6 120 [.ref x] H0 RJ19 (fun H => fr (fun q => H0.size ≤ q) H0 H) (fun q => H0.size ≤ q) := by
  refine Xt.of hl (by decide) (Nat.le_of_ble_eq_true rfl) (fun q h => h) (fun s J X hT hO => ?_)
  have hJ := hT.j
  show J H0 0 0 0 [] [(0, .ref x)]
  refine r_aload_n 1 0 (hJ.pu _ _ _) dX1_restore_0 rfl rfl ?_
  refine j_getf 4 hJ (T := TX1) (C := RX1) 1 (v := .null) okX1 hx rfl (by decide) (Or.inl q551) (Or.inl rfl) dX1_restore_1 rfl ?_
  refine r_ifnullN 11 (hJ.pu _ _ _) dX1_restore_4 (by decide) ?_
  refine r_iconst 12 0 (hJ.pu _ _ _) dX1_restore_11 (by decide) rfl ?_
  exact x_callS hT (xt_X1_requireState D l hl) (ci := 25) rfl lk_X1_81 1 yk_X1_requireState rfl ⟨by decide, by decide⟩ rfl (Nat.le_of_ble_eq_true rfl) dX1_restore_12 ⟨by decide, by decide⟩ (fun x hx => Or.inr hx) (fun q H1 h1 h2 h3 => hO _ _ _ _ _ _ (by decide) (by decide) h1 h2)
set_option maxHeartbeats 2000000 in
theorem xt_X1_undo_b (D : DD) (l : Launch) (hl : l.stackTraces = false) {H0 : Heap} (x dq e hd : Nat) (hd17 : hd < 17) (hx : fld D 1 x 2 (.ref dq) H0) (h : ob D 16 [.ref e, .int (nI hd), .int (nI (ix hd 0))] dq H0) : Xt D l yX1_undo cX1_undo 1 (some .int) 7 1 6 120 [.ref x] H0 RJ19 (fun H => fr (fun q => H0.size ≤ q) H0 H) (fun q => H0.size ≤ q) := by
  refine Xt.of hl (by decide) (Nat.le_of_ble_eq_true rfl) (fun q h => h) (fun s J X hT hO => ?_)
  have hJ := hT.j
  show J H0 0 0 0 [] [(0, .ref x)]
  refine r_aload_n 1 0 (hJ.pu _ _ _) dX1_undo_0 rfl rfl ?_
  refine j_getf 4 hJ (T := TX1) (C := RX1) 2 (v := .ref dq) okX1 hx rfl (by decide) (Or.inl q552) (Or.inl rfl) dX1_undo_1 rfl ?_
  refine j_callp 7 hJ (cp_J14_isEmpty D l dq e hd 0 (fun _ => none) h hd17 (by decide)) lk_X1_368 0 yk_J14_isEmpty rfl ⟨by decide, by decide⟩ (h.fld 0 rfl) rfl rfl (Nat.le_of_ble_eq_true rfl) dX1_undo_4 ⟨Nat.zero_le _, Nat.zero_le _⟩ rfl ?_
  refine r_if_ne 10 14 (hJ.pu _ _ _) dX1_undo_7 (by decide) (fun _ => ?_) rfl (fun c => absurd c (by decide))
  refine r_iconst 15 0 (hJ.pu _ _ _) dX1_undo_14 (by decide) rfl ?_
  exact x_callS hT (xt_X1_requireState D l hl) (ci := 25) rfl lk_X1_81 1 yk_X1_requireState rfl ⟨by decide, by decide⟩ rfl (Nat.le_of_ble_eq_true rfl) dX1_undo_15 ⟨by decide, by decide⟩ (fun x hx => Or.inr hx) (fun q H1 h1 h2 h3 => hO _ _ _ _ _ _ (by decide) (by decide) h1 h2)
