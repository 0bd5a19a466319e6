set_option maxHeartbeats 2000000 in
theorem xt_X1_tax_b (D : DD) (l : Launch) (hl : l.stackTraces = false) {H0 : Heap} {K0 : Nat → Prop} (x : Nat) (wd rd : Nat → Nat) (g : Nat → Int32) (h : Nat → Int64) (nb nch ncr : Nat) (hx0 : fld D 1 x 0 (.ref (wd 0)) H0) (hw : woK K0 D wd rd g h nb nch ncr H0) (hnb : nb ≤ 6) (hch : nch ≤ 4) (hcr : ncr ≤ 6) (p : Int32) (hb : inB p 0 5 = false) : Xt D l yX1_tax cX1_tax 2 (some .long) 8 1 6 141 [.ref x, .int p] H0 RJ20 (fun H => fr (fun q => H0.size ≤ q) H0 H) (fun q => H0.size ≤ q) := by
  refine Xt.of hl (by decide) (Nat.le_of_ble_eq_true rfl) (fun q h => h) (fun s J X hT hO => ?_)
  have hJ := hT.j
  show J H0 0 0 0 [] [(0, .ref x), (1, .int p)]
  refine r_aload_n 1 0 (hJ.pu _ _ _) dX1_tax_0 rfl rfl ?_
  refine r_iload_n 2 1 (hJ.pu _ _ _) dX1_tax_1 rfl rfl ?_
  exact x_callV hT (xt_X1_person_b D l hl x wd rd g h nb nch ncr hx0 hw hnb hch hcr p hb) (ci := 26) rfl lk_X1_211 1 yk_X1_person rfl ⟨by decide, by decide⟩ hx0 rfl rfl (Nat.le_of_ble_eq_true rfl) dX1_tax_2 ⟨by decide, by decide⟩ (fun x hx => Or.inr hx) (fun q H1 h1 h2 h3 => hO _ _ _ _ _ _ (by decide) (by decide) h1 h2)
set_option maxHeartbeats 2000000 in
theorem xt_X1_householdTax_b (D : DD) (l : Launch) (hl : l.stackTraces = false) {H0 : Heap} {K0 : Nat → Prop} (x : Nat) (wd rd : Nat → Nat) (g : Nat → Int32) (h : Nat → Int64) (nb nch ncr : Nat) (hx0 : fld D 1 x 0 (.ref (wd 0)) H0) (hw : woK K0 D wd rd g h nb nch ncr H0) (hnb : nb ≤ 6) (hch : nch ≤ 4) (hcr : ncr ≤ 6) (p : Int32) (hb : inB p 0 5 = false) : Xt D l yX1_householdTax cX1_householdTax 2 (some .long) 8 1 6 141 [.ref x, .int p] H0 RJ20 (fun H => fr (fun q => H0.size ≤ q) H0 H) (fun q => H0.size ≤ q) := by
  refine Xt.of hl (by decide) (Nat.le_of_ble_eq_true rfl) (fun q h => h) (fun s J X hT hO => ?_)
  have hJ := hT.j
  show J H0 0 0 0 [] [(0, .ref x), (1, .int p)]
  refine r_aload_n 1 0 (hJ.pu _ _ _) dX1_householdTax_0 rfl rfl ?_
  refine r_iload_n 2 1 (hJ.pu _ _ _) dX1_householdTax_1 rfl rfl ?_
  exact x_callV hT (xt_X1_person_b D l hl x wd rd g h nb nch ncr hx0 hw hnb hch hcr p hb) (ci := 26) rfl lk_X1_211 1 yk_X1_person rfl ⟨by decide, by decide⟩ hx0 rfl rfl (Nat.le_of_ble_eq_true rfl) dX1_householdTax_2 ⟨by decide, by decide⟩ (fun x hx => Or.inr hx) (fun q H1 h1 h2 h3 => hO _ _ _ _ _ _ (by decide) (by decide) h1 h2)
set_option maxHeartbeats 2000000 in
theorem xt_X1_kinks_b (D : DD) (l : Launch) (hl : l.stackTraces = false) {H0 : Heap} {K0 : Nat → Prop} (x : Nat) (wd rd : Nat → Nat) (g : Nat → Int32) (h : Nat → Int64) (nb nch ncr : Nat) (hx0 : fld D 1 x 0 (.ref (wd 0)) H0) (hw : woK K0 D wd rd g h nb nch ncr H0) (hnb : nb ≤ 6) (hch : nch ≤ 4) (hcr : ncr ≤ 6) (p : Int32) (hb : inB p 0 5 = false) : Xt D l yX1_kinks cX1_kinks 2 (some .int) 8 1 6 141 [.ref x, .int p] H0 RJ20 (fun H => fr (fun q => H0.size ≤ q) H0 H) (fun q => H0.size ≤ q) := by
  refine Xt.of hl (by decide) (Nat.le_of_ble_eq_true rfl) (fun q h => h) (fun s J X hT hO => ?_)
  have hJ := hT.j
  show J H0 0 0 0 [] [(0, .ref x), (1, .int p)]
  refine r_aload_n 1 0 (hJ.pu _ _ _) dX1_kinks_0 rfl rfl ?_
  refine r_iload_n 2 1 (hJ.pu _ _ _) dX1_kinks_1 rfl rfl ?_
  exact x_callV hT (xt_X1_person_b D l hl x wd rd g h nb nch ncr hx0 hw hnb hch hcr p hb) (ci := 26) rfl lk_X1_211 1 yk_X1_person rfl ⟨by decide, by decide⟩ hx0 rfl rfl (Nat.le_of_ble_eq_true rfl) dX1_kinks_2 ⟨by decide, by decide⟩ (fun x hx => Or.inr hx) (fun q H1 h1 h2 h3 => hO _ _ _ _ _ _ (by decide) (by decide) h1 h2)
set_option maxHeartbeats 2000000 in
theorem xt_X1_steepest_b (D : DD) (l : Launch) (hl : l.stackTraces = false) {H0 : Heap} {K0 : Nat → Prop} (x : Nat) (wd rd : Nat → Nat) (g : Nat → Int32) (h : Nat → Int64) (nb nch ncr : Nat) (hx0 : fld D 1 x 0 (.ref (wd 0)) H0) (hw : woK K0 D wd rd g h nb nch ncr H0) (hnb : nb ≤ 6) (hch : nch ≤ 4) (hcr : ncr ≤ 6) (p : Int32) (hb : inB p 0 5 = false) : Xt D l yX1_steepest cX1_steepest 10 (some .int) 8 1 6 141 [.ref x, .int p] H0 RJ20 (fun H => fr (fun q => H0.size ≤ q) H0 H) (fun q => H0.size ≤ q) := by
  refine Xt.of hl (by decide) (Nat.le_of_ble_eq_true rfl) (fun q h => h) (fun s J X hT hO => ?_)
  have hJ := hT.j
  show J H0 0 0 0 [] [(0, .ref x), (1, .int p)]
  refine r_aload_n 1 0 (hJ.pu _ _ _) dX1_steepest_0 rfl rfl ?_
  refine r_iload_n 2 1 (hJ.pu _ _ _) dX1_steepest_1 rfl rfl ?_
  exact x_callV hT (xt_X1_person_b D l hl x wd rd g h nb nch ncr hx0 hw hnb hch hcr p hb) (ci := 26) rfl lk_X1_211 1 yk_X1_person rfl ⟨by decide, by decide⟩ hx0 rfl rfl (Nat.le_of_ble_eq_true rfl) dX1_steepest_2 ⟨by decide, by decide⟩ (fun x hx => Or.inr hx) (fun q H1 h1 h2 h3 => hO _ _ _ _ _ _ (by decide) (by decide) h1 h2)
set_option maxHeartbeats 2000000 in
theorem xt_X1_averageRate_b (D : DD) (l : Launch) (hl : l.stackTraces = false) {H0 : Heap} {K0 : Nat → Prop} (x : Nat) (wd rd : Nat → Nat) (g : Nat → Int32) (h : Nat → Int64) (nb nch ncr : Nat) (hx0 : fld D 1 x 0 (.ref (wd 0)) H0) (hw : woK K0 D wd rd g h nb nch ncr H0) (hnb : nb ≤ 6) (hch : nch ≤ 4) (hcr : ncr ≤ 6) (p : Int32) (hb : inB p 0 5 = false) : Xt D l yX1_averageRate cX1_averageRate 5 (some .double) 8 1 6 141 [.ref x, .int p] H0 RJ20 (fun H => fr (fun q => H0.size ≤ q) H0 H) (fun q => H0.size ≤ q) := by
  refine Xt.of hl (by decide) (Nat.le_of_ble_eq_true rfl) (fun q h => h) (fun s J X hT hO => ?_)
  have hJ := hT.j
  show J H0 0 0 0 [] [(0, .ref x), (1, .int p)]
  refine r_aload_n 1 0 (hJ.pu _ _ _) dX1_averageRate_0 rfl rfl ?_
  refine r_iload_n 2 1 (hJ.pu _ _ _) dX1_averageRate_1 rfl rfl ?_
  exact x_callV hT (xt_X1_person_b D l hl x wd rd g h nb nch ncr hx0 hw hnb hch hcr p hb) (ci := 26) rfl lk_X1_211 1 yk_X1_person rfl ⟨by decide, by decide⟩ hx0 rfl rfl (Nat.le_of_ble_eq_true rfl) dX1_averageRate_2 ⟨by decide, by decide⟩ (fun x hx => Or.inr hx) (fun q H1 h1 h2 h3 => hO _ _ _ _ _ _ (by decide) (by decide) h1 h2)
set_option maxHeartbeats 2000000 in
theorem xt_X1_taxPart_b (D : DD) (l : Launch) (hl : l.stackTraces = false) {H0 : Heap} {K0 : Nat → Prop} (x : Nat) (wd rd : Nat → Nat) (g : Nat → Int32) (h : Nat → Int64) (nb nch ncr : Nat) (hx0 : fld D 1 x 0 (.ref (wd 0)) H0) (hw : woK K0 D wd rd g h nb nch ncr H0) (hnb : nb ≤ 6) (hch : nch ≤ 4) (hcr : ncr ≤ 6) (p : Int32) (hb : inB p 0 5 = false) (q : Int32) : Xt D l yX1_taxPart cX1_taxPart 3 (some .long) 8 1 6 141 [.ref x, .int p, .int q] H0 RJ20 (fun H => fr (fun q => H0.size ≤ q) H0 H) (fun q => H0.size ≤ q) := by
  refine Xt.of hl (by decide) (Nat.le_of_ble_eq_true rfl) (fun q h => h) (fun s J X hT hO => ?_)
  have hJ := hT.j
  show J H0 0 0 0 [] [(0, .ref x), (1, .int p), (2, .int q)]
  refine r_aload_n 1 0 (hJ.pu _ _ _) dX1_taxPart_0 rfl rfl ?_
  refine r_iload_n 2 1 (hJ.pu _ _ _) dX1_taxPart_1 rfl rfl ?_
  exact x_callV hT (xt_X1_person_b D l hl x wd rd g h nb nch ncr hx0 hw hnb hch hcr p hb) (ci := 26) rfl lk_X1_211 1 yk_X1_person rfl ⟨by decide, by decide⟩ hx0 rfl rfl (Nat.le_of_ble_eq_true rfl) dX1_taxPart_2 ⟨by decide, by decide⟩ (fun x hx => Or.inr hx) (fun q H1 h1 h2 h3 => hO _ _ _ _ _ _ (by decide) (by decide) h1 h2)
set_option maxHeartbeats 2000000 in
theorem xt_X1_personData_b (D : DD) (l : Launch) (hl : l.stackTraces = false) {H0 : Heap} {K0 : Nat → Prop} (x : Nat) (wd rd : Nat → Nat) (g : Nat → Int32) (h : Nat → Int64) (nb nch ncr : Nat) (hx0 : fld D 1 x 0 (.ref (wd 0)) H0) (hw : woK K0 D wd rd g h nb nch ncr H0) (hnb : nb ≤ 6) (hch : nch ≤ 4) (hcr : ncr ≤ 6) (p : Int32) (hb : inB p 0 5 = false) (q : Int32) : Xt D l yX1_personData cX1_personData 4 (some .int) 8 1 6 141 [.ref x, .int p, .int q] H0 RJ20 (fun H => fr (fun q => H0.size ≤ q) H0 H) (fun q => H0.size ≤ q) := by
  refine Xt.of hl (by decide) (Nat.le_of_ble_eq_true rfl) (fun q h => h) (fun s J X hT hO => ?_)
  have hJ := hT.j
  show J H0 0 0 0 [] [(0, .ref x), (1, .int p), (2, .int q)]
  refine r_aload_n 1 0 (hJ.pu _ _ _) dX1_personData_0 rfl rfl ?_
  refine r_iload_n 2 1 (hJ.pu _ _ _) dX1_personData_1 rfl rfl ?_
  exact x_callV hT (xt_X1_person_b D l hl x wd rd g h nb nch ncr hx0 hw hnb hch hcr p hb) (ci := 26) rfl lk_X1_211 1 yk_X1_person rfl ⟨by decide, by decide⟩ hx0 rfl rfl (Nat.le_of_ble_eq_true rfl) dX1_personData_2 ⟨by decide, by decide⟩ (fun x hx => Or.inr hx) (fun q H1 h1 h2 h3 => hO _ _ _ _ _ _ (by decide) (by decide) h1 h2)
set_option maxHeartbeats 2000000 in
theorem xt_X1_curve_b (D : DD) (l : Launch) (hl : l.stackTraces = false) {H0 : Heap} {K0 : Nat → Prop} (x : Nat) (wd rd : Nat → Nat) (g : Nat → Int32) (h : Nat → Int64) (nb nch ncr : Nat) (hx0 : fld D 1 x 0 (.ref (wd 0)) H0) (hw : woK K0 D wd rd g h nb nch ncr H0) (hnb : nb ≤ 6) (hch : nch ≤ 4) (hcr : ncr ≤ 6) (p : Int32) (hb : inB p 0 5 = false) (q : Int32) : Xt D l yX1_curve cX1_curve 3 (some .long) 8 1 6 141 [.ref x, .int p, .int q] H0 RJ20 (fun H => fr (fun q => H0.size ≤ q) H0 H) (fun q => H0.size ≤ q) := by
  refine Xt.of hl (by decide) (Nat.le_of_ble_eq_true rfl) (fun q h => h) (fun s J X hT hO => ?_)
  have hJ := hT.j
  show J H0 0 0 0 [] [(0, .ref x), (1, .int p), (2, .int q)]
  refine r_aload_n 1 0 (hJ.pu _ _ _) dX1_curve_0 rfl rfl ?_
  refine r_iload_n 2 1 (hJ.pu _ _ _) dX1_curve_1 rfl rfl ?_
  exact x_callV hT (xt_X1_person_b D l hl x wd rd g h nb nch ncr hx0 hw hnb hch hcr p hb) (ci := 26) rfl lk_X1_211 1 yk_X1_person rfl ⟨by decide, by decide⟩ hx0 rfl rfl (Nat.le_of_ble_eq_true rfl) dX1_curve_2 ⟨by decide, by decide⟩ (fun x hx => Or.inr hx) (fun q H1 h1 h2 h3 => hO _ _ _ _ _ _ (by decide) (by decide) h1 h2)
set_option maxHeartbeats 2000000 in
theorem xt_X1_marginalRate_b (D : DD) (l : Launch) (hl : l.stackTraces = false) {H0 : Heap} {K0 : Nat → Prop} (x : Nat) (wd rd : Nat → Nat) (g : Nat → Int32) (h : Nat → Int64) (nb nch ncr : Nat) (hx0 : fld D 1 x 0 (.ref (wd 0)) H0) (hw : woK K0 D wd rd g h nb nch ncr H0) (hnb : nb ≤ 6) (hch : nch ≤ 4) (hcr : ncr ≤ 6) (p : Int32) (hb : inB p 0 5 = false) (q : Int32) : Xt D l yX1_marginalRate cX1_marginalRate 3 (some .long) 8 1 6 141 [.ref x, .int p, .int q] H0 RJ20 (fun H => fr (fun q => H0.size ≤ q) H0 H) (fun q => H0.size ≤ q) := by
  refine Xt.of hl (by decide) (Nat.le_of_ble_eq_true rfl) (fun q h => h) (fun s J X hT hO => ?_)
  have hJ := hT.j
  show J H0 0 0 0 [] [(0, .ref x), (1, .int p), (2, .int q)]
  refine r_aload_n 1 0 (hJ.pu _ _ _) dX1_marginalRate_0 rfl rfl ?_
  refine r_iload_n 2 1 (hJ.pu _ _ _) dX1_marginalRate_1 rfl rfl ?_
  exact x_callV hT (xt_X1_person_b D l hl x wd rd g h nb nch ncr hx0 hw hnb hch hcr p hb) (ci := 26) rfl lk_X1_211 1 yk_X1_person rfl ⟨by decide, by decide⟩ hx0 rfl rfl (Nat.le_of_ble_eq_true rfl) dX1_marginalRate_2 ⟨by decide, by decide⟩ (fun x hx => Or.inr hx) (fun q H1 h1 h2 h3 => hO _ _ _ _ _ _ (by decide) (by decide) h1 h2)
set_option maxHeartbeats 2000000 in
theorem xt_X1_nextKink_b (D : DD) (l : Launch) (hl : l.stackTraces = false) {H0 : Heap} {K0 : Nat → Prop} (x : Nat) (wd rd : Nat → Nat) (g : Nat → Int32) (h : Nat → Int64) (nb nch ncr : Nat) (hx0 : fld D 1 x 0 (.ref (wd 0)) H0) (hw : woK K0 D wd rd g h nb nch ncr H0) (hnb : nb ≤ 6) (hch : nch ≤ 4) (hcr : ncr ≤ 6) (p : Int32) (hb : inB p 0 5 = false) (q : Int32) : Xt D l yX1_nextKink cX1_nextKink 5 (some .int) 8 1 6 141 [.ref x, .int p, .int q] H0 RJ20 (fun H => fr (fun q => H0.size ≤ q) H0 H) (fun q => H0.size ≤ q) := by
  refine Xt.of hl (by decide) (Nat.le_of_ble_eq_true rfl) (fun q h => h) (fun s J X hT hO => ?_)
  have hJ := hT.j
  show J H0 0 0 0 [] [(0, .ref x), (1, .int p), (2, .int q)]
  refine r_aload_n 1 0 (hJ.pu _ _ _) dX1_nextKink_0 rfl rfl ?_
  refine r_iload_n 2 1 (hJ.pu _ _ _) dX1_nextKink_1 rfl rfl ?_
  exact x_callV hT (xt_X1_person_b D l hl x wd rd g h nb nch ncr hx0 hw hnb hch hcr p hb) (ci := 26) rfl lk_X1_211 1 yk_X1_person rfl ⟨by decide, by decide⟩ hx0 rfl rfl (Nat.le_of_ble_eq_true rfl) dX1_nextKink_2 ⟨by decide, by decide⟩ (fun x hx => Or.inr hx) (fun q H1 h1 h2 h3 => hO _ _ _ _ _ _ (by decide) (by decide) h1 h2)
set_option maxHeartbeats 2000000 in
theorem xt_X1_kinkCause_b (D : DD) (l : Launch) (hl : l.stackTraces = false) {H0 : Heap} {K0 : Nat → Prop} (x : Nat) (wd rd : Nat → Nat) (g : Nat → Int32) (h : Nat → Int64) (nb nch ncr : Nat) (hx0 : fld D 1 x 0 (.ref (wd 0)) H0) (hw : woK K0 D wd rd g h nb nch ncr H0) (hnb : nb ≤ 6) (hch : nch ≤ 4) (hcr : ncr ≤ 6) (p : Int32) (hb : inB p 0 5 = false) (q : Int32) : Xt D l yX1_kinkCause cX1_kinkCause 3 (some .int) 8 1 6 141 [.ref x, .int p, .int q] H0 RJ20 (fun H => fr (fun q => H0.size ≤ q) H0 H) (fun q => H0.size ≤ q) := by
  refine Xt.of hl (by decide) (Nat.le_of_ble_eq_true rfl) (fun q h => h) (fun s J X hT hO => ?_)
  have hJ := hT.j
  show J H0 0 0 0 [] [(0, .ref x), (1, .int p), (2, .int q)]
  refine r_aload_n 1 0 (hJ.pu _ _ _) dX1_kinkCause_0 rfl rfl ?_
  refine r_iload_n 2 1 (hJ.pu _ _ _) dX1_kinkCause_1 rfl rfl ?_
  exact x_callV hT (xt_X1_person_b D l hl x wd rd g h nb nch ncr hx0 hw hnb hch hcr p hb) (ci := 26) rfl lk_X1_211 1 yk_X1_person rfl ⟨by decide, by decide⟩ hx0 rfl rfl (Nat.le_of_ble_eq_true rfl) dX1_kinkCause_2 ⟨by decide, by decide⟩ (fun x hx => Or.inr hx) (fun q H1 h1 h2 h3 => hO _ _ _ _ _ _ (by decide) (by decide) h1 h2)
set_option maxHeartbeats 2000000 in
theorem xt_X1_carried_b (D : DD) (l : Launch) (hl : l.stackTraces = false) {H0 : Heap} {K0 : Nat → Prop} (x : Nat) (wd rd : Nat → Nat) (g : Nat → Int32) (h : Nat → Int64) (nb nch ncr : Nat) (hx0 : fld D 1 x 0 (.ref (wd 0)) H0) (hw : woK K0 D wd rd g h nb nch ncr H0) (hnb : nb ≤ 6) (hch : nch ≤ 4) (hcr : ncr ≤ 6) (p : Int32) (hb : inB p 0 5 = false) (q : Int32) : Xt D l yX1_carried cX1_carried 3 (some .long) 8 1 6 141 [.ref x, .int p, .int q] H0 RJ20 (fun H => fr (fun q => H0.size ≤ q) H0 H) (fun q => H0.size ≤ q) := by
  refine Xt.of hl (by decide) (Nat.le_of_ble_eq_true rfl) (fun q h => h) (fun s J X hT hO => ?_)
  have hJ := hT.j
  show J H0 0 0 0 [] [(0, .ref x), (1, .int p), (2, .int q)]
  refine r_aload_n 1 0 (hJ.pu _ _ _) dX1_carried_0 rfl rfl ?_
  refine r_iload_n 2 1 (hJ.pu _ _ _) dX1_carried_1 rfl rfl ?_
  exact x_callV hT (xt_X1_person_b D l hl x wd rd g h nb nch ncr hx0 hw hnb hch hcr p hb) (ci := 26) rfl lk_X1_211 1 yk_X1_person rfl ⟨by decide, by decide⟩ hx0 rfl rfl (Nat.le_of_ble_eq_true rfl) dX1_carried_2 ⟨by decide, by decide⟩ (fun x hx => Or.inr hx) (fun q H1 h1 h2 h3 => hO _ _ _ _ _ _ (by decide) (by decide) h1 h2)
set_option maxHeartbeats 2000000 in
theorem xt_X1_creditPart_b (D : DD) (l : Launch) (hl : l.stackTraces = false) {H0 : Heap} {K0 : Nat → Prop} (x : Nat) (wd rd : Nat → Nat) (g : Nat → Int32) (h : Nat → Int64) (nb nch ncr : Nat) (hx0 : fld D 1 x 0 (.ref (wd 0)) H0) (hw : woK K0 D wd rd g h nb nch ncr H0) (hnb : nb ≤ 6) (hch : nch ≤ 4) (hcr : ncr ≤ 6) (p : Int32) (hb : inB p 0 5 = false) (q r : Int32) : Xt D l yX1_creditPart cX1_creditPart 4 (some .long) 8 1 6 141 [.ref x, .int p, .int q, .int r] H0 RJ20 (fun H => fr (fun q => H0.size ≤ q) H0 H) (fun q => H0.size ≤ q) := by
  refine Xt.of hl (by decide) (Nat.le_of_ble_eq_true rfl) (fun q h => h) (fun s J X hT hO => ?_)
  have hJ := hT.j
  show J H0 0 0 0 [] [(0, .ref x), (1, .int p), (2, .int q), (3, .int r)]
  refine r_aload_n 1 0 (hJ.pu _ _ _) dX1_creditPart_0 rfl rfl ?_
  refine r_iload_n 2 1 (hJ.pu _ _ _) dX1_creditPart_1 rfl rfl ?_
  exact x_callV hT (xt_X1_person_b D l hl x wd rd g h nb nch ncr hx0 hw hnb hch hcr p hb) (ci := 26) rfl lk_X1_211 1 yk_X1_person rfl ⟨by decide, by decide⟩ hx0 rfl rfl (Nat.le_of_ble_eq_true rfl) dX1_creditPart_2 ⟨by decide, by decide⟩ (fun x hx => Or.inr hx) (fun q H1 h1 h2 h3 => hO _ _ _ _ _ _ (by decide) (by decide) h1 h2)
set_option maxHeartbeats 2000000 in
theorem xt_X1_setPerson_b (D : DD) (l : Launch) (hl : l.stackTraces = false) {H0 : Heap} {K0 : Nat → Prop} (x : Nat) (wd rd : Nat → Nat) (g : Nat → Int32) (h : Nat → Int64) (nb nch ncr : Nat) (hx0 : fld D 1 x 0 (.ref (wd 0)) H0) (hw : woK K0 D wd rd g h nb nch ncr H0) (hnb : nb ≤ 6) (hch : nch ≤ 4) (hcr : ncr ≤ 6) (p : Int32) (hb : inB p 0 5 = false) (q r t : Int32) : Xt D l yX1_setPerson cX1_setPerson 5 none 8 1 6 141 [.ref x, .int p, .int q, .int r, .int t] H0 RJ20 (fun H => fr (fun q => H0.size ≤ q) H0 H) (fun q => H0.size ≤ q) := by
  refine Xt.of hl (by decide) (Nat.le_of_ble_eq_true rfl) (fun q h => h) (fun s J X hT hO => ?_)
  have hJ := hT.j
  show J H0 0 0 0 [] [(0, .ref x), (1, .int p), (2, .int q), (3, .int r), (4, .int t)]
  refine r_aload_n 1 0 (hJ.pu _ _ _) dX1_setPerson_0 rfl rfl ?_
  refine r_iload_n 2 1 (hJ.pu _ _ _) dX1_setPerson_1 rfl rfl ?_
  exact x_callV hT (xt_X1_person_b D l hl x wd rd g h nb nch ncr hx0 hw hnb hch hcr p hb) (ci := 26) rfl lk_X1_211 1 yk_X1_person rfl ⟨by decide, by decide⟩ hx0 rfl rfl (Nat.le_of_ble_eq_true rfl) dX1_setPerson_2 ⟨by decide, by decide⟩ (fun x hx => Or.inr hx) (fun q H1 h1 h2 h3 => hO _ _ _ _ _ _ (by decide) (by decide) h1 h2)
theorem lk_X1_74 : GoodIn lw_all (va_wsS RX1 74 yX1_requireArgument (ws_ yX1_requireArgument cX1_requireArgument 1 none)) := lw_S q2018 q2019 q102 q2020
theorem yk_X1_requireArgument : yOk yX1_requireArgument 1 := by decide +kernel
set_option maxHeartbeats 2000000 in
theorem xt_X1_taxPart_c (D : DD) (l : Launch) (hl : l.stackTraces = false) {H0 : Heap} {K0 : Nat → Prop} (x : Nat) (wd rd : Nat → Nat) (g : Nat → Int32) (h : Nat → Int64) (nb nch ncr : Nat) (hx0 : fld D 1 x 0 (.ref (wd 0)) H0) (hw : woK K0 D wd rd g h nb nch ncr H0) (hnb : nb ≤ 6) (hch : nch ≤ 4) (hcr : ncr ≤ 6) (p : Nat) (hp : p < 6) (q : Int32) (hb : inB q 0 5 = false) : Xt D l yX1_taxPart cX1_taxPart 3 (some .long) 7 1 6 120 [.ref x, .int (nI p), .int q] H0 RJ18 (fun H => fr (fun q => H0.size ≤ q) H0 H) (fun q => H0.size ≤ q) := by
  refine Xt.of hl (by decide) (Nat.le_of_ble_eq_true rfl) (fun q h => h) (fun s J X hT hO => ?_)
  have hJ := hT.j
  show J H0 0 0 0 [] [(0, .ref x), (1, .int (nI p)), (2, .int q)]
  refine r_aload_n 1 0 (hJ.pu _ _ _) dX1_taxPart_0 rfl rfl ?_
  refine r_iload_n 2 1 (hJ.pu _ _ _) dX1_taxPart_1 rfl rfl ?_
  refine j_callp 5 hJ (cp_X1_person D l x wd rd g h nb nch ncr hx0 hw hnb hch hcr p (by omega) (per_in (by omega))) lk_X1_211 1 yk_X1_person rfl ⟨by decide, by decide⟩ hx0 rfl rfl (Nat.le_of_ble_eq_true rfl) dX1_taxPart_2 ⟨Nat.zero_le _, Nat.zero_le _⟩ rfl ?_
  refine r_pop 6 (hJ.pu _ _ _) dX1_taxPart_5 rfl rfl ?_
  refine r_iload_n 7 2 (hJ.pu _ _ _) dX1_taxPart_6 rfl rfl ?_
  refine r_iconst 8 0 (hJ.pu _ _ _) dX1_taxPart_7 (by decide) rfl ?_
  refine r_iconst 9 5 (hJ.pu _ _ _) dX1_taxPart_8 (by decide) rfl ?_
  refine cs_row 12 hJ (ts_X1_isBetween D l q 0 5) lk_X1_70 3 yk_X1_isBetween rfl ⟨by decide, by decide⟩ rfl (Nat.le_of_ble_eq_true rfl) dX1_taxPart_9 ⟨Nat.zero_le _, Nat.zero_le _⟩ rfl ?_
  refine r_eqi (0) (by simp [zB, hb]) ?_
  exact x_callS hT (xt_X1_requireArgument D l hl) (ci := 24) rfl lk_X1_74 1 yk_X1_requireArgument rfl ⟨by decide, by decide⟩ rfl (Nat.le_of_ble_eq_true rfl) dX1_taxPart_12 ⟨by decide, by decide⟩ (fun x hx => Or.inr hx) (fun q H1 h1 h2 h3 => hO _ _ _ _ _ _ (by decide) (by decide) h1 h2)
set_option maxHeartbeats 2000000 in
theorem xt_X1_personData_c (D : DD) (l : Launch) (hl : l.stackTraces = false) {H0 : Heap} {K0 : Nat → Prop} (x : Nat) (wd rd : Nat → Nat) (g : Nat → Int32) (h : Nat → Int64) (nb nch ncr : Nat) (hx0 : fld D 1 x 0 (.ref (wd 0)) H0) (hw : woK K0 D wd rd g h nb nch ncr H0) (hnb : nb ≤ 6) (hch : nch ≤ 4) (hcr : ncr ≤ 6) (p : Nat) (hp : p < 6) (q : Int32) (hb : inB q 0 2 = false) : Xt D l yX1_personData cX1_personData 4 (some .int) 7 1 6 120 [.ref x, .int (nI p), .int q] H0 RJ18 (fun H => fr (fun q => H0.size ≤ q) H0 H) (fun q => H0.size ≤ q) := by
  refine Xt.of hl (by decide) (Nat.le_of_ble_eq_true rfl) (fun q h => h) (fun s J X hT hO => ?_)
  have hJ := hT.j
  show J H0 0 0 0 [] [(0, .ref x), (1, .int (nI p)), (2, .int q)]
  refine r_aload_n 1 0 (hJ.pu _ _ _) dX1_personData_0 rfl rfl ?_
  refine r_iload_n 2 1 (hJ.pu _ _ _) dX1_personData_1 rfl rfl ?_
  refine j_callp 5 hJ (cp_X1_person D l x wd rd g h nb nch ncr hx0 hw hnb hch hcr p (by omega) (per_in (by omega))) lk_X1_211 1 yk_X1_person rfl ⟨by decide, by decide⟩ hx0 rfl rfl (Nat.le_of_ble_eq_true rfl) dX1_personData_2 ⟨Nat.zero_le _, Nat.zero_le _⟩ rfl ?_
  refine r_astore_n 6 [(3, .ref (wd (10 + p))), (0, .ref x), (1, .int (nI p)), (2, .int q)] (hJ.pu _ _ _) dX1_personData_5 rfl (by decide) rfl rfl ?_
  refine r_iload_n 7 3 (hJ.pu _ _ _) dX1_personData_6 rfl rfl ?_
  refine r_iconst 8 0 (hJ.pu _ _ _) dX1_personData_7 (by decide) rfl ?_
  refine r_iconst 9 2 (hJ.pu _ _ _) dX1_personData_8 (by decide) rfl ?_
  refine cs_row 12 hJ (ts_X1_isBetween D l q 0 2) lk_X1_70 3 yk_X1_isBetween rfl ⟨by decide, by decide⟩ rfl (Nat.le_of_ble_eq_true rfl) dX1_personData_9 ⟨Nat.zero_le _, Nat.zero_le _⟩ rfl ?_
  refine r_eqi (0) (by simp [zB, hb]) ?_
  exact x_callS hT (xt_X1_requireArgument D l hl) (ci := 24) rfl lk_X1_74 1 yk_X1_requireArgument rfl ⟨by decide, by decide⟩ rfl (Nat.le_of_ble_eq_true rfl) dX1_personData_12 ⟨by decide, by decide⟩ (fun x hx => Or.inr hx) (fun q H1 h1 h2 h3 => hO _ _ _ _ _ _ (by decide) (by decide) h1 h2)
set_option maxHeartbeats 2000000 in
theorem xt_X1_curve_c (D : DD) (l : Launch) (hl : l.stackTraces = false) {H0 : Heap} {K0 : Nat → Prop} (x : Nat) (wd rd : Nat → Nat) (g : Nat → Int32) (h : Nat → Int64) (nb nch ncr : Nat) (hx0 : fld D 1 x 0 (.ref (wd 0)) H0) (hw : woK K0 D wd rd g h nb nch ncr H0) (hnb : nb ≤ 6) (hch : nch ≤ 4) (hcr : ncr ≤ 6) (p : Nat) (hp : p < 6) (q : Int32) (hb : inB q 0 9999 = false) : Xt D l yX1_curve cX1_curve 3 (some .long) 7 1 6 120 [.ref x, .int (nI p), .int q] H0 RJ18 (fun H => fr (fun q => H0.size ≤ q) H0 H) (fun q => H0.size ≤ q) := by
  refine Xt.of hl (by decide) (Nat.le_of_ble_eq_true rfl) (fun q h => h) (fun s J X hT hO => ?_)
  have hJ := hT.j
  show J H0 0 0 0 [] [(0, .ref x), (1, .int (nI p)), (2, .int q)]
  refine r_aload_n 1 0 (hJ.pu _ _ _) dX1_curve_0 rfl rfl ?_
  refine r_iload_n 2 1 (hJ.pu _ _ _) dX1_curve_1 rfl rfl ?_
  refine j_callp 5 hJ (cp_X1_person D l x wd rd g h nb nch ncr hx0 hw hnb hch hcr p (by omega) (per_in (by omega))) lk_X1_211 1 yk_X1_person rfl ⟨by decide, by decide⟩ hx0 rfl rfl (Nat.le_of_ble_eq_true rfl) dX1_curve_2 ⟨Nat.zero_le _, Nat.zero_le _⟩ rfl ?_
  refine r_pop 6 (hJ.pu _ _ _) dX1_curve_5 rfl rfl ?_
  refine r_iload_n 7 2 (hJ.pu _ _ _) dX1_curve_6 rfl rfl ?_
  refine r_iconst 8 0 (hJ.pu _ _ _) dX1_curve_7 (by decide) rfl ?_
  refine r_sipush 11 9999 (hJ.pu _ _ _) dX1_curve_8 (by decide) rfl ?_
  refine cs_row 14 hJ (ts_X1_isBetween D l q 0 9999) lk_X1_70 3 yk_X1_isBetween rfl ⟨by decide, by decide⟩ rfl (Nat.le_of_ble_eq_true rfl) dX1_curve_11 ⟨Nat.zero_le _, Nat.zero_le _⟩ rfl ?_
  refine r_eqi (0) (by simp [zB, hb]) ?_
  exact x_callS hT (xt_X1_requireArgument D l hl) (ci := 24) rfl lk_X1_74 1 yk_X1_requireArgument rfl ⟨by decide, by decide⟩ rfl (Nat.le_of_ble_eq_true rfl) dX1_curve_14 ⟨by decide, by decide⟩ (fun x hx => Or.inr hx) (fun q H1 h1 h2 h3 => hO _ _ _ _ _ _ (by decide) (by decide) h1 h2)
set_option maxHeartbeats 2000000 in
theorem xt_X1_marginalRate_c (D : DD) (l : Launch) (hl : l.stackTraces = false) {H0 : Heap} {K0 : Nat → Prop} (x : Nat) (wd rd : Nat → Nat) (g : Nat → Int32) (h : Nat → Int64) (nb nch ncr : Nat) (hx0 : fld D 1 x 0 (.ref (wd 0)) H0) (hw : woK K0 D wd rd g h nb nch ncr H0) (hnb : nb ≤ 6) (hch : nch ≤ 4) (hcr : ncr ≤ 6) (p : Nat) (hp : p < 6) (q : Int32) (hb : inB q 0 9998 = false) : Xt D l yX1_marginalRate cX1_marginalRate 3 (some .long) 7 1 6 120 [.ref x, .int (nI p), .int q] H0 RJ18 (fun H => fr (fun q => H0.size ≤ q) H0 H) (fun q => H0.size ≤ q) := by
  refine Xt.of hl (by decide) (Nat.le_of_ble_eq_true rfl) (fun q h => h) (fun s J X hT hO => ?_)
  have hJ := hT.j
  show J H0 0 0 0 [] [(0, .ref x), (1, .int (nI p)), (2, .int q)]
  refine r_aload_n 1 0 (hJ.pu _ _ _) dX1_marginalRate_0 rfl rfl ?_
  refine r_iload_n 2 1 (hJ.pu _ _ _) dX1_marginalRate_1 rfl rfl ?_
  refine j_callp 5 hJ (cp_X1_person D l x wd rd g h nb nch ncr hx0 hw hnb hch hcr p (by omega) (per_in (by omega))) lk_X1_211 1 yk_X1_person rfl ⟨by decide, by decide⟩ hx0 rfl rfl (Nat.le_of_ble_eq_true rfl) dX1_marginalRate_2 ⟨Nat.zero_le _, Nat.zero_le _⟩ rfl ?_
  refine r_pop 6 (hJ.pu _ _ _) dX1_marginalRate_5 rfl rfl ?_
  refine r_iload_n 7 2 (hJ.pu _ _ _) dX1_marginalRate_6 rfl rfl ?_
  refine r_iconst 8 0 (hJ.pu _ _ _) dX1_marginalRate_7 (by decide) rfl ?_
  refine r_sipush 11 9998 (hJ.pu _ _ _) dX1_marginalRate_8 (by decide) rfl ?_
  refine cs_row 14 hJ (ts_X1_isBetween D l q 0 9998) lk_X1_70 3 yk_X1_isBetween rfl ⟨by decide, by decide⟩ rfl (Nat.le_of_ble_eq_true rfl) dX1_marginalRate_11 ⟨Nat.zero_le _, Nat.zero_le _⟩ rfl ?_
  refine r_eqi (0) (by simp [zB, hb]) ?_
  exact x_callS hT (xt_X1_requireArgument D l hl) (ci := 24) rfl lk_X1_74 1 yk_X1_requireArgument rfl ⟨by decide, by decide⟩ rfl (Nat.le_of_ble_eq_true rfl) dX1_marginalRate_14 ⟨by decide, by decide⟩ (fun x hx => Or.inr hx) (fun q H1 h1 h2 h3 => hO _ _ _ _ _ _ (by decide) (by decide) h1 h2)
theorem lk_X1_171 : GoodIn lw_all (wsV RX1 171 yX1_requireCredit.cls yX1_requireCredit (ws_ yX1_requireCredit cX1_requireCredit 2 none)) := lw_V q2425 q2427 qs47 q102 q2428
theorem yk_X1_requireCredit : yOk yX1_requireCredit 1 := by decide +kernel
set_option maxHeartbeats 2000000 in
theorem xt_X1_carried_c (D : DD) (l : Launch) (hl : l.stackTraces = false) {H0 : Heap} {K0 : Nat → Prop} (x : Nat) (wd rd : Nat → Nat) (g : Nat → Int32) (h : Nat → Int64) (nb nch ncr : Nat) (hx0 : fld D 1 x 0 (.ref (wd 0)) H0) (hw : woK K0 D wd rd g h nb nch ncr H0) (hnb : nb ≤ 6) (hch : nch ≤ 4) (hcr : ncr ≤ 6) (p : Nat) (hp : p < 6) (q : Int32) (hb : inB q 0 ((nI ncr) - 1) = false) : Xt D l yX1_carried cX1_carried 3 (some .long) 8 1 6 141 [.ref x, .int (nI p), .int q] H0 RJ20 (fun H => fr (fun q => H0.size ≤ q) H0 H) (fun q => H0.size ≤ q) := by
  refine Xt.of hl (by decide) (Nat.le_of_ble_eq_true rfl) (fun q h => h) (fun s J X hT hO => ?_)
  have hJ := hT.j
  show J H0 0 0 0 [] [(0, .ref x), (1, .int (nI p)), (2, .int q)]
  refine r_aload_n 1 0 (hJ.pu _ _ _) dX1_carried_0 rfl rfl ?_
  refine r_iload_n 2 1 (hJ.pu _ _ _) dX1_carried_1 rfl rfl ?_
  refine j_callp 5 hJ (cp_X1_person D l x wd rd g h nb nch ncr hx0 hw hnb hch hcr p (by omega) (per_in (by omega))) lk_X1_211 1 yk_X1_person rfl ⟨by decide, by decide⟩ hx0 rfl rfl (Nat.le_of_ble_eq_true rfl) dX1_carried_2 ⟨Nat.zero_le _, Nat.zero_le _⟩ rfl ?_
  refine r_pop 6 (hJ.pu _ _ _) dX1_carried_5 rfl rfl ?_
  refine r_aload_n 7 0 (hJ.pu _ _ _) dX1_carried_6 rfl rfl ?_
  refine r_iload_n 8 2 (hJ.pu _ _ _) dX1_carried_7 rfl rfl ?_
  exact x_callV hT (xt_X1_requireCredit_b D l hl x wd rd g h nb nch ncr hx0 hw hnb hch hcr q hb) (ci := 26) rfl lk_X1_171 1 yk_X1_requireCredit rfl ⟨by decide, by decide⟩ hx0 rfl rfl (Nat.le_of_ble_eq_true rfl) dX1_carried_8 ⟨by decide, by decide⟩ (fun x hx => Or.inr hx) (fun q H1 h1 h2 h3 => hO _ _ _ _ _ _ (by decide) (by decide) h1 h2)
set_option maxHeartbeats 2000000 in
theorem xt_X1_creditPart_c (D : DD) (l : Launch) (hl : l.stackTraces = false) {H0 : Heap} {K0 : Nat → Prop} (x : Nat) (wd rd : Nat → Nat) (g : Nat → Int32) (h : Nat → Int64) (nb nch ncr : Nat) (hx0 : fld D 1 x 0 (.ref (wd 0)) H0) (hw : woK K0 D wd rd g h nb nch ncr H0) (hnb : nb ≤ 6) (hch : nch ≤ 4) (hcr : ncr ≤ 6) (p : Nat) (hp : p < 6) (q r : Int32) (hb : inB q 0 ((nI ncr) - 1) = false) : Xt D l yX1_creditPart cX1_creditPart 4 (some .long) 8 1 6 141 [.ref x, .int (nI p), .int q, .int r] H0 RJ20 (fun H => fr (fun q => H0.size ≤ q) H0 H) (fun q => H0.size ≤ q) := by
  refine Xt.of hl (by decide) (Nat.le_of_ble_eq_true rfl) (fun q h => h) (fun s J X hT hO => ?_)
  have hJ := hT.j
  show J H0 0 0 0 [] [(0, .ref x), (1, .int (nI p)), (2, .int q), (3, .int r)]
  refine r_aload_n 1 0 (hJ.pu _ _ _) dX1_creditPart_0 rfl rfl ?_
  refine r_iload_n 2 1 (hJ.pu _ _ _) dX1_creditPart_1 rfl rfl ?_
  refine j_callp 5 hJ (cp_X1_person D l x wd rd g h nb nch ncr hx0 hw hnb hch hcr p (by omega) (per_in (by omega))) lk_X1_211 1 yk_X1_person rfl ⟨by decide, by decide⟩ hx0 rfl rfl (Nat.le_of_ble_eq_true rfl) dX1_creditPart_2 ⟨Nat.zero_le _, Nat.zero_le _⟩ rfl ?_
  refine r_pop 6 (hJ.pu _ _ _) dX1_creditPart_5 rfl rfl ?_
  refine r_aload_n 7 0 (hJ.pu _ _ _) dX1_creditPart_6 rfl rfl ?_
  refine r_iload_n 8 2 (hJ.pu _ _ _) dX1_creditPart_7 rfl rfl ?_
  exact x_callV hT (xt_X1_requireCredit_b D l hl x wd rd g h nb nch ncr hx0 hw hnb hch hcr q hb) (ci := 26) rfl lk_X1_171 1 yk_X1_requireCredit rfl ⟨by decide, by decide⟩ hx0 rfl rfl (Nat.le_of_ble_eq_true rfl) dX1_creditPart_8 ⟨by decide, by decide⟩ (fun x hx => Or.inr hx) (fun q H1 h1 h2 h3 => hO _ _ _ _ _ _ (by decide) (by decide) h1 h2)
set_option maxHeartbeats 2000000 in
theorem xt_X1_creditPart_d (D : DD) (l : Launch) (hl : l.stackTraces = false) {H0 : Heap} {K0 : Nat → Prop} (x : Nat) (wd rd : Nat → Nat) (g : Nat → Int32) (h : Nat → Int64) (nb nch ncr : Nat) (hx0 : fld D 1 x 0 (.ref (wd 0)) H0) (hw : woK K0 D wd rd g h nb nch ncr H0) (hnb : nb ≤ 6) (hch : nch ≤ 4) (hcr : ncr ≤ 6) (p : Nat) (hp : p < 6) (q r : Int32) (hcb : inB q 0 ((nI ncr) - 1) = true) (hb : inB r 0 4 = false) : Xt D l yX1_creditPart cX1_creditPart 4 (some .long) 7 1 6 120 [.ref x, .int (nI p), .int q, .int r] H0 RJ18 (fun H => fr (fun q => H0.size ≤ q) H0 H) (fun q => H0.size ≤ q) := by
  refine Xt.of hl (by decide) (Nat.le_of_ble_eq_true rfl) (fun q h => h) (fun s J X hT hO => ?_)
  have hJ := hT.j
  show J H0 0 0 0 [] [(0, .ref x), (1, .int (nI p)), (2, .int q), (3, .int r)]
  refine r_aload_n 1 0 (hJ.pu _ _ _) dX1_creditPart_0 rfl rfl ?_
  refine r_iload_n 2 1 (hJ.pu _ _ _) dX1_creditPart_1 rfl rfl ?_
  refine j_callp 5 hJ (cp_X1_person D l x wd rd g h nb nch ncr hx0 hw hnb hch hcr p (by omega) (per_in (by omega))) lk_X1_211 1 yk_X1_person rfl ⟨by decide, by decide⟩ hx0 rfl rfl (Nat.le_of_ble_eq_true rfl) dX1_creditPart_2 ⟨Nat.zero_le _, Nat.zero_le _⟩ rfl ?_
  refine r_pop 6 (hJ.pu _ _ _) dX1_creditPart_5 rfl rfl ?_
  refine r_aload_n 7 0 (hJ.pu _ _ _) dX1_creditPart_6 rfl rfl ?_
  refine r_iload_n 8 2 (hJ.pu _ _ _) dX1_creditPart_7 rfl rfl ?_
  refine j_callp 11 hJ (cp_X1_requireCredit D l x wd rd g h nb nch ncr hx0 hw hnb hch hcr q hcb) lk_X1_171 1 yk_X1_requireCredit rfl ⟨by decide, by decide⟩ hx0 rfl rfl (Nat.le_of_ble_eq_true rfl) dX1_creditPart_8 ⟨Nat.zero_le _, Nat.zero_le _⟩ rfl ?_
  refine r_iload_n 12 3 (hJ.pu _ _ _) dX1_creditPart_11 rfl rfl ?_
  refine r_iconst 13 0 (hJ.pu _ _ _) dX1_creditPart_12 (by decide) rfl ?_
  refine r_iconst 14 4 (hJ.pu _ _ _) dX1_creditPart_13 (by decide) rfl ?_
  refine cs_row 17 hJ (ts_X1_isBetween D l r 0 4) lk_X1_70 3 yk_X1_isBetween rfl ⟨by decide, by decide⟩ rfl (Nat.le_of_ble_eq_true rfl) dX1_creditPart_14 ⟨Nat.zero_le _, Nat.zero_le _⟩ rfl ?_
  refine r_eqi (0) (by simp [zB, hb]) ?_
  exact x_callS hT (xt_X1_requireArgument D l hl) (ci := 24) rfl lk_X1_74 1 yk_X1_requireArgument rfl ⟨by decide, by decide⟩ rfl (Nat.le_of_ble_eq_true rfl) dX1_creditPart_17 ⟨by decide, by decide⟩ (fun x hx => Or.inr hx) (fun q H1 h1 h2 h3 => hO _ _ _ _ _ _ (by decide) (by decide) h1 h2)
theorem lk_X1_235 : GoodIn lw_all (wsV RX1 235 yX1_requirePartner.cls yX1_requirePartner (ws_ yX1_requirePartner cX1_requirePartner 2 (some .int))) := lw_V q3201 q3203 qs52 q102 q3204
theorem yk_X1_requirePartner : yOk yX1_requirePartner 1 := by decide +kernel
set_option maxHeartbeats 2000000 in
theorem xt_X1_partner_b (D : DD) (l : Launch) (hl : l.stackTraces = false) {H0 : Heap} {K0 : Nat → Prop} (x : Nat) (wd rd : Nat → Nat) (g : Nat → Int32) (h : Nat → Int64) (nb nch ncr : Nat) (hx0 : fld D 1 x 0 (.ref (wd 0)) H0) (hw : woK K0 D wd rd g h nb nch ncr H0) (hnb : nb ≤ 6) (hch : nch ≤ 4) (hcr : ncr ≤ 6) (p : Int32) (hb : inB p 0 5 = false) : Xt D l yX1_partner cX1_partner 2 (some .int) 9 1 6 162 [.ref x, .int p] H0 RJ20 (fun H => fr (fun q => H0.size ≤ q) H0 H) (fun q => H0.size ≤ q) := by
  refine Xt.of hl (by decide) (Nat.le_of_ble_eq_true rfl) (fun q h => h) (fun s J X hT hO => ?_)
  have hJ := hT.j
  show J H0 0 0 0 [] [(0, .ref x), (1, .int p)]
  refine r_aload_n 1 0 (hJ.pu _ _ _) dX1_partner_0 rfl rfl ?_
  refine r_iload_n 2 1 (hJ.pu _ _ _) dX1_partner_1 rfl rfl ?_
  exact x_callV hT (xt_X1_requirePartner_b D l hl x wd rd g h nb nch ncr hx0 hw hnb hch hcr p hb) (ci := 26) rfl lk_X1_235 1 yk_X1_requirePartner rfl ⟨by decide, by decide⟩ hx0 rfl rfl (Nat.le_of_ble_eq_true rfl) dX1_partner_2 ⟨by decide, by decide⟩ (fun x hx => Or.inr hx) (fun q H1 h1 h2 h3 => hO _ _ _ _ _ _ (by decide) (by decide) h1 h2)
set_option maxHeartbeats 2000000 in
theorem xt_X1_partner_c (D : DD) (l : Launch) (hl : l.stackTraces = false) {H0 : Heap} {K0 : Nat → Prop} (x : Nat) (wd rd : Nat → Nat) (g : Nat → Int32) (h : Nat → Int64) (nb nch ncr : Nat) (hx0 : fld D 1 x 0 (.ref (wd 0)) H0) (hw : woK K0 D wd rd g h nb nch ncr H0) (hnb : nb ≤ 6) (hch : nch ≤ 4) (hcr : ncr ≤ 6) (p : Nat) (hp : p < 6) (hno : g (82 + p) = -1) : Xt D l yX1_partner cX1_partner 2 (some .int) 8 1 6 141 [.ref x, .int (nI p)] H0 RJ38 (fun H => fr (fun q => H0.size ≤ q) H0 H) (fun q => H0.size ≤ q) := by
  refine Xt.of hl (by decide) (Nat.le_of_ble_eq_true rfl) (fun q h => h) (fun s J X hT hO => ?_)
  have hJ := hT.j
  show J H0 0 0 0 [] [(0, .ref x), (1, .int (nI p))]
  refine r_aload_n 1 0 (hJ.pu _ _ _) dX1_partner_0 rfl rfl ?_
  refine r_iload_n 2 1 (hJ.pu _ _ _) dX1_partner_1 rfl rfl ?_
  exact x_callV hT (xt_X1_requirePartner_c D l hl x wd rd g h nb nch ncr hx0 hw hnb hch hcr p hp hno) (ci := 27) rfl lk_X1_235 1 yk_X1_requirePartner rfl ⟨by decide, by decide⟩ hx0 rfl rfl (Nat.le_of_ble_eq_true rfl) dX1_partner_2 ⟨by decide, by decide⟩ (fun x hx => Or.inr hx) (fun q H1 h1 h2 h3 => hO _ _ _ _ _ _ (by decide) (by decide) h1 h2)
set_option maxHeartbeats 2000000 in
theorem xt_X1_jointTax_b (D : DD) (l : Launch) (hl : l.stackTraces = false) {H0 : Heap} {K0 : Nat → Prop} (x : Nat) (wd rd : Nat → Nat) (g : Nat → Int32) (h : Nat → Int64) (nb nch ncr : Nat) (hx0 : fld D 1 x 0 (.ref (wd 0)) H0) (hw : woK K0 D wd rd g h nb nch ncr H0) (hnb : nb ≤ 6) (hch : nch ≤ 4) (hcr : ncr ≤ 6) (p : Int32) (hb : inB p 0 5 = false) : Xt D l yX1_jointTax cX1_jointTax 2 (some .long) 9 1 6 162 [.ref x, .int p] H0 RJ20 (fun H => fr (fun q => H0.size ≤ q) H0 H) (fun q => H0.size ≤ q) := by
  refine Xt.of hl (by decide) (Nat.le_of_ble_eq_true rfl) (fun q h => h) (fun s J X hT hO => ?_)
  have hJ := hT.j
  show J H0 0 0 0 [] [(0, .ref x), (1, .int p)]
  refine r_aload_n 1 0 (hJ.pu _ _ _) dX1_jointTax_0 rfl rfl ?_
  refine r_iload_n 2 1 (hJ.pu _ _ _) dX1_jointTax_1 rfl rfl ?_
  exact x_callV hT (xt_X1_requirePartner_b D l hl x wd rd g h nb nch ncr hx0 hw hnb hch hcr p hb) (ci := 26) rfl lk_X1_235 1 yk_X1_requirePartner rfl ⟨by decide, by decide⟩ hx0 rfl rfl (Nat.le_of_ble_eq_true rfl) dX1_jointTax_2 ⟨by decide, by decide⟩ (fun x hx => Or.inr hx) (fun q H1 h1 h2 h3 => hO _ _ _ _ _ _ (by decide) (by decide) h1 h2)
set_option maxHeartbeats 2000000 in
theorem xt_X1_jointTax_c (D : DD) (l : Launch) (hl : l.stackTraces = false) {H0 : Heap} {K0 : Nat → Prop} (x : Nat) (wd rd : Nat → Nat) (g : Nat → Int32) (h : Nat → Int64) (nb nch ncr : Nat) (hx0 : fld D 1 x 0 (.ref (wd 0)) H0) (hw : woK K0 D wd rd g h nb nch ncr H0) (hnb : nb ≤ 6) (hch : nch ≤ 4) (hcr : ncr ≤ 6) (p : Nat) (hp : p < 6) (hno : g (82 + p) = -1) : Xt D l yX1_jointTax cX1_jointTax 2 (some .long) 8 1 6 141 [.ref x, .int (nI p)] H0 RJ38 (fun H => fr (fun q => H0.size ≤ q) H0 H) (fun q => H0.size ≤ q) := by
  refine Xt.of hl (by decide) (Nat.le_of_ble_eq_true rfl) (fun q h => h) (fun s J X hT hO => ?_)
  have hJ := hT.j
  show J H0 0 0 0 [] [(0, .ref x), (1, .int (nI p))]
  refine r_aload_n 1 0 (hJ.pu _ _ _) dX1_jointTax_0 rfl rfl ?_
  refine r_iload_n 2 1 (hJ.pu _ _ _) dX1_jointTax_1 rfl rfl ?_
  exact x_callV hT (xt_X1_requirePartner_c D l hl x wd rd g h nb nch ncr hx0 hw hnb hch hcr p hp hno) (ci := 27) rfl lk_X1_235 1 yk_X1_requirePartner rfl ⟨by decide, by decide⟩ hx0 rfl rfl (Nat.le_of_ble_eq_true rfl) dX1_jointTax_2 ⟨by decide, by decide⟩ (fun x hx => Or.inr hx) (fun q H1 h1 h2 h3 => hO _ _ _ _ _ _ (by decide) (by decide) h1 h2)
set_option maxHeartbeats 2000000 in
theorem xt_X1_separateTax_b (D : DD) (l : Launch) (hl : l.stackTraces = false) {H0 : Heap} {K0 : Nat → Prop} (x : Nat) (wd rd : Nat → Nat) (g : Nat → Int32) (h : Nat → Int64) (nb nch ncr : Nat) (hx0 : fld D 1 x 0 (.ref (wd 0)) H0) (hw : woK K0 D wd rd g h nb nch ncr H0) (hnb : nb ≤ 6) (hch : nch ≤ 4) (hcr : ncr ≤ 6) (p : Int32) (hb : inB p 0 5 = false) : Xt D l yX1_separateTax cX1_separateTax 2 (some .long) 9 1 6 162 [.ref x, .int p] H0 RJ20 (fun H => fr (fun q => H0.size ≤ q) H0 H) (fun q => H0.size ≤ q) := by
  refine Xt.of hl (by decide) (Nat.le_of_ble_eq_true rfl) (fun q h => h) (fun s J X hT hO => ?_)
  have hJ := hT.j
  show J H0 0 0 0 [] [(0, .ref x), (1, .int p)]
  refine r_aload_n 1 0 (hJ.pu _ _ _) dX1_separateTax_0 rfl rfl ?_
  refine r_iload_n 2 1 (hJ.pu _ _ _) dX1_separateTax_1 rfl rfl ?_
  exact x_callV hT (xt_X1_requirePartner_b D l hl x wd rd g h nb nch ncr hx0 hw hnb hch hcr p hb) (ci := 26) rfl lk_X1_235 1 yk_X1_requirePartner rfl ⟨by decide, by decide⟩ hx0 rfl rfl (Nat.le_of_ble_eq_true rfl) dX1_separateTax_2 ⟨by decide, by decide⟩ (fun x hx => Or.inr hx) (fun q H1 h1 h2 h3 => hO _ _ _ _ _ _ (by decide) (by decide) h1 h2)
set_option maxHeartbeats 2000000 in
theorem xt_X1_separateTax_c (D : DD) (l : Launch) (hl : l.stackTraces = false) {H0 : Heap} {K0 : Nat → Prop} (x : Nat) (wd rd : Nat → Nat) (g : Nat → Int32) (h : Nat → Int64) (nb nch ncr : Nat) (hx0 : fld D 1 x 0 (.ref (wd 0)) H0) (hw : woK K0 D wd rd g h nb nch ncr H0) (hnb : nb ≤ 6) (hch : nch ≤ 4) (hcr : ncr ≤ 6) (p : Nat) (hp : p < 6) (hno : g (82 + p) = -1) : Xt D l yX1_separateTax cX1_separateTax 2 (some .long) 8 1 6 141 [.ref x, .int (nI p)] H0 RJ38 (fun H => fr (fun q => H0.size ≤ q) H0 H) (fun q => H0.size ≤ q) := by
  refine Xt.of hl (by decide) (Nat.le_of_ble_eq_true rfl) (fun q h => h) (fun s J X hT hO => ?_)
  have hJ := hT.j
  show J H0 0 0 0 [] [(0, .ref x), (1, .int (nI p))]
  refine r_aload_n 1 0 (hJ.pu _ _ _) dX1_separateTax_0 rfl rfl ?_
  refine r_iload_n 2 1 (hJ.pu _ _ _) dX1_separateTax_1 rfl rfl ?_
  exact x_callV hT (xt_X1_requirePartner_c D l hl x wd rd g h nb nch ncr hx0 hw hnb hch hcr p hp hno) (ci := 27) rfl lk_X1_235 1 yk_X1_requirePartner rfl ⟨by decide, by decide⟩ hx0 rfl rfl (Nat.le_of_ble_eq_true rfl) dX1_separateTax_2 ⟨by decide, by decide⟩ (fun x hx => Or.inr hx) (fun q H1 h1 h2 h3 => hO _ _ _ _ _ _ (by decide) (by decide) h1 h2)
set_option maxHeartbeats 2000000 in
theorem xt_X1_division_b (D : DD) (l : Launch) (hl : l.stackTraces = false) {H0 : Heap} {K0 : Nat → Prop} (x : Nat) (wd rd : Nat → Nat) (g : Nat → Int32) (h : Nat → Int64) (nb nch ncr : Nat) (hx0 : fld D 1 x 0 (.ref (wd 0)) H0) (hw : woK K0 D wd rd g h nb nch ncr H0) (hnb : nb ≤ 6) (hch : nch ≤ 4) (hcr : ncr ≤ 6) (p : Int32) (hb : inB p 0 5 = false) : Xt D l yX1_division cX1_division 2 (some .int) 9 1 6 162 [.ref x, .int p] H0 RJ20 (fun H => fr (fun q => H0.size ≤ q) H0 H) (fun q => H0.size ≤ q) := by
  refine Xt.of hl (by decide) (Nat.le_of_ble_eq_true rfl) (fun q h => h) (fun s J X hT hO => ?_)
  have hJ := hT.j
  show J H0 0 0 0 [] [(0, .ref x), (1, .int p)]
  refine r_aload_n 1 0 (hJ.pu _ _ _) dX1_division_0 rfl rfl ?_
  refine r_iload_n 2 1 (hJ.pu _ _ _) dX1_division_1 rfl rfl ?_
  exact x_callV hT (xt_X1_requirePartner_b D l hl x wd rd g h nb nch ncr hx0 hw hnb hch hcr p hb) (ci := 26) rfl lk_X1_235 1 yk_X1_requirePartner rfl ⟨by decide, by decide⟩ hx0 rfl rfl (Nat.le_of_ble_eq_true rfl) dX1_division_2 ⟨by decide, by decide⟩ (fun x hx => Or.inr hx) (fun q H1 h1 h2 h3 => hO _ _ _ _ _ _ (by decide) (by decide) h1 h2)
set_option maxHeartbeats 2000000 in
theorem xt_X1_division_c (D : DD) (l : Launch) (hl : l.stackTraces = false) {H0 : Heap} {K0 : Nat → Prop} (x : Nat) (wd rd : Nat → Nat) (g : Nat → Int32) (h : Nat → Int64) (nb nch ncr : Nat) (hx0 : fld D 1 x 0 (.ref (wd 0)) H0) (hw : woK K0 D wd rd g h nb nch ncr H0) (hnb : nb ≤ 6) (hch : nch ≤ 4) (hcr : ncr ≤ 6) (p : Nat) (hp : p < 6) (hno : g (82 + p) = -1) : Xt D l yX1_division cX1_division 2 (some .int) 8 1 6 141 [.ref x, .int (nI p)] H0 RJ38 (fun H => fr (fun q => H0.size ≤ q) H0 H) (fun q => H0.size ≤ q) := by
  refine Xt.of hl (by decide) (Nat.le_of_ble_eq_true rfl) (fun q h => h) (fun s J X hT hO => ?_)
  have hJ := hT.j
  show J H0 0 0 0 [] [(0, .ref x), (1, .int (nI p))]
  refine r_aload_n 1 0 (hJ.pu _ _ _) dX1_division_0 rfl rfl ?_
  refine r_iload_n 2 1 (hJ.pu _ _ _) dX1_division_1 rfl rfl ?_
  exact x_callV hT (xt_X1_requirePartner_c D l hl x wd rd g h nb nch ncr hx0 hw hnb hch hcr p hp hno) (ci := 27) rfl lk_X1_235 1 yk_X1_requirePartner rfl ⟨by decide, by decide⟩ hx0 rfl rfl (Nat.le_of_ble_eq_true rfl) dX1_division_2 ⟨by decide, by decide⟩ (fun x hx => Or.inr hx) (fun q H1 h1 h2 h3 => hO _ _ _ _ _ _ (by decide) (by decide) h1 h2)
set_option maxHeartbeats 2000000 in
theorem xt_X1_choosesJoint_b (D : DD) (l : Launch) (hl : l.stackTraces = false) {H0 : Heap} {K0 : Nat → Prop} (x : Nat) (wd rd : Nat → Nat) (g : Nat → Int32) (h : Nat → Int64) (nb nch ncr : Nat) (hx0 : fld D 1 x 0 (.ref (wd 0)) H0) (hw : woK K0 D wd rd g h nb nch ncr H0) (hnb : nb ≤ 6) (hch : nch ≤ 4) (hcr : ncr ≤ 6) (p : Int32) (hb : inB p 0 5 = false) : Xt D l yX1_choosesJoint cX1_choosesJoint 2 (some .boolean) 9 1 6 162 [.ref x, .int p] H0 RJ20 (fun H => fr (fun q => H0.size ≤ q) H0 H) (fun q => H0.size ≤ q) := by
  refine Xt.of hl (by decide) (Nat.le_of_ble_eq_true rfl) (fun q h => h) (fun s J X hT hO => ?_)
  have hJ := hT.j
  show J H0 0 0 0 [] [(0, .ref x), (1, .int p)]
  refine r_aload_n 1 0 (hJ.pu _ _ _) dX1_choosesJoint_0 rfl rfl ?_
  refine r_iload_n 2 1 (hJ.pu _ _ _) dX1_choosesJoint_1 rfl rfl ?_
  exact x_callV hT (xt_X1_requirePartner_b D l hl x wd rd g h nb nch ncr hx0 hw hnb hch hcr p hb) (ci := 26) rfl lk_X1_235 1 yk_X1_requirePartner rfl ⟨by decide, by decide⟩ hx0 rfl rfl (Nat.le_of_ble_eq_true rfl) dX1_choosesJoint_2 ⟨by decide, by decide⟩ (fun x hx => Or.inr hx) (fun q H1 h1 h2 h3 => hO _ _ _ _ _ _ (by decide) (by decide) h1 h2)
set_option maxHeartbeats 2000000 in
theorem xt_X1_choosesJoint_c (D : DD) (l : Launch) (hl : l.stackTraces = false) {H0 : Heap} {K0 : Nat → Prop} (x : Nat) (wd rd : Nat → Nat) (g : Nat → Int32) (h : Nat → Int64) (nb nch ncr : Nat) (hx0 : fld D 1 x 0 (.ref (wd 0)) H0) (hw : woK K0 D wd rd g h nb nch ncr H0) (hnb : nb ≤ 6) (hch : nch ≤ 4) (hcr : ncr ≤ 6) (p : Nat) (hp : p < 6) (hno : g (82 + p) = -1) : Xt D l yX1_choosesJoint cX1_choosesJoint 2 (some .boolean) 8 1 6 141 [.ref x, .int (nI p)] H0 RJ38 (fun H => fr (fun q => H0.size ≤ q) H0 H) (fun q => H0.size ≤ q) := by
  refine Xt.of hl (by decide) (Nat.le_of_ble_eq_true rfl) (fun q h => h) (fun s J X hT hO => ?_)
  have hJ := hT.j
  show J H0 0 0 0 [] [(0, .ref x), (1, .int (nI p))]
  refine r_aload_n 1 0 (hJ.pu _ _ _) dX1_choosesJoint_0 rfl rfl ?_
  refine r_iload_n 2 1 (hJ.pu _ _ _) dX1_choosesJoint_1 rfl rfl ?_
  exact x_callV hT (xt_X1_requirePartner_c D l hl x wd rd g h nb nch ncr hx0 hw hnb hch hcr p hp hno) (ci := 27) rfl lk_X1_235 1 yk_X1_requirePartner rfl ⟨by decide, by decide⟩ hx0 rfl rfl (Nat.le_of_ble_eq_true rfl) dX1_choosesJoint_2 ⟨by decide, by decide⟩ (fun x hx => Or.inr hx) (fun q H1 h1 h2 h3 => hO _ _ _ _ _ _ (by decide) (by decide) h1 h2)
set_option maxHeartbeats 2000000 in
theorem xt_X1_part_b (D : DD) (l : Launch) (hl : l.stackTraces = false) {H0 : Heap} {K0 : Nat → Prop} (x : Nat) (wd rd : Nat → Nat) (g : Nat → Int32) (h : Nat → Int64) (nb nch ncr : Nat) (hx0 : fld D 1 x 0 (.ref (wd 0)) H0) (hw : woK K0 D wd rd g h nb nch ncr H0) (hnb : nb ≤ 6) (hch : nch ≤ 4) (hcr : ncr ≤ 6) (p : Int32) (hb : inB p 0 5 = false) : Xt D l yX1_part cX1_part 4 (some .int) 9 1 6 162 [.ref x, .int p] H0 RJ20 (fun H => fr (fun q => H0.size ≤ q) H0 H) (fun q => H0.size ≤ q) := by
  refine Xt.of hl (by decide) (Nat.le_of_ble_eq_true rfl) (fun q h => h) (fun s J X hT hO => ?_)
  have hJ := hT.j
  show J H0 0 0 0 [] [(0, .ref x), (1, .int p)]
  refine r_aload_n 1 0 (hJ.pu _ _ _) dX1_part_0 rfl rfl ?_
  refine r_iload_n 2 1 (hJ.pu _ _ _) dX1_part_1 rfl rfl ?_
  exact x_callV hT (xt_X1_requirePartner_b D l hl x wd rd g h nb nch ncr hx0 hw hnb hch hcr p hb) (ci := 26) rfl lk_X1_235 1 yk_X1_requirePartner rfl ⟨by decide, by decide⟩ hx0 rfl rfl (Nat.le_of_ble_eq_true rfl) dX1_part_2 ⟨by decide, by decide⟩ (fun x hx => Or.inr hx) (fun q H1 h1 h2 h3 => hO _ _ _ _ _ _ (by decide) (by decide) h1 h2)
set_option maxHeartbeats 2000000 in
theorem xt_X1_part_c (D : DD) (l : Launch) (hl : l.stackTraces = false) {H0 : Heap} {K0 : Nat → Prop} (x : Nat) (wd rd : Nat → Nat) (g : Nat → Int32) (h : Nat → Int64) (nb nch ncr : Nat) (hx0 : fld D 1 x 0 (.ref (wd 0)) H0) (hw : woK K0 D wd rd g h nb nch ncr H0) (hnb : nb ≤ 6) (hch : nch ≤ 4) (hcr : ncr ≤ 6) (p : Nat) (hp : p < 6) (hno : g (82 + p) = -1) : Xt D l yX1_part cX1_part 4 (some .int) 8 1 6 141 [.ref x, .int (nI p)] H0 RJ38 (fun H => fr (fun q => H0.size ≤ q) H0 H) (fun q => H0.size ≤ q) := by
  refine Xt.of hl (by decide) (Nat.le_of_ble_eq_true rfl) (fun q h => h) (fun s J X hT hO => ?_)
  have hJ := hT.j
  show J H0 0 0 0 [] [(0, .ref x), (1, .int (nI p))]
  refine r_aload_n 1 0 (hJ.pu _ _ _) dX1_part_0 rfl rfl ?_
  refine r_iload_n 2 1 (hJ.pu _ _ _) dX1_part_1 rfl rfl ?_
  exact x_callV hT (xt_X1_requirePartner_c D l hl x wd rd g h nb nch ncr hx0 hw hnb hch hcr p hp hno) (ci := 27) rfl lk_X1_235 1 yk_X1_requirePartner rfl ⟨by decide, by decide⟩ hx0 rfl rfl (Nat.le_of_ble_eq_true rfl) dX1_part_2 ⟨by decide, by decide⟩ (fun x hx => Or.inr hx) (fun q H1 h1 h2 h3 => hO _ _ _ _ _ _ (by decide) (by decide) h1 h2)
set_option maxHeartbeats 2000000 in
theorem xt_X1_credit_b (D : DD) (l : Launch) (hl : l.stackTraces = false) {H0 : Heap} {K0 : Nat → Prop} (x : Nat) (wd rd : Nat → Nat) (g : Nat → Int32) (h : Nat → Int64) (nb nch ncr : Nat) (hx0 : fld D 1 x 0 (.ref (wd 0)) H0) (hw : woK K0 D wd rd g h nb nch ncr H0) (hnb : nb ≤ 6) (hch : nch ≤ 4) (hcr : ncr ≤ 6) (c : Int32) (hb : inB c 0 ((nI ncr) - 1) = false) (q : Int32) : Xt D l yX1_credit cX1_credit 3 (some .int) 8 1 6 141 [.ref x, .int c, .int q] H0 RJ20 (fun H => fr (fun q => H0.size ≤ q) H0 H) (fun q => H0.size ≤ q) := by
  refine Xt.of hl (by decide) (Nat.le_of_ble_eq_true rfl) (fun q h => h) (fun s J X hT hO => ?_)
  have hJ := hT.j
  show J H0 0 0 0 [] [(0, .ref x), (1, .int c), (2, .int q)]
  refine r_aload_n 1 0 (hJ.pu _ _ _) dX1_credit_0 rfl rfl ?_
  refine r_iload_n 2 1 (hJ.pu _ _ _) dX1_credit_1 rfl rfl ?_
  exact x_callV hT (xt_X1_requireCredit_b D l hl x wd rd g h nb nch ncr hx0 hw hnb hch hcr c hb) (ci := 26) rfl lk_X1_171 1 yk_X1_requireCredit rfl ⟨by decide, by decide⟩ hx0 rfl rfl (Nat.le_of_ble_eq_true rfl) dX1_credit_2 ⟨by decide, by decide⟩ (fun x hx => Or.inr hx) (fun q H1 h1 h2 h3 => hO _ _ _ _ _ _ (by decide) (by decide) h1 h2)
set_option maxHeartbeats 2000000 in
theorem xt_X1_credit_c (D : DD) (l : Launch) (hl : l.stackTraces = false) {H0 : Heap} {K0 : Nat → Prop} (x : Nat) (wd rd : Nat → Nat) (g : Nat → Int32) (h : Nat → Int64) (nb nch ncr : Nat) (hx0 : fld D 1 x 0 (.ref (wd 0)) H0) (hw : woK K0 D wd rd g h nb nch ncr H0) (hnb : nb ≤ 6) (hch : nch ≤ 4) (hcr : ncr ≤ 6) (c q : Int32) (hcb : inB c 0 ((nI ncr) - 1) = true) (hb : inB q 0 5 = false) : Xt D l yX1_credit cX1_credit 3 (some .int) 7 1 6 120 [.ref x, .int c, .int q] H0 RJ18 (fun H => fr (fun q => H0.size ≤ q) H0 H) (fun q => H0.size ≤ q) := by
  refine Xt.of hl (by decide) (Nat.le_of_ble_eq_true rfl) (fun q h => h) (fun s J X hT hO => ?_)
  have hJ := hT.j
  show J H0 0 0 0 [] [(0, .ref x), (1, .int c), (2, .int q)]
  refine r_aload_n 1 0 (hJ.pu _ _ _) dX1_credit_0 rfl rfl ?_
  refine r_iload_n 2 1 (hJ.pu _ _ _) dX1_credit_1 rfl rfl ?_
  refine j_callp 5 hJ (cp_X1_requireCredit D l x wd rd g h nb nch ncr hx0 hw hnb hch hcr c hcb) lk_X1_171 1 yk_X1_requireCredit rfl ⟨by decide, by decide⟩ hx0 rfl rfl (Nat.le_of_ble_eq_true rfl) dX1_credit_2 ⟨Nat.zero_le _, Nat.zero_le _⟩ rfl ?_
  refine r_iload_n 6 2 (hJ.pu _ _ _) dX1_credit_5 rfl rfl ?_
  refine r_iconst 7 0 (hJ.pu _ _ _) dX1_credit_6 (by decide) rfl ?_
  refine r_iconst 8 5 (hJ.pu _ _ _) dX1_credit_7 (by decide) rfl ?_
  refine cs_row 11 hJ (ts_X1_isBetween D l q 0 5) lk_X1_70 3 yk_X1_isBetween rfl ⟨by decide, by decide⟩ rfl (Nat.le_of_ble_eq_true rfl) dX1_credit_8 ⟨Nat.zero_le _, Nat.zero_le _⟩ rfl ?_
  refine r_eqi (0) (by simp [zB, hb]) ?_
  exact x_callS hT (xt_X1_requireArgument D l hl) (ci := 24) rfl lk_X1_74 1 yk_X1_requireArgument rfl ⟨by decide, by decide⟩ rfl (Nat.le_of_ble_eq_true rfl) dX1_credit_11 ⟨by decide, by decide⟩ (fun x hx => Or.inr hx) (fun q H1 h1 h2 h3 => hO _ _ _ _ _ _ (by decide) (by decide) h1 h2)
set_option maxHeartbeats 2000000 in
theorem xt_X1_removeCredit_b (D : DD) (l : Launch) (hl : l.stackTraces = false) {H0 : Heap} {K0 : Nat → Prop} (x : Nat) (wd rd : Nat → Nat) (g : Nat → Int32) (h : Nat → Int64) (nb nch ncr : Nat) (hx0 : fld D 1 x 0 (.ref (wd 0)) H0) (hw : woK K0 D wd rd g h nb nch ncr H0) (hnb : nb ≤ 6) (hch : nch ≤ 4) (hcr : ncr ≤ 6) (c : Int32) (hb : inB c 0 ((nI ncr) - 1) = false) : Xt D l yX1_removeCredit cX1_removeCredit 5 (some .int) 8 1 6 141 [.ref x, .int c] H0 RJ20 (fun H => fr (fun q => H0.size ≤ q) H0 H) (fun q => H0.size ≤ q) := by
  refine Xt.of hl (by decide) (Nat.le_of_ble_eq_true rfl) (fun q h => h) (fun s J X hT hO => ?_)
  have hJ := hT.j
  show J H0 0 0 0 [] [(0, .ref x), (1, .int c)]
  refine r_aload_n 1 0 (hJ.pu _ _ _) dX1_removeCredit_0 rfl rfl ?_
  refine r_iload_n 2 1 (hJ.pu _ _ _) dX1_removeCredit_1 rfl rfl ?_
  exact x_callV hT (xt_X1_requireCredit_b D l hl x wd rd g h nb nch ncr hx0 hw hnb hch hcr c hb) (ci := 26) rfl lk_X1_171 1 yk_X1_requireCredit rfl ⟨by decide, by decide⟩ hx0 rfl rfl (Nat.le_of_ble_eq_true rfl) dX1_removeCredit_2 ⟨by decide, by decide⟩ (fun x hx => Or.inr hx) (fun q H1 h1 h2 h3 => hO _ _ _ _ _ _ (by decide) (by decide) h1 h2)
set_option maxHeartbeats 2000000 in
theorem xt_X1_moveCredit_b (D : DD) (l : Launch) (hl : l.stackTraces = false) {H0 : Heap} {K0 : Nat → Prop} (x : Nat) (wd rd : Nat → Nat) (g : Nat → Int32) (h : Nat → Int64) (nb nch ncr : Nat) (hx0 : fld D 1 x 0 (.ref (wd 0)) H0) (hw : woK K0 D wd rd g h nb nch ncr H0) (hnb : nb ≤ 6) (hch : nch ≤ 4) (hcr : ncr ≤ 6) (c : Int32) (hb : inB c 0 ((nI ncr) - 1) = false) (q : Int32) : Xt D l yX1_moveCredit cX1_moveCredit 4 none 8 1 6 141 [.ref x, .int c, .int q] H0 RJ20 (fun H => fr (fun q => H0.size ≤ q) H0 H) (fun q => H0.size ≤ q) := by
  refine Xt.of hl (by decide) (Nat.le_of_ble_eq_true rfl) (fun q h => h) (fun s J X hT hO => ?_)
  have hJ := hT.j
  show J H0 0 0 0 [] [(0, .ref x), (1, .int c), (2, .int q)]
  refine r_aload_n 1 0 (hJ.pu _ _ _) dX1_moveCredit_0 rfl rfl ?_
  refine r_iload_n 2 1 (hJ.pu _ _ _) dX1_moveCredit_1 rfl rfl ?_
  exact x_callV hT (xt_X1_requireCredit_b D l hl x wd rd g h nb nch ncr hx0 hw hnb hch hcr c hb) (ci := 26) rfl lk_X1_171 1 yk_X1_requireCredit rfl ⟨by decide, by decide⟩ hx0 rfl rfl (Nat.le_of_ble_eq_true rfl) dX1_moveCredit_2 ⟨by decide, by decide⟩ (fun x hx => Or.inr hx) (fun q H1 h1 h2 h3 => hO _ _ _ _ _ _ (by decide) (by decide) h1 h2)
set_option maxHeartbeats 2000000 in
theorem xt_X1_moveCredit_c (D : DD) (l : Launch) (hl : l.stackTraces = false) {H0 : Heap} {K0 : Nat → Prop} (x : Nat) (wd rd : Nat → Nat) (g : Nat → Int32) (h : Nat → Int64) (nb nch ncr : Nat) (hx0 : fld D 1 x 0 (.ref (wd 0)) H0) (hw : woK K0 D wd rd g h nb nch ncr H0) (hnb : nb ≤ 6) (hch : nch ≤ 4) (hcr : ncr ≤ 6) (c q : Int32) (hcb : inB c 0 ((nI ncr) - 1) = true) (hb : inB q 0 ((nI ncr) - 1) = false) : Xt D l yX1_moveCredit cX1_moveCredit 4 none 8 1 6 141 [.ref x, .int c, .int q] H0 RJ20 (fun H => fr (fun q => H0.size ≤ q) H0 H) (fun q => H0.size ≤ q) := by
  refine Xt.of hl (by decide) (Nat.le_of_ble_eq_true rfl) (fun q h => h) (fun s J X hT hO => ?_)
  have hJ := hT.j
  show J H0 0 0 0 [] [(0, .ref x), (1, .int c), (2, .int q)]
  refine r_aload_n 1 0 (hJ.pu _ _ _) dX1_moveCredit_0 rfl rfl ?_
  refine r_iload_n 2 1 (hJ.pu _ _ _) dX1_moveCredit_1 rfl rfl ?_
  refine j_callp 5 hJ (cp_X1_requireCredit D l x wd rd g h nb nch ncr hx0 hw hnb hch hcr c hcb) lk_X1_171 1 yk_X1_requireCredit rfl ⟨by decide, by decide⟩ hx0 rfl rfl (Nat.le_of_ble_eq_true rfl) dX1_moveCredit_2 ⟨Nat.zero_le _, Nat.zero_le _⟩ rfl ?_
  refine r_aload_n 6 0 (hJ.pu _ _ _) dX1_moveCredit_5 rfl rfl ?_
  refine r_iload_n 7 2 (hJ.pu _ _ _) dX1_moveCredit_6 rfl rfl ?_
  exact x_callV hT (xt_X1_requireCredit_b D l hl x wd rd g h nb nch ncr hx0 hw hnb hch hcr q hb) (ci := 26) rfl lk_X1_171 1 yk_X1_requireCredit rfl ⟨by decide, by decide⟩ hx0 rfl rfl (Nat.le_of_ble_eq_true rfl) dX1_moveCredit_7 ⟨by decide, by decide⟩ (fun x hx => Or.inr hx) (fun q H1 h1 h2 h3 => hO _ _ _ _ _ _ (by decide) (by decide) h1 h2)
theorem lf_X1_139_J8_size : GoodIn lw_all (va_wsF RX1 139 "java/util/ArrayList" ⟨"java/util/List", "size", "()I"⟩ yJ8_size (ws_ yJ8_size cJ8_size 1 (some .int))) := lw_F q1814 q1822 q584 q114 q586
theorem lf_X1_139_J4_size : GoodIn lw_all (va_wsF RX1 139 "java/util/ImmutableCollections$List12" ⟨"java/util/List", "size", "()I"⟩ yJ4_size (ws_ yJ4_size cJ4_size 1 (some .int))) := lw_F q1814 q1857 q650 q110 q651
set_option maxHeartbeats 2000000 in
theorem xt_X1_bracket_b (D : DD) (l : Launch) (hl : l.stackTraces = false) {H0 : Heap} {K0 : Nat → Prop} (x : Nat) (wd rd : Nat → Nat) (g : Nat → Int32) (h : Nat → Int64) (nb nch ncr : Nat) (hx0 : fld D 1 x 0 (.ref (wd 0)) H0) (hw : woK K0 D wd rd g h nb nch ncr H0) (hnb : nb ≤ 6) (hch : nch ≤ 4) (hcr : ncr ≤ 6) (c q : Int32) (hb : inB c 0 ((nI nb) - 1) = false) : Xt D l yX1_bracket cX1_bracket 4 (some .int) 7 1 6 120 [.ref x, .int c, .int q] H0 RJ20 (fun H => fr (fun q => H0.size ≤ q) H0 H) (fun q => H0.size ≤ q) := by
  refine Xt.of hl (by decide) (Nat.le_of_ble_eq_true rfl) (fun q h => h) (fun s J X hT hO => ?_)
  have hJ := hT.j
  show J H0 0 0 0 [] [(0, .ref x), (1, .int c), (2, .int q)]
  refine r_iload_n 1 1 (hJ.pu _ _ _) dX1_bracket_0 rfl rfl ?_
  refine r_iconst 2 0 (hJ.pu _ _ _) dX1_bracket_1 (by decide) rfl ?_
  refine r_aload_n 3 0 (hJ.pu _ _ _) dX1_bracket_2 rfl rfl ?_
  refine j_getf 6 hJ (T := TX1) (C := RX1) 0 (v := .ref (wd 0)) okX1 hx0 rfl (by decide) (Or.inl q550) (Or.inl rfl) dX1_bracket_3 rfl ?_
  refine j_getf 9 hJ (T := TX2) (C := RX2) 0 (v := .ref (rd 0)) okX2 (hw.o.fld 0 rfl) rfl (by decide) (Or.inr ⟨_, nw_q448⟩) (Or.inl rfl) dX1_bracket_6 rfl ?_
  refine j_getf 12 hJ (T := TX3) (C := RX3) 0 (v := .ref (rd 1)) okX3 (hw.ru.o.fld 0 rfl) rfl (by decide) (Or.inr ⟨_, nw_q307⟩) (Or.inl rfl) dX1_bracket_9 rfl ?_
  refine j_lsSize 17 hJ hw.ru.bl lf_X1_139_J8_size lf_X1_139_J4_size ⟨by decide, by decide⟩ (Nat.le_of_ble_eq_true rfl) dX1_bracket_12 ⟨Nat.zero_le _, Nat.zero_le _⟩ rfl ?_
  refine r_iconst 18 1 (hJ.pu _ _ _) dX1_bracket_17 (by decide) rfl ?_
  refine r_isub 19 (hJ.pu _ _ _) dX1_bracket_18 rfl ?_
  refine cs_row 22 hJ (ts_X1_isBetween D l c 0 ((nI nb) - 1)) lk_X1_70 3 yk_X1_isBetween rfl ⟨by decide, by decide⟩ rfl (Nat.le_of_ble_eq_true rfl) dX1_bracket_19 ⟨Nat.zero_le _, Nat.zero_le _⟩ rfl ?_
  refine r_eqi (0) (by simp [zB, hb]) ?_
  exact x_callS hT (xt_X1_requireIndex D l hl) (ci := 26) rfl lk_X1_142 1 yk_X1_requireIndex rfl ⟨by decide, by decide⟩ rfl (Nat.le_of_ble_eq_true rfl) dX1_bracket_22 ⟨by decide, by decide⟩ (fun x hx => Or.inr hx) (fun q H1 h1 h2 h3 => hO _ _ _ _ _ _ (by decide) (by decide) h1 h2)
set_option maxHeartbeats 2000000 in
theorem xt_X1_bracket_c (D : DD) (l : Launch) (hl : l.stackTraces = false) {H0 : Heap} {K0 : Nat → Prop} (x : Nat) (wd rd : Nat → Nat) (g : Nat → Int32) (h : Nat → Int64) (nb nch ncr : Nat) (hx0 : fld D 1 x 0 (.ref (wd 0)) H0) (hw : woK K0 D wd rd g h nb nch ncr H0) (hnb : nb ≤ 6) (hch : nch ≤ 4) (hcr : ncr ≤ 6) (c q : Int32) (hcb : inB c 0 ((nI nb) - 1) = true) (hb : inB q 0 1 = false) : Xt D l yX1_bracket cX1_bracket 4 (some .int) 7 1 6 120 [.ref x, .int c, .int q] H0 RJ18 (fun H => fr (fun q => H0.size ≤ q) H0 H) (fun q => H0.size ≤ q) := by
  refine Xt.of hl (by decide) (Nat.le_of_ble_eq_true rfl) (fun q h => h) (fun s J X hT hO => ?_)
  have hJ := hT.j
  show J H0 0 0 0 [] [(0, .ref x), (1, .int c), (2, .int q)]
  refine r_iload_n 1 1 (hJ.pu _ _ _) dX1_bracket_0 rfl rfl ?_
  refine r_iconst 2 0 (hJ.pu _ _ _) dX1_bracket_1 (by decide) rfl ?_
  refine r_aload_n 3 0 (hJ.pu _ _ _) dX1_bracket_2 rfl rfl ?_
  refine j_getf 6 hJ (T := TX1) (C := RX1) 0 (v := .ref (wd 0)) okX1 hx0 rfl (by decide) (Or.inl q550) (Or.inl rfl) dX1_bracket_3 rfl ?_
  refine j_getf 9 hJ (T := TX2) (C := RX2) 0 (v := .ref (rd 0)) okX2 (hw.o.fld 0 rfl) rfl (by decide) (Or.inr ⟨_, nw_q448⟩) (Or.inl rfl) dX1_bracket_6 rfl ?_
  refine j_getf 12 hJ (T := TX3) (C := RX3) 0 (v := .ref (rd 1)) okX3 (hw.ru.o.fld 0 rfl) rfl (by decide) (Or.inr ⟨_, nw_q307⟩) (Or.inl rfl) dX1_bracket_9 rfl ?_
  refine j_lsSize 17 hJ hw.ru.bl lf_X1_139_J8_size lf_X1_139_J4_size ⟨by decide, by decide⟩ (Nat.le_of_ble_eq_true rfl) dX1_bracket_12 ⟨Nat.zero_le _, Nat.zero_le _⟩ rfl ?_
  refine r_iconst 18 1 (hJ.pu _ _ _) dX1_bracket_17 (by decide) rfl ?_
  refine r_isub 19 (hJ.pu _ _ _) dX1_bracket_18 rfl ?_
  refine cs_row 22 hJ (ts_X1_isBetween D l c 0 ((nI nb) - 1)) lk_X1_70 3 yk_X1_isBetween rfl ⟨by decide, by decide⟩ rfl (Nat.le_of_ble_eq_true rfl) dX1_bracket_19 ⟨Nat.zero_le _, Nat.zero_le _⟩ rfl ?_
  refine r_eqi 1 (by simp [zB, *]) ?_
  refine j_callps 25 hJ (cp_X1_requireIndex_k D l) lk_X1_142 1 yk_X1_requireIndex rfl ⟨by decide, by decide⟩ rfl (Nat.le_of_ble_eq_true rfl) dX1_bracket_22 ⟨Nat.zero_le _, Nat.zero_le _⟩ rfl ?_
  refine r_iload_n 26 2 (hJ.pu _ _ _) dX1_bracket_25 rfl rfl ?_
  refine r_iconst 27 0 (hJ.pu _ _ _) dX1_bracket_26 (by decide) rfl ?_
  refine r_iconst 28 1 (hJ.pu _ _ _) dX1_bracket_27 (by decide) rfl ?_
  refine cs_row 31 hJ (ts_X1_isBetween D l q 0 1) lk_X1_70 3 yk_X1_isBetween rfl ⟨by decide, by decide⟩ rfl (Nat.le_of_ble_eq_true rfl) dX1_bracket_28 ⟨Nat.zero_le _, Nat.zero_le _⟩ rfl ?_
  refine r_eqi (0) (by simp [zB, hb]) ?_
  exact x_callS hT (xt_X1_requireArgument D l hl) (ci := 24) rfl lk_X1_74 1 yk_X1_requireArgument rfl ⟨by decide, by decide⟩ rfl (Nat.le_of_ble_eq_true rfl) dX1_bracket_31 ⟨by decide, by decide⟩ (fun x hx => Or.inr hx) (fun q H1 h1 h2 h3 => hO _ _ _ _ _ _ (by decide) (by decide) h1 h2)
theorem lk_X1_117 : GoodIn lw_all (wsV RX1 117 yJ8_size.cls yJ8_size (ws_ yJ8_size cJ8_size 1 (some .int))) := lw_V q583 q584 q585 q114 q586
set_option maxHeartbeats 2000000 in
theorem xt_X1_charge_b (D : DD) (l : Launch) (hl : l.stackTraces = false) {H0 : Heap} {K0 : Nat → Prop} (x : Nat) (wd rd : Nat → Nat) (g : Nat → Int32) (h : Nat → Int64) (nb nch ncr : Nat) (hx0 : fld D 1 x 0 (.ref (wd 0)) H0) (hw : woK K0 D wd rd g h nb nch ncr H0) (hnb : nb ≤ 6) (hch : nch ≤ 4) (hcr : ncr ≤ 6) (c q : Int32) (hb : inB c 0 ((nI nch) - 1) = false) : Xt D l yX1_charge cX1_charge 4 (some .int) 7 1 6 120 [.ref x, .int c, .int q] H0 RJ20 (fun H => fr (fun q => H0.size ≤ q) H0 H) (fun q => H0.size ≤ q) := by
  refine Xt.of hl (by decide) (Nat.le_of_ble_eq_true rfl) (fun q h => h) (fun s J X hT hO => ?_)
  have hJ := hT.j
  show J H0 0 0 0 [] [(0, .ref x), (1, .int c), (2, .int q)]
  refine r_iload_n 1 1 (hJ.pu _ _ _) dX1_charge_0 rfl rfl ?_
  refine r_iconst 2 0 (hJ.pu _ _ _) dX1_charge_1 (by decide) rfl ?_
  refine r_aload_n 3 0 (hJ.pu _ _ _) dX1_charge_2 rfl rfl ?_
  refine j_getf 6 hJ (T := TX1) (C := RX1) 0 (v := .ref (wd 0)) okX1 hx0 rfl (by decide) (Or.inl q550) (Or.inl rfl) dX1_charge_3 rfl ?_
  refine j_getf 9 hJ (T := TX2) (C := RX2) 0 (v := .ref (rd 0)) okX2 (hw.o.fld 0 rfl) rfl (by decide) (Or.inr ⟨_, nw_q448⟩) (Or.inl rfl) dX1_charge_6 rfl ?_
  refine j_getf 12 hJ (T := TX3) (C := RX3) 3 (v := .ref (rd 4)) okX3 (hw.ru.o.fld 3 rfl) rfl (by decide) (Or.inr ⟨_, nw_q316⟩) (Or.inl rfl) dX1_charge_9 rfl ?_
  refine j_callp 15 hJ (cp_J8_size D l (rd 4) (rd 5) nch (fun k => rd (200 + k)) hw.ru.cl) lk_X1_117 0 yk_J8_size rfl ⟨by decide, by decide⟩ hw.ru.cl.sz rfl rfl (Nat.le_of_ble_eq_true rfl) dX1_charge_12 ⟨Nat.zero_le _, Nat.zero_le _⟩ rfl ?_
  refine r_iconst 16 1 (hJ.pu _ _ _) dX1_charge_15 (by decide) rfl ?_
  refine r_isub 17 (hJ.pu _ _ _) dX1_charge_16 rfl ?_
  refine cs_row 20 hJ (ts_X1_isBetween D l c 0 ((nI nch) - 1)) lk_X1_70 3 yk_X1_isBetween rfl ⟨by decide, by decide⟩ rfl (Nat.le_of_ble_eq_true rfl) dX1_charge_17 ⟨Nat.zero_le _, Nat.zero_le _⟩ rfl ?_
  refine r_eqi (0) (by simp [zB, hb]) ?_
  exact x_callS hT (xt_X1_requireIndex D l hl) (ci := 26) rfl lk_X1_142 1 yk_X1_requireIndex rfl ⟨by decide, by decide⟩ rfl (Nat.le_of_ble_eq_true rfl) dX1_charge_20 ⟨by decide, by decide⟩ (fun x hx => Or.inr hx) (fun q H1 h1 h2 h3 => hO _ _ _ _ _ _ (by decide) (by decide) h1 h2)
set_option maxHeartbeats 2000000 in
theorem xt_X1_charge_c (D : DD) (l : Launch) (hl : l.stackTraces = false) {H0 : Heap} {K0 : Nat → Prop} (x : Nat) (wd rd : Nat → Nat) (g : Nat → Int32) (h : Nat → Int64) (nb nch ncr : Nat) (hx0 : fld D 1 x 0 (.ref (wd 0)) H0) (hw : woK K0 D wd rd g h nb nch ncr H0) (hnb : nb ≤ 6) (hch : nch ≤ 4) (hcr : ncr ≤ 6) (c q : Int32) (hcb : inB c 0 ((nI nch) - 1) = true) (hb : inB q 0 1 = false) : Xt D l yX1_charge cX1_charge 4 (some .int) 7 1 6 120 [.ref x, .int c, .int q] H0 RJ18 (fun H => fr (fun q => H0.size ≤ q) H0 H) (fun q => H0.size ≤ q) := by
  refine Xt.of hl (by decide) (Nat.le_of_ble_eq_true rfl) (fun q h => h) (fun s J X hT hO => ?_)
  have hJ := hT.j
  show J H0 0 0 0 [] [(0, .ref x), (1, .int c), (2, .int q)]
  refine r_iload_n 1 1 (hJ.pu _ _ _) dX1_charge_0 rfl rfl ?_
  refine r_iconst 2 0 (hJ.pu _ _ _) dX1_charge_1 (by decide) rfl ?_
  refine r_aload_n 3 0 (hJ.pu _ _ _) dX1_charge_2 rfl rfl ?_
  refine j_getf 6 hJ (T := TX1) (C := RX1) 0 (v := .ref (wd 0)) okX1 hx0 rfl (by decide) (Or.inl q550) (Or.inl rfl) dX1_charge_3 rfl ?_
  refine j_getf 9 hJ (T := TX2) (C := RX2) 0 (v := .ref (rd 0)) okX2 (hw.o.fld 0 rfl) rfl (by decide) (Or.inr ⟨_, nw_q448⟩) (Or.inl rfl) dX1_charge_6 rfl ?_
  refine j_getf 12 hJ (T := TX3) (C := RX3) 3 (v := .ref (rd 4)) okX3 (hw.ru.o.fld 3 rfl) rfl (by decide) (Or.inr ⟨_, nw_q316⟩) (Or.inl rfl) dX1_charge_9 rfl ?_
  refine j_callp 15 hJ (cp_J8_size D l (rd 4) (rd 5) nch (fun k => rd (200 + k)) hw.ru.cl) lk_X1_117 0 yk_J8_size rfl ⟨by decide, by decide⟩ hw.ru.cl.sz rfl rfl (Nat.le_of_ble_eq_true rfl) dX1_charge_12 ⟨Nat.zero_le _, Nat.zero_le _⟩ rfl ?_
  refine r_iconst 16 1 (hJ.pu _ _ _) dX1_charge_15 (by decide) rfl ?_
  refine r_isub 17 (hJ.pu _ _ _) dX1_charge_16 rfl ?_
  refine cs_row 20 hJ (ts_X1_isBetween D l c 0 ((nI nch) - 1)) lk_X1_70 3 yk_X1_isBetween rfl ⟨by decide, by decide⟩ rfl (Nat.le_of_ble_eq_true rfl) dX1_charge_17 ⟨Nat.zero_le _, Nat.zero_le _⟩ rfl ?_
  refine r_eqi 1 (by simp [zB, *]) ?_
  refine j_callps 23 hJ (cp_X1_requireIndex_k D l) lk_X1_142 1 yk_X1_requireIndex rfl ⟨by decide, by decide⟩ rfl (Nat.le_of_ble_eq_true rfl) dX1_charge_20 ⟨Nat.zero_le _, Nat.zero_le _⟩ rfl ?_
  refine r_iload_n 24 2 (hJ.pu _ _ _) dX1_charge_23 rfl rfl ?_
  refine r_iconst 25 0 (hJ.pu _ _ _) dX1_charge_24 (by decide) rfl ?_
  refine r_iconst 26 1 (hJ.pu _ _ _) dX1_charge_25 (by decide) rfl ?_
  refine cs_row 29 hJ (ts_X1_isBetween D l q 0 1) lk_X1_70 3 yk_X1_isBetween rfl ⟨by decide, by decide⟩ rfl (Nat.le_of_ble_eq_true rfl) dX1_charge_26 ⟨Nat.zero_le _, Nat.zero_le _⟩ rfl ?_
  refine r_eqi (0) (by simp [zB, hb]) ?_
  exact x_callS hT (xt_X1_requireArgument D l hl) (ci := 24) rfl lk_X1_74 1 yk_X1_requireArgument rfl ⟨by decide, by decide⟩ rfl (Nat.le_of_ble_eq_true rfl) dX1_charge_29 ⟨by decide, by decide⟩ (fun x hx => Or.inr hx) (fun q H1 h1 h2 h3 => hO _ _ _ _ _ _ (by decide) (by decide) h1 h2)
set_option maxHeartbeats 2000000 in
theorem xt_X1_allowance_b (D : DD) (l : Launch) (hl : l.stackTraces = false) {H0 : Heap} {K0 : Nat → Prop} (x : Nat) (wd rd : Nat → Nat) (g : Nat → Int32) (h : Nat → Int64) (nb nch ncr : Nat) (hx0 : fld D 1 x 0 (.ref (wd 0)) H0) (hw : woK K0 D wd rd g h nb nch ncr H0) (hnb : nb ≤ 6) (hch : nch ≤ 4) (hcr : ncr ≤ 6) (q : Int32) (hb : inB q 0 4 = false) : Xt D l yX1_allowance cX1_allowance 2 (some .int) 7 1 6 120 [.ref x, .int q] H0 RJ18 (fun H => fr (fun q => H0.size ≤ q) H0 H) (fun q => H0.size ≤ q) := by
  refine Xt.of hl (by decide) (Nat.le_of_ble_eq_true rfl) (fun q h => h) (fun s J X hT hO => ?_)
  have hJ := hT.j
  show J H0 0 0 0 [] [(0, .ref x), (1, .int q)]
  refine r_iload_n 1 1 (hJ.pu _ _ _) dX1_allowance_0 rfl rfl ?_
  refine r_iconst 2 0 (hJ.pu _ _ _) dX1_allowance_1 (by decide) rfl ?_
  refine r_iconst 3 4 (hJ.pu _ _ _) dX1_allowance_2 (by decide) rfl ?_
  refine cs_row 6 hJ (ts_X1_isBetween D l q 0 4) lk_X1_70 3 yk_X1_isBetween rfl ⟨by decide, by decide⟩ rfl (Nat.le_of_ble_eq_true rfl) dX1_allowance_3 ⟨Nat.zero_le _, Nat.zero_le _⟩ rfl ?_
  refine r_eqi (0) (by simp [zB, hb]) ?_
  exact x_callS hT (xt_X1_requireArgument D l hl) (ci := 24) rfl lk_X1_74 1 yk_X1_requireArgument rfl ⟨by decide, by decide⟩ rfl (Nat.le_of_ble_eq_true rfl) dX1_allowance_6 ⟨by decide, by decide⟩ (fun x hx => Or.inr hx) (fun q H1 h1 h2 h3 => hO _ _ _ _ _ _ (by decide) (by decide) h1 h2)
set_option maxHeartbeats 2000000 in
theorem cp_X1_faultPosition (D : DD) (l : Launch) {H0 : Heap} (x : Nat) (v : Int32) (hf : fld D 1 x 6 (.int v) H0) : Cp D l yX1_faultPosition cX1_faultPosition 1 (some .int) 0 0 [.ref x] H0 (some (.int v)) := by
  refine Cp.of (by decide) (Nat.le_of_ble_eq_true rfl) (fun s A J hJ hR => ?_)
  show J H0 0 0 0 [] [(0, .ref x)]
  refine r_aload_n 1 0 (hJ.pu _ _ _) dX1_faultPosition_0 rfl rfl ?_
  refine j_getf 4 hJ (T := TX1) (C := RX1) 6 (v := .int v) okX1 hf rfl (by decide) (Or.inl q558) (Or.inl rfl) dX1_faultPosition_1 rfl ?_
  exact Rt.i hR rfl dX1_faultPosition_4 (Nat.zero_le _) (Nat.zero_le _) ⟨rfl, rfl⟩
set_option maxHeartbeats 2000000 in
theorem cp_X1_bracketCount (D : DD) (l : Launch) {H0 : Heap} {K0 : Nat → Prop} (x : Nat) (wd rd : Nat → Nat) (g : Nat → Int32) (h : Nat → Int64) (nb nch ncr : Nat) (hx0 : fld D 1 x 0 (.ref (wd 0)) H0) (hw : woK K0 D wd rd g h nb nch ncr H0) (hnb : nb ≤ 6) (hch : nch ≤ 4) (hcr : ncr ≤ 6) : Cp D l yX1_bracketCount cX1_bracketCount 1 (some .int) 1 20 [.ref x] H0 (some (.int (nI nb))) := by
  refine Cp.of (by decide) (Nat.le_of_ble_eq_true rfl) (fun s A J hJ hR => ?_)
  show J H0 0 0 0 [] [(0, .ref x)]
  refine r_aload_n 1 0 (hJ.pu _ _ _) dX1_bracketCount_0 rfl rfl ?_
  refine j_getf 4 hJ (T := TX1) (C := RX1) 0 (v := .ref (wd 0)) okX1 hx0 rfl (by decide) (Or.inl q550) (Or.inl rfl) dX1_bracketCount_1 rfl ?_
  refine j_getf 7 hJ (T := TX2) (C := RX2) 0 (v := .ref (rd 0)) okX2 (hw.o.fld 0 rfl) rfl (by decide) (Or.inr ⟨_, nw_q448⟩) (Or.inl rfl) dX1_bracketCount_4 rfl ?_
  refine j_getf 10 hJ (T := TX3) (C := RX3) 0 (v := .ref (rd 1)) okX3 (hw.ru.o.fld 0 rfl) rfl (by decide) (Or.inr ⟨_, nw_q307⟩) (Or.inl rfl) dX1_bracketCount_7 rfl ?_
  refine j_lsSize 15 hJ hw.ru.bl lf_X1_139_J8_size lf_X1_139_J4_size ⟨by decide, by decide⟩ (Nat.le_of_ble_eq_true rfl) dX1_bracketCount_10 ⟨Nat.zero_le _, Nat.zero_le _⟩ rfl ?_
  exact Rt.i hR rfl dX1_bracketCount_15 (Nat.zero_le _) (Nat.zero_le _) ⟨rfl, rfl⟩
set_option maxHeartbeats 2000000 in
theorem cp_X1_chargeCount (D : DD) (l : Launch) {H0 : Heap} {K0 : Nat → Prop} (x : Nat) (wd rd : Nat → Nat) (g : Nat → Int32) (h : Nat → Int64) (nb nch ncr : Nat) (hx0 : fld D 1 x 0 (.ref (wd 0)) H0) (hw : woK K0 D wd rd g h nb nch ncr H0) (hnb : nb ≤ 6) (hch : nch ≤ 4) (hcr : ncr ≤ 6) : Cp D l yX1_chargeCount cX1_chargeCount 1 (some .int) 1 20 [.ref x] H0 (some (.int (nI nch))) := by
  refine Cp.of (by decide) (Nat.le_of_ble_eq_true rfl) (fun s A J hJ hR => ?_)
  show J H0 0 0 0 [] [(0, .ref x)]
  refine r_aload_n 1 0 (hJ.pu _ _ _) dX1_chargeCount_0 rfl rfl ?_
  refine j_getf 4 hJ (T := TX1) (C := RX1) 0 (v := .ref (wd 0)) okX1 hx0 rfl (by decide) (Or.inl q550) (Or.inl rfl) dX1_chargeCount_1 rfl ?_
  refine j_getf 7 hJ (T := TX2) (C := RX2) 0 (v := .ref (rd 0)) okX2 (hw.o.fld 0 rfl) rfl (by decide) (Or.inr ⟨_, nw_q448⟩) (Or.inl rfl) dX1_chargeCount_4 rfl ?_
  refine j_getf 10 hJ (T := TX3) (C := RX3) 3 (v := .ref (rd 4)) okX3 (hw.ru.o.fld 3 rfl) rfl (by decide) (Or.inr ⟨_, nw_q316⟩) (Or.inl rfl) dX1_chargeCount_7 rfl ?_
  refine j_callp 13 hJ (cp_J8_size D l (rd 4) (rd 5) nch (fun k => rd (200 + k)) hw.ru.cl) lk_X1_117 0 yk_J8_size rfl ⟨by decide, by decide⟩ hw.ru.cl.sz rfl rfl (Nat.le_of_ble_eq_true rfl) dX1_chargeCount_10 ⟨Nat.zero_le _, Nat.zero_le _⟩ rfl ?_
  exact Rt.i hR rfl dX1_chargeCount_13 (Nat.zero_le _) (Nat.zero_le _) ⟨rfl, rfl⟩
set_option maxHeartbeats 2000000 in
theorem cp_X1_creditCount (D : DD) (l : Launch) {H0 : Heap} {K0 : Nat → Prop} (x : Nat) (wd rd : Nat → Nat) (g : Nat → Int32) (h : Nat → Int64) (nb nch ncr : Nat) (hx0 : fld D 1 x 0 (.ref (wd 0)) H0) (hw : woK K0 D wd rd g h nb nch ncr H0) (hnb : nb ≤ 6) (hch : nch ≤ 4) (hcr : ncr ≤ 6) : Cp D l yX1_creditCount cX1_creditCount 1 (some .int) 1 20 [.ref x] H0 (some (.int (nI ncr))) := by
  refine Cp.of (by decide) (Nat.le_of_ble_eq_true rfl) (fun s A J hJ hR => ?_)
  show J H0 0 0 0 [] [(0, .ref x)]
  refine r_aload_n 1 0 (hJ.pu _ _ _) dX1_creditCount_0 rfl rfl ?_
  refine j_getf 4 hJ (T := TX1) (C := RX1) 0 (v := .ref (wd 0)) okX1 hx0 rfl (by decide) (Or.inl q550) (Or.inl rfl) dX1_creditCount_1 rfl ?_
  refine j_getf 7 hJ (T := TX2) (C := RX2) 0 (v := .ref (rd 0)) okX2 (hw.o.fld 0 rfl) rfl (by decide) (Or.inr ⟨_, nw_q448⟩) (Or.inl rfl) dX1_creditCount_4 rfl ?_
  refine j_getf 10 hJ (T := TX3) (C := RX3) 4 (v := .ref (rd 6)) okX3 (hw.ru.o.fld 4 rfl) rfl (by decide) (Or.inr ⟨_, nw_q320⟩) (Or.inl rfl) dX1_creditCount_7 rfl ?_
  refine j_callp 13 hJ (cp_J10_size D l (rd 6) ncr (fun k => rd (400 + k)) (fun k => rd (300 + k)) hw.ru.rl) lk_X1_124 0 yk_J10_size rfl ⟨by decide, by decide⟩ hw.ru.rl.sz rfl rfl (Nat.le_of_ble_eq_true rfl) dX1_creditCount_10 ⟨Nat.zero_le _, Nat.zero_le _⟩ rfl ?_
  exact Rt.i hR rfl dX1_creditCount_13 (Nat.zero_le _) (Nat.zero_le _) ⟨rfl, rfl⟩
set_option maxHeartbeats 2000000 in
theorem cp_X1_years (D : DD) (l : Launch) {H0 : Heap} {K0 : Nat → Prop} (x : Nat) (wd rd : Nat → Nat) (g : Nat → Int32) (h : Nat → Int64) (nb nch ncr : Nat) (hx0 : fld D 1 x 0 (.ref (wd 0)) H0) (hw : woK K0 D wd rd g h nb nch ncr H0) (hnb : nb ≤ 6) (hch : nch ≤ 4) (hcr : ncr ≤ 6) : Cp D l yX1_years cX1_years 1 (some .int) 0 0 [.ref x] H0 (some (.int (g 88))) := by
  refine Cp.of (by decide) (Nat.le_of_ble_eq_true rfl) (fun s A J hJ hR => ?_)
  show J H0 0 0 0 [] [(0, .ref x)]
  refine r_aload_n 1 0 (hJ.pu _ _ _) dX1_years_0 rfl rfl ?_
  refine j_getf 4 hJ (T := TX1) (C := RX1) 0 (v := .ref (wd 0)) okX1 hx0 rfl (by decide) (Or.inl q550) (Or.inl rfl) dX1_years_1 rfl ?_
  refine j_getf 7 hJ (T := TX2) (C := RX2) 4 (v := .int (g 88)) okX2 (hw.o.fld 4 rfl) rfl (by decide) (Or.inr ⟨_, nw_q456⟩) (Or.inl rfl) dX1_years_4 rfl ?_
  exact Rt.i hR rfl dX1_years_7 (Nat.zero_le _) (Nat.zero_le _) ⟨rfl, rfl⟩
set_option maxHeartbeats 2000000 in
theorem cp_X1_partner (D : DD) (l : Launch) {H0 : Heap} {K0 : Nat → Prop} (x : Nat) (wd rd : Nat → Nat) (g : Nat → Int32) (h : Nat → Int64) (nb nch ncr : Nat) (hx0 : fld D 1 x 0 (.ref (wd 0)) H0) (hw : woK K0 D wd rd g h nb nch ncr H0) (hnb : nb ≤ 6) (hch : nch ≤ 4) (hcr : ncr ≤ 6) (p : Nat) (hp : p < 6) (hno : ¬ g (82 + p) = -1) : Cp D l yX1_partner cX1_partner 2 (some .int) 3 64 [.ref x, .int (nI p)] H0 (some (.int (g (82 + p)))) := by
  refine Cp.of (by decide) (Nat.le_of_ble_eq_true rfl) (fun s A J hJ hR => ?_)
  show J H0 0 0 0 [] [(0, .ref x), (1, .int (nI p))]
  refine r_aload_n 1 0 (hJ.pu _ _ _) dX1_partner_0 rfl rfl ?_
  refine r_iload_n 2 1 (hJ.pu _ _ _) dX1_partner_1 rfl rfl ?_
  refine j_callp 5 hJ (cp_X1_requirePartner D l x wd rd g h nb nch ncr hx0 hw hnb hch hcr p (by omega) hno) lk_X1_235 1 yk_X1_requirePartner rfl ⟨by decide, by decide⟩ hx0 rfl rfl (Nat.le_of_ble_eq_true rfl) dX1_partner_2 ⟨Nat.zero_le _, Nat.zero_le _⟩ rfl ?_
  exact Rt.i hR rfl dX1_partner_5 (Nat.zero_le _) (Nat.zero_le _) ⟨rfl, rfl⟩
theorem lf_X1_145_J8_get : GoodIn lw_all (va_wsF RX1 145 "java/util/ArrayList" ⟨"java/util/List", "get", "(I)Ljava/lang/Object;"⟩ yJ8_get (ws_ yJ8_get cJ8_get 2 (Option.some (ClassFile.FieldType.object "java/lang/Object")))) := lw_F q2401 q1554 q1391 q114 q1392
theorem lf_X1_145_J4_get : GoodIn lw_all (va_wsF RX1 145 "java/util/ImmutableCollections$List12" ⟨"java/util/List", "get", "(I)Ljava/lang/Object;"⟩ yJ4_get (ws_ yJ4_get cJ4_get 2 (Option.some (ClassFile.FieldType.object "java/lang/Object")))) := lw_F q2401 q1573 q1575 q110 q1577
set_option maxHeartbeats 2000000 in
theorem cp_X1_bracket (D : DD) (l : Launch) {H0 : Heap} {K0 : Nat → Prop} (x : Nat) (wd rd : Nat → Nat) (g : Nat → Int32) (h : Nat → Int64) (nb nch ncr : Nat) (hx0 : fld D 1 x 0 (.ref (wd 0)) H0) (hw : woK K0 D wd rd g h nb nch ncr H0) (hnb : nb ≤ 6) (hch : nch ≤ 4) (hcr : ncr ≤ 6) (k q : Nat) (hk : k < nb) (hq : q < 2) (hcb : inB (nI k) 0 ((nI nb) - 1) = true) (hqb : inB (nI q) 0 1 = true) : Cp D l yX1_bracket cX1_bracket 4 (some .int) 4 120 [.ref x, .int (nI k), .int (nI q)] H0 (some (.int (g (1 + 2 * k + q)))) := by
  refine Cp.of (by decide) (Nat.le_of_ble_eq_true rfl) (fun s A J hJ hR => ?_)
  show J H0 0 0 0 [] [(0, .ref x), (1, .int (nI k)), (2, .int (nI q))]
  refine r_iload_n 1 1 (hJ.pu _ _ _) dX1_bracket_0 rfl rfl ?_
  refine r_iconst 2 0 (hJ.pu _ _ _) dX1_bracket_1 (by decide) rfl ?_
  refine r_aload_n 3 0 (hJ.pu _ _ _) dX1_bracket_2 rfl rfl ?_
  refine j_getf 6 hJ (T := TX1) (C := RX1) 0 (v := .ref (wd 0)) okX1 hx0 rfl (by decide) (Or.inl q550) (Or.inl rfl) dX1_bracket_3 rfl ?_
  refine j_getf 9 hJ (T := TX2) (C := RX2) 0 (v := .ref (rd 0)) okX2 (hw.o.fld 0 rfl) rfl (by decide) (Or.inr ⟨_, nw_q448⟩) (Or.inl rfl) dX1_bracket_6 rfl ?_
  refine j_getf 12 hJ (T := TX3) (C := RX3) 0 (v := .ref (rd 1)) okX3 (hw.ru.o.fld 0 rfl) rfl (by decide) (Or.inr ⟨_, nw_q307⟩) (Or.inl rfl) dX1_bracket_9 rfl ?_
  refine j_lsSize 17 hJ hw.ru.bl lf_X1_139_J8_size lf_X1_139_J4_size ⟨by decide, by decide⟩ (Nat.le_of_ble_eq_true rfl) dX1_bracket_12 ⟨Nat.zero_le _, Nat.zero_le _⟩ rfl ?_
  refine r_iconst 18 1 (hJ.pu _ _ _) dX1_bracket_17 (by decide) rfl ?_
  refine r_isub 19 (hJ.pu _ _ _) dX1_bracket_18 rfl ?_
  refine cs_row 22 hJ (ts_X1_isBetween D l (nI k) 0 ((nI nb) - 1)) lk_X1_70 3 yk_X1_isBetween rfl ⟨by decide, by decide⟩ rfl (Nat.le_of_ble_eq_true rfl) dX1_bracket_19 ⟨Nat.zero_le _, Nat.zero_le _⟩ rfl ?_
  refine r_eqi 1 (by simp [zB, *]) ?_
  refine j_callps 25 hJ (cp_X1_requireIndex_k D l) lk_X1_142 1 yk_X1_requireIndex rfl ⟨by decide, by decide⟩ rfl (Nat.le_of_ble_eq_true rfl) dX1_bracket_22 ⟨Nat.zero_le _, Nat.zero_le _⟩ rfl ?_
  refine r_iload_n 26 2 (hJ.pu _ _ _) dX1_bracket_25 rfl rfl ?_
  refine r_iconst 27 0 (hJ.pu _ _ _) dX1_bracket_26 (by decide) rfl ?_
  refine r_iconst 28 1 (hJ.pu _ _ _) dX1_bracket_27 (by decide) rfl ?_
  refine cs_row 31 hJ (ts_X1_isBetween D l (nI q) 0 1) lk_X1_70 3 yk_X1_isBetween rfl ⟨by decide, by decide⟩ rfl (Nat.le_of_ble_eq_true rfl) dX1_bracket_28 ⟨Nat.zero_le _, Nat.zero_le _⟩ rfl ?_
  refine r_eqi 1 (by simp [zB, *]) ?_
  refine j_callps 34 hJ (cp_X1_requireArgument_k D l) lk_X1_74 1 yk_X1_requireArgument rfl ⟨by decide, by decide⟩ rfl (Nat.le_of_ble_eq_true rfl) dX1_bracket_31 ⟨Nat.zero_le _, Nat.zero_le _⟩ rfl ?_
  refine r_aload_n 35 0 (hJ.pu _ _ _) dX1_bracket_34 rfl rfl ?_
  refine j_getf 38 hJ (T := TX1) (C := RX1) 0 (v := .ref (wd 0)) okX1 hx0 rfl (by decide) (Or.inl q550) (Or.inl rfl) dX1_bracket_35 rfl ?_
  refine j_getf 41 hJ (T := TX2) (C := RX2) 0 (v := .ref (rd 0)) okX2 (hw.o.fld 0 rfl) rfl (by decide) (Or.inr ⟨_, nw_q448⟩) (Or.inl rfl) dX1_bracket_38 rfl ?_
  refine j_getf 44 hJ (T := TX3) (C := RX3) 0 (v := .ref (rd 1)) okX3 (hw.ru.o.fld 0 rfl) rfl (by decide) (Or.inr ⟨_, nw_q307⟩) (Or.inl rfl) dX1_bracket_41 rfl ?_
  refine r_iload_n 45 1 (hJ.pu _ _ _) dX1_bracket_44 rfl rfl ?_
  refine j_lsGet 50 hJ hw.ru.bl k (by omega) lf_X1_145_J8_get lf_X1_145_J4_get ⟨by decide, by decide⟩ (Nat.le_of_ble_eq_true rfl) dX1_bracket_45 ⟨Nat.zero_le _, Nat.zero_le _⟩ rfl ?_
  refine j_castf 53 hJ ((hw.ru.b (k := k) (by omega)).fld 0 rfl) rfl q2402 dX1_bracket_50 rfl ?_
  refine r_astore_n 54 [(3, .ref (rd (100 + k))), (0, .ref x), (1, .int (nI k)), (2, .int (nI q))] (hJ.pu _ _ _) dX1_bracket_53 rfl (by decide) rfl rfl ?_
  rcases (show q = 0 ∨ q = 1 by omega) with rfl | rfl
  · refine r_iload_n 55 3 (hJ.pu _ _ _) dX1_bracket_54 rfl rfl ?_
    refine r_if_ne 58 65 (hJ.pu _ _ _) dX1_bracket_55 (by decide) (fun c => absurd (by decide) c) rfl (fun _ => ?_)
    refine r_aload_n 59 0 (hJ.pu _ _ _) dX1_bracket_58 rfl rfl ?_
    refine j_getf 62 hJ (T := TX4) (C := RX4) 0 (v := .int (g (1 + 2 * k))) okX4 ((hw.ru.b (k := k) (by omega)).fld 0 rfl) rfl (by decide) (Or.inr ⟨_, nw_q201⟩) (Or.inl rfl) dX1_bracket_59 rfl ?_
    refine r_goto 69 (hJ.pu _ _ _) dX1_bracket_62 (by decide) ?_
    exact Rt.i hR rfl dX1_bracket_69 (Nat.zero_le _) (Nat.zero_le _) ⟨rfl, rfl⟩
  · refine r_iload_n 55 3 (hJ.pu _ _ _) dX1_bracket_54 rfl rfl ?_
    refine r_if_ne 58 65 (hJ.pu _ _ _) dX1_bracket_55 (by decide) (fun _ => ?_) rfl (fun c => absurd c (by decide))
    refine r_aload_n 66 0 (hJ.pu _ _ _) dX1_bracket_65 rfl rfl ?_
    refine j_getf 69 hJ (T := TX4) (C := RX4) 1 (v := .int (g (1 + 2 * k + 1))) okX4 ((hw.ru.b (k := k) (by omega)).fld 1 rfl) rfl (by decide) (Or.inr ⟨_, nw_q204⟩) (Or.inl rfl) dX1_bracket_66 rfl ?_
    exact Rt.i hR rfl dX1_bracket_69 (Nat.zero_le _) (Nat.zero_le _) ⟨rfl, rfl⟩
set_option maxHeartbeats 2000000 in
theorem cp_X1_charge (D : DD) (l : Launch) {H0 : Heap} {K0 : Nat → Prop} (x : Nat) (wd rd : Nat → Nat) (g : Nat → Int32) (h : Nat → Int64) (nb nch ncr : Nat) (hx0 : fld D 1 x 0 (.ref (wd 0)) H0) (hw : woK K0 D wd rd g h nb nch ncr H0) (hnb : nb ≤ 6) (hch : nch ≤ 4) (hcr : ncr ≤ 6) (k q : Nat) (hk : k < nch) (hq : q < 2) (hcb : inB (nI k) 0 ((nI nch) - 1) = true) (hqb : inB (nI q) 0 1 = true) : Cp D l yX1_charge cX1_charge 4 (some .int) 3 64 [.ref x, .int (nI k), .int (nI q)] H0 (some (.int (g (19 + 2 * k + q)))) := by
  refine Cp.of (by decide) (Nat.le_of_ble_eq_true rfl) (fun s A J hJ hR => ?_)
  show J H0 0 0 0 [] [(0, .ref x), (1, .int (nI k)), (2, .int (nI q))]
  refine r_iload_n 1 1 (hJ.pu _ _ _) dX1_charge_0 rfl rfl ?_
  refine r_iconst 2 0 (hJ.pu _ _ _) dX1_charge_1 (by decide) rfl ?_
  refine r_aload_n 3 0 (hJ.pu _ _ _) dX1_charge_2 rfl rfl ?_
  refine j_getf 6 hJ (T := TX1) (C := RX1) 0 (v := .ref (wd 0)) okX1 hx0 rfl (by decide) (Or.inl q550) (Or.inl rfl) dX1_charge_3 rfl ?_
  refine j_getf 9 hJ (T := TX2) (C := RX2) 0 (v := .ref (rd 0)) okX2 (hw.o.fld 0 rfl) rfl (by decide) (Or.inr ⟨_, nw_q448⟩) (Or.inl rfl) dX1_charge_6 rfl ?_
  refine j_getf 12 hJ (T := TX3) (C := RX3) 3 (v := .ref (rd 4)) okX3 (hw.ru.o.fld 3 rfl) rfl (by decide) (Or.inr ⟨_, nw_q316⟩) (Or.inl rfl) dX1_charge_9 rfl ?_
  refine j_callp 15 hJ (cp_J8_size D l (rd 4) (rd 5) nch (fun k => rd (200 + k)) hw.ru.cl) lk_X1_117 0 yk_J8_size rfl ⟨by decide, by decide⟩ hw.ru.cl.sz rfl rfl (Nat.le_of_ble_eq_true rfl) dX1_charge_12 ⟨Nat.zero_le _, Nat.zero_le _⟩ rfl ?_
  refine r_iconst 16 1 (hJ.pu _ _ _) dX1_charge_15 (by decide) rfl ?_
  refine r_isub 17 (hJ.pu _ _ _) dX1_charge_16 rfl ?_
  refine cs_row 20 hJ (ts_X1_isBetween D l (nI k) 0 ((nI nch) - 1)) lk_X1_70 3 yk_X1_isBetween rfl ⟨by decide, by decide⟩ rfl (Nat.le_of_ble_eq_true rfl) dX1_charge_17 ⟨Nat.zero_le _, Nat.zero_le _⟩ rfl ?_
  refine r_eqi 1 (by simp [zB, *]) ?_
  refine j_callps 23 hJ (cp_X1_requireIndex_k D l) lk_X1_142 1 yk_X1_requireIndex rfl ⟨by decide, by decide⟩ rfl (Nat.le_of_ble_eq_true rfl) dX1_charge_20 ⟨Nat.zero_le _, Nat.zero_le _⟩ rfl ?_
  refine r_iload_n 24 2 (hJ.pu _ _ _) dX1_charge_23 rfl rfl ?_
  refine r_iconst 25 0 (hJ.pu _ _ _) dX1_charge_24 (by decide) rfl ?_
  refine r_iconst 26 1 (hJ.pu _ _ _) dX1_charge_25 (by decide) rfl ?_
  refine cs_row 29 hJ (ts_X1_isBetween D l (nI q) 0 1) lk_X1_70 3 yk_X1_isBetween rfl ⟨by decide, by decide⟩ rfl (Nat.le_of_ble_eq_true rfl) dX1_charge_26 ⟨Nat.zero_le _, Nat.zero_le _⟩ rfl ?_
  refine r_eqi 1 (by simp [zB, *]) ?_
  refine j_callps 32 hJ (cp_X1_requireArgument_k D l) lk_X1_74 1 yk_X1_requireArgument rfl ⟨by decide, by decide⟩ rfl (Nat.le_of_ble_eq_true rfl) dX1_charge_29 ⟨Nat.zero_le _, Nat.zero_le _⟩ rfl ?_
  refine r_aload_n 33 0 (hJ.pu _ _ _) dX1_charge_32 rfl rfl ?_
  refine j_getf 36 hJ (T := TX1) (C := RX1) 0 (v := .ref (wd 0)) okX1 hx0 rfl (by decide) (Or.inl q550) (Or.inl rfl) dX1_charge_33 rfl ?_
  refine j_getf 39 hJ (T := TX2) (C := RX2) 0 (v := .ref (rd 0)) okX2 (hw.o.fld 0 rfl) rfl (by decide) (Or.inr ⟨_, nw_q448⟩) (Or.inl rfl) dX1_charge_36 rfl ?_
  refine j_getf 42 hJ (T := TX3) (C := RX3) 3 (v := .ref (rd 4)) okX3 (hw.ru.o.fld 3 rfl) rfl (by decide) (Or.inr ⟨_, nw_q316⟩) (Or.inl rfl) dX1_charge_39 rfl ?_
  refine r_iload_n 43 1 (hJ.pu _ _ _) dX1_charge_42 rfl rfl ?_
  refine j_callp 46 hJ (cp_J8_get D l (rd 4) (rd 5) nch k (fun k => rd (200 + k)) hw.ru.cl (by omega)) lk_X1_164 1 yk_J8_get rfl ⟨by decide, by decide⟩ hw.ru.cl.sz rfl rfl (Nat.le_of_ble_eq_true rfl) dX1_charge_43 ⟨Nat.zero_le _, Nat.zero_le _⟩ rfl ?_
  refine j_castf 49 hJ ((hw.ru.c (k := k) (by omega)).fld 0 rfl) rfl q2417 dX1_charge_46 rfl ?_
  refine r_astore_n 50 [(3, .ref (rd (200 + k))), (0, .ref x), (1, .int (nI k)), (2, .int (nI q))] (hJ.pu _ _ _) dX1_charge_49 rfl (by decide) rfl rfl ?_
  rcases (show q = 0 ∨ q = 1 by omega) with rfl | rfl
  · refine r_iload_n 51 3 (hJ.pu _ _ _) dX1_charge_50 rfl rfl ?_
    refine r_if_ne 54 61 (hJ.pu _ _ _) dX1_charge_51 (by decide) (fun c => absurd (by decide) c) rfl (fun _ => ?_)
    refine r_aload_n 55 0 (hJ.pu _ _ _) dX1_charge_54 rfl rfl ?_
    refine j_getf 58 hJ (T := TX11) (C := RX11) 0 (v := .int (g (19 + 2 * k))) okX11 ((hw.ru.c (k := k) (by omega)).fld 0 rfl) rfl (by decide) (Or.inr ⟨_, nw_q2271⟩) (Or.inl rfl) dX1_charge_55 rfl ?_
    refine r_goto 65 (hJ.pu _ _ _) dX1_charge_58 (by decide) ?_
    exact Rt.i hR rfl dX1_charge_65 (Nat.zero_le _) (Nat.zero_le _) ⟨rfl, rfl⟩
  · refine r_iload_n 51 3 (hJ.pu _ _ _) dX1_charge_50 rfl rfl ?_
    refine r_if_ne 54 61 (hJ.pu _ _ _) dX1_charge_51 (by decide) (fun _ => ?_) rfl (fun c => absurd c (by decide))
    refine r_aload_n 62 0 (hJ.pu _ _ _) dX1_charge_61 rfl rfl ?_
    refine j_getf 65 hJ (T := TX11) (C := RX11) 1 (v := .int (g (19 + 2 * k + 1))) okX11 ((hw.ru.c (k := k) (by omega)).fld 1 rfl) rfl (by decide) (Or.inr ⟨_, nw_q2274⟩) (Or.inl rfl) dX1_charge_62 rfl ?_
    exact Rt.i hR rfl dX1_charge_65 (Nat.zero_le _) (Nat.zero_le _) ⟨rfl, rfl⟩
set_option maxHeartbeats 2000000 in
theorem cp_X1_personData (D : DD) (l : Launch) {H0 : Heap} {K0 : Nat → Prop} (x : Nat) (wd rd : Nat → Nat) (g : Nat → Int32) (h : Nat → Int64) (nb nch ncr : Nat) (hx0 : fld D 1 x 0 (.ref (wd 0)) H0) (hw : woK K0 D wd rd g h nb nch ncr H0) (hnb : nb ≤ 6) (hch : nch ≤ 4) (hcr : ncr ≤ 6) (p : Nat) (hp : p < 6) (q : Nat) (hq : q < 3) (hqb : inB (nI q) 0 2 = true) : Cp D l yX1_personData cX1_personData 4 (some .int) 2 43 [.ref x, .int (nI p), .int (nI q)] H0 (some (.int (g (64 + 3 * p + q)))) := by
  refine Cp.of (by decide) (Nat.le_of_ble_eq_true rfl) (fun s A J hJ hR => ?_)
  show J H0 0 0 0 [] [(0, .ref x), (1, .int (nI p)), (2, .int (nI q))]
  refine r_aload_n 1 0 (hJ.pu _ _ _) dX1_personData_0 rfl rfl ?_
  refine r_iload_n 2 1 (hJ.pu _ _ _) dX1_personData_1 rfl rfl ?_
  refine j_callp 5 hJ (cp_X1_person D l x wd rd g h nb nch ncr hx0 hw hnb hch hcr p (by omega) (per_in (by omega))) lk_X1_211 1 yk_X1_person rfl ⟨by decide, by decide⟩ hx0 rfl rfl (Nat.le_of_ble_eq_true rfl) dX1_personData_2 ⟨Nat.zero_le _, Nat.zero_le _⟩ rfl ?_
  refine r_astore_n 6 [(3, .ref (wd (10 + p))), (0, .ref x), (1, .int (nI p)), (2, .int (nI q))] (hJ.pu _ _ _) dX1_personData_5 rfl (by decide) rfl rfl ?_
  refine r_iload_n 7 3 (hJ.pu _ _ _) dX1_personData_6 rfl rfl ?_
  refine r_iconst 8 0 (hJ.pu _ _ _) dX1_personData_7 (by decide) rfl ?_
  refine r_iconst 9 2 (hJ.pu _ _ _) dX1_personData_8 (by decide) rfl ?_
  refine cs_row 12 hJ (ts_X1_isBetween D l (nI q) 0 2) lk_X1_70 3 yk_X1_isBetween rfl ⟨by decide, by decide⟩ rfl (Nat.le_of_ble_eq_true rfl) dX1_personData_9 ⟨Nat.zero_le _, Nat.zero_le _⟩ rfl ?_
  refine r_eqi 1 (by simp [zB, *]) ?_
  refine j_callps 15 hJ (cp_X1_requireArgument_k D l) lk_X1_74 1 yk_X1_requireArgument rfl ⟨by decide, by decide⟩ rfl (Nat.le_of_ble_eq_true rfl) dX1_personData_12 ⟨Nat.zero_le _, Nat.zero_le _⟩ rfl ?_
  rcases (show q = 0 ∨ q = 1 ∨ q = 2 by omega) with rfl | rfl | rfl
  · refine r_iload_n 16 3 (hJ.pu _ _ _) dX1_personData_15 rfl rfl ?_
    refine r_if_ne 19 26 (hJ.pu _ _ _) dX1_personData_16 (by decide) (fun c => absurd (by decide) c) rfl (fun _ => ?_)
    refine r_aload_n 20 0 (hJ.pu _ _ _) dX1_personData_19 rfl rfl ?_
    refine j_getf 23 hJ (T := TX5) (C := RX5) 0 (v := .int (g (64 + 3 * p + 0))) okX5 ((hw.p (p := p) (by omega)).fld 0 rfl) rfl (by decide) (Or.inr ⟨_, nw_q342⟩) (Or.inl rfl) dX1_personData_20 rfl ?_
    refine r_goto 42 (hJ.pu _ _ _) dX1_personData_23 (by decide) ?_
    exact Rt.i hR rfl dX1_personData_42 (Nat.zero_le _) (Nat.zero_le _) ⟨rfl, rfl⟩
  · refine r_iload_n 16 3 (hJ.pu _ _ _) dX1_personData_15 rfl rfl ?_
    refine r_if_ne 19 26 (hJ.pu _ _ _) dX1_personData_16 (by decide) (fun _ => ?_) rfl (fun c => absurd c (by decide))
    refine r_iload_n 27 3 (hJ.pu _ _ _) dX1_personData_26 rfl rfl ?_
    refine r_iconst 28 1 (hJ.pu _ _ _) dX1_personData_27 (by decide) rfl ?_
    refine r_icmp_neN 1 1 31 38 (hJ.pu _ _ _) dX1_personData_28 (by omega) (by omega) (by decide) (fun c28 => absurd c28 (by decide)) rfl (fun c28 => ?_)
    refine r_aload_n 32 0 (hJ.pu _ _ _) dX1_personData_31 rfl rfl ?_
    refine j_getf 35 hJ (T := TX5) (C := RX5) 1 (v := .int (g (64 + 3 * p + 1))) okX5 ((hw.p (p := p) (by omega)).fld 1 rfl) rfl (by decide) (Or.inr ⟨_, nw_q344⟩) (Or.inl rfl) dX1_personData_32 rfl ?_
    refine r_goto 42 (hJ.pu _ _ _) dX1_personData_35 (by decide) ?_
    exact Rt.i hR rfl dX1_personData_42 (Nat.zero_le _) (Nat.zero_le _) ⟨rfl, rfl⟩
  · refine r_iload_n 16 3 (hJ.pu _ _ _) dX1_personData_15 rfl rfl ?_
    refine r_if_ne 19 26 (hJ.pu _ _ _) dX1_personData_16 (by decide) (fun _ => ?_) rfl (fun c => absurd c (by decide))
    refine r_iload_n 27 3 (hJ.pu _ _ _) dX1_personData_26 rfl rfl ?_
    refine r_iconst 28 1 (hJ.pu _ _ _) dX1_personData_27 (by decide) rfl ?_
    refine r_icmp_neN 2 1 31 38 (hJ.pu _ _ _) dX1_personData_28 (by omega) (by omega) (by decide) (fun c28 => ?_) rfl (fun c28 => absurd c28 (by decide))
    refine r_aload_n 39 0 (hJ.pu _ _ _) dX1_personData_38 rfl rfl ?_
    refine j_getf 42 hJ (T := TX5) (C := RX5) 2 (v := .int (g (64 + 3 * p + 2))) okX5 ((hw.p (p := p) (by omega)).fld 2 rfl) rfl (by decide) (Or.inr ⟨_, nw_q346⟩) (Or.inl rfl) dX1_personData_39 rfl ?_
    exact Rt.i hR rfl dX1_personData_42 (Nat.zero_le _) (Nat.zero_le _) ⟨rfl, rfl⟩
