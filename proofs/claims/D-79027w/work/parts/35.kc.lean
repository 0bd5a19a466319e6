/-! taxes of people and couples, as the component finds them -/
def aloT (g : Nat → Int32) (h : Nat → Int64) (nb nch ncr p : Nat) (e d : Int32) : Int64 := reK g e (e + g (64 + 3 * p + 1)) d 1 (fun k => h (6 * p + k)) (p5K g e (e + g (64 + 3 * p + 1)) d 1 nb nch) ncr
def aloP (g : Nat → Int32) (h : Nat → Int64) (nb nch ncr p : Nat) (e d : Int32) (L : TL) : Prop := cseK g (fun k => h (6 * p + k)) e (e + g (64 + 3 * p + 1)) d 1 nb nch ncr L
def owT (g : Nat → Int32) (h : Nat → Int64) (nb nch ncr p : Nat) : Int64 := aloT g h nb nch ncr p (g (64 + 3 * p + 0)) (g (64 + 3 * p + 2))
def owP (g : Nat → Int32) (h : Nat → Int64) (nb nch ncr p : Nat) (L : TL) : Prop := aloP g h nb nch ncr p (g (64 + 3 * p + 0)) (g (64 + 3 * p + 2)) L
def jE (g : Nat → Int32) (p q j : Nat) : Int32 := g (64 + 3 * p + j) + g (64 + 3 * q + j)
def joT (g : Nat → Int32) (h : Nat → Int64) (nb nch ncr p q : Nat) : Int64 := reK g (jE g p q 0) (jE g p q 0 + jE g p q 1) (jE g p q 2) 2 (fun k => h (6 * p + k) + h (6 * q + k)) (p5K g (jE g p q 0) (jE g p q 0 + jE g p q 1) (jE g p q 2) 2 nb nch) ncr
def joP (g : Nat → Int32) (h : Nat → Int64) (nb nch ncr p q : Nat) (L : TL) : Prop := cseK g (fun k => h (6 * p + k) + h (6 * q + k)) (jE g p q 0) (jE g p q 0 + jE g p q 1) (jE g p q 2) 2 nb nch ncr L
def joL (L : TL) (h : Nat → Int64) (p q : Nat) : Nat → TL
  | 0 => L
  | k + 1 => upL (joL L h p q k) 0 k (h (6 * p + k) + h (6 * q + k))
theorem joL_0 (L : TL) (h : Nat → Int64) (p q : Nat) : ∀ n k, k < n → joL L h p q n 0 k = h (6 * p + k) + h (6 * q + k) := by
  intro n
  induction n with
  | zero => intro k h; omega
  | succ n ih =>
    intro k hk
    by_cases e : k = n
    · subst e; simp [joL, va_up, vp_updL]
    · simp [joL, va_up, vp_updL, e, ih k (by omega)]
def diT (g : Nat → Int32) (h : Nat → Int64) (nb nch ncr a b : Nat) (s : Int32) : Int64 := aloT g h nb nch ncr a (g (64 + 3 * a + 0)) s + aloT g h nb nch ncr b (g (64 + 3 * b + 0)) (g (64 + 3 * a + 2) + g (64 + 3 * b + 2) - s)
def beT (g : Nat → Int32) (h : Nat → Int64) (nb nch ncr a b : Nat) : Nat → Nat
  | 0 => 0
  | k + 1 => if diT g h nb nch ncr a b (nI (k + 1)) < diT g h nb nch ncr a b (nI (beT g h nb nch ncr a b k)) then k + 1 else beT g h nb nch ncr a b k
def seT (g : Nat → Int32) (h : Nat → Int64) (nb nch ncr a b n : Nat) : Int64 := diT g h nb nch ncr a b (nI (beT g h nb nch ncr a b n))
/-- a couple p, q: a the first of them, b the second, n their dependents -/
def cpl (g : Nat → Int32) (p q a b n : Nat) : Prop := p < 6 ∧ q < 6 ∧ a < 6 ∧ b < 6 ∧ n ≤ 18 ∧ g (82 + p) = nI q ∧ minJ (nI p) (nI q) = nI a ∧ g (82 + a) = nI b ∧ g (64 + 3 * p + 2) + g (64 + 3 * q + 2) = nI n
theorem nI_nm1 {q : Nat} (h : q < 6) : ¬ nI q = (-1) := by
  rcases (show q = 0 ∨ q = 1 ∨ q = 2 ∨ q = 3 ∨ q = 4 ∨ q = 5 by omega) with rfl | rfl | rfl | rfl | rfl | rfl <;> decide

set_option maxHeartbeats 4000000 in
theorem kc_X7_set (D : DD) (l : Launch) (kd : Nat → Nat) (hN : kwN kd) {Q : Heap → Prop} (hQ : kQ kd Q) (e o d f : Int32) (L : TL) (C : TC) : Kc D l yX7_set cX7_set 5 none 0 0 kd Q [.ref (kd 1), .int e, .int o, .int d, .int f] L C (fun r L' C' => r = none ∧ L' = L ∧ C' = upC (upC (upC (upC C 0 e) 1 (e + o)) 2 d) 3 f) := by
  refine Kc.of hN hQ (by decide) (Nat.le_of_ble_eq_true rfl) (fun s K hK hR => ?_)
  show K L C 0 [] [(0, .ref (kd 1)), (1, .int e), (2, .int o), (3, .int d), (4, .int f)]
  refine r_aload_n 1 0 (hK.pu _ _) dX7_set_0 rfl rfl ?_
  refine r_iload_n 2 1 (hK.pu _ _) dX7_set_1 rfl rfl ?_
  refine k_puts 5 hK 0 (by decide) (Or.inl q500) (Or.inl rfl) rfl rfl rfl rfl dX7_set_2 rfl ?_
  refine r_aload_n 6 0 (hK.pu _ _) dX7_set_5 rfl rfl ?_
  refine r_iload_n 7 1 (hK.pu _ _) dX7_set_6 rfl rfl ?_
  refine r_iload_n 8 2 (hK.pu _ _) dX7_set_7 rfl rfl ?_
  refine r_iadd 9 (hK.pu _ _) dX7_set_8 rfl ?_
  refine k_puts 12 hK 1 (by decide) (Or.inl q502) (Or.inl rfl) rfl rfl rfl rfl dX7_set_9 rfl ?_
  refine r_aload_n 13 0 (hK.pu _ _) dX7_set_12 rfl rfl ?_
  refine r_iload_n 14 3 (hK.pu _ _) dX7_set_13 rfl rfl ?_
  refine k_puts 17 hK 2 (by decide) (Or.inl q505) (Or.inl rfl) rfl rfl rfl rfl dX7_set_14 rfl ?_
  refine r_aload_n 18 0 (hK.pu _ _) dX7_set_17 rfl rfl ?_
  refine r_iload 20 4 (hK.pu _ _) dX7_set_18 rfl rfl ?_
  refine k_puts 23 hK 3 (by decide) (Or.inl q507) (Or.inl rfl) rfl rfl rfl rfl dX7_set_20 rfl ?_
  exact KR.v hR dX7_set_23 ⟨rfl, rfl, rfl⟩
theorem lk_X1_242 : GoodIn lw_all (wsV RX1 242 yX7_set.cls yX7_set (ws_ yX7_set cX7_set 5 none)) := lw_V q1888 q1889 q1890 q124 q1891
theorem yk_X7_set : yOk yX7_set 4 := by decide +kernel
theorem lk_X1_164 : GoodIn lw_all (wsV RX1 164 yJ8_get.cls yJ8_get (ws_ yJ8_get cJ8_get 2 (Option.some (ClassFile.FieldType.object "java/lang/Object")))) := lw_V q1892 q1391 q3929 q114 q1392
theorem lk_X1_256 : GoodIn lw_all (wsV RX1 256 yX6_run.cls yX6_run (ws_ yX6_run cX6_run 5 (some .long))) := lw_V q1894 q1895 q1896 q123 q1897
theorem yk_X6_run : yOk yX6_run 1 := by decide +kernel
set_option maxHeartbeats 4000000 in
theorem kc_X1_alone_2 (D : DD) (l : Launch) (kd : Nat → Nat) (hN : kwN kd) {Q : Heap → Prop} (hQ : kQ kd Q) {K0 : Nat → Prop} (x : Nat) (wd rd : Nat → Nat) (g : Nat → Int32) (h : Nat → Int64) (nb nch ncr : Nat) (hx0 : ∀ {H : Heap}, Q H → fld D 1 x 0 (.ref (wd 0)) H) (hx3 : ∀ {H : Heap}, Q H → fld D 1 x 3 (.ref (kd 0)) H) (hw : ∀ {H : Heap}, Q H → woK K0 D wd rd g h nb nch ncr H) (hnb : nb ≤ 6) (hch : nch ≤ 4) (hcr : ncr ≤ 6) (p : Nat) (hp : p < 6) (e d : Int32) (L : TL) (C : TC) : Kc D l yX1_alone_2 cX1_alone_2 4 (some .long) 6 174 kd Q [.ref x, .int (nI p), .int e, .int d] L C (fun r L' C' => r = some (.long (aloT g h nb nch ncr p e d)) ∧ aloP g h nb nch ncr p e d L') := by
  refine Kc.of hN hQ (by decide) (Nat.le_of_ble_eq_true rfl) (fun s K hK hR => ?_)
  show K L C 0 [] [(0, .ref x), (1, .int (nI p)), (2, .int e), (3, .int d)]
  refine r_aload_n 1 0 (hK.pu _ _) dX1_alone_2_0 rfl rfl ?_
  refine k_getq 4 hK (T := TX1) (C' := RX1) 3 (v := .ref (kd 0)) okX1 (fun _ z => (hx3 z)) rfl (by decide) (Or.inl q553) (Or.inl rfl) dX1_alone_2_1 rfl ?_
  refine k_getc 7 hK 0 (.ref (kd 1)) (by decide) (Or.inr ⟨_, nw_q525⟩) (Or.inl rfl) rfl dX1_alone_2_4 rfl ?_
  refine r_iload_n 8 2 (hK.pu _ _) dX1_alone_2_7 rfl rfl ?_
  refine r_aload_n 9 0 (hK.pu _ _) dX1_alone_2_8 rfl rfl ?_
  refine k_getq 12 hK (T := TX1) (C' := RX1) 0 (v := .ref (wd 0)) okX1 (fun _ z => (hx0 z)) rfl (by decide) (Or.inl q550) (Or.inl rfl) dX1_alone_2_9 rfl ?_
  refine k_getq 15 hK (T := TX2) (C' := RX2) 1 (v := .ref (wd 1)) okX2 (fun _ z => ((hw z).o.fld 1 rfl)) rfl (by decide) (Or.inr ⟨_, nw_q450⟩) (Or.inl rfl) dX1_alone_2_12 rfl ?_
  refine r_iload_n 16 1 (hK.pu _ _) dX1_alone_2_15 rfl rfl ?_
  refine k_aaldq 17 hK p (x := some (wd (10 + p))) (fun _ z => ((hw z).pe.el (j := p) (by omega))) rfl rfl (by omega) (by omega) dX1_alone_2_16 rfl ?_
  refine k_getq 20 hK (T := TX5) (C' := RX5) 1 (v := .int (g (64 + 3 * p + 1))) okX5 (fun _ z => (((hw z).p (p := p) (by omega)).fld 1 rfl)) rfl (by decide) (Or.inr ⟨_, nw_q344⟩) (Or.inl rfl) dX1_alone_2_17 rfl ?_
  refine r_iload_n 21 3 (hK.pu _ _) dX1_alone_2_20 rfl rfl ?_
  refine r_iconst 22 1 (hK.pu _ _) dX1_alone_2_21 (by decide) rfl ?_
  refine k_d0 25 hK (kc_X7_set D l kd hN hQ e (g (64 + 3 * p + 1)) d 1 L C) lk_X1_242 4 yk_X7_set rfl ⟨by decide, by decide⟩ (fun _ hh z => (hh.2.1.fld 4 rfl)) rfl rfl (Nat.le_of_ble_eq_true rfl) dX1_alone_2_22 rfl ?_
  refine r_aload_n 26 0 (hK.pu _ _) dX1_alone_2_25 rfl rfl ?_
  refine k_getq 29 hK (T := TX1) (C' := RX1) 0 (v := .ref (wd 0)) okX1 (fun _ z => (hx0 z)) rfl (by decide) (Or.inl q550) (Or.inl rfl) dX1_alone_2_26 rfl ?_
  refine k_getq 32 hK (T := TX2) (C' := RX2) 3 (v := .ref (wd 3)) okX2 (fun _ z => ((hw z).o.fld 3 rfl)) rfl (by decide) (Or.inr ⟨_, nw_q454⟩) (Or.inl rfl) dX1_alone_2_29 rfl ?_
  refine r_iload_n 33 1 (hK.pu _ _) dX1_alone_2_32 rfl rfl ?_
  refine k_callp 36 hK (fun _ hh z => cp_J8_get D l (wd 3) (wd 4) 6 p (fun p => wd (20 + p)) (hw z).ca (by omega)) lk_X1_164 1 yk_J8_get rfl ⟨by decide, by decide⟩ (fun _ hh z => (hw z).ca.sz) rfl rfl (Nat.le_of_ble_eq_true rfl) dX1_alone_2_33 rfl ?_
  refine r_iconst 37 0 (hK.pu _ _) dX1_alone_2_36 (by decide) rfl ?_
  refine r_aload_n 38 0 (hK.pu _ _) dX1_alone_2_37 rfl rfl ?_
  refine k_getq 41 hK (T := TX1) (C' := RX1) 3 (v := .ref (kd 0)) okX1 (fun _ z => (hx3 z)) rfl (by decide) (Or.inl q553) (Or.inl rfl) dX1_alone_2_38 rfl ?_
  refine k_getc 44 hK 0 (.ref (kd 1)) (by decide) (Or.inr ⟨_, nw_q525⟩) (Or.inl rfl) rfl dX1_alone_2_41 rfl ?_
  refine k_gets 47 hK 4 (.ref (kd 2)) (by decide) (Or.inr ⟨_, nw_q512⟩) (Or.inl rfl) rfl dX1_alone_2_44 rfl ?_
  refine r_iconst 48 0 (hK.pu _ _) dX1_alone_2_47 (by decide) rfl ?_
  refine r_bipush 50 6 (hK.pu _ _) dX1_alone_2_48 (by decide) rfl ?_
  refine k_copy 53 hK (fun _ z => (hw z).c (p := p) (by omega)) q1893 ⟨by decide, by decide⟩ (Nat.le_of_ble_eq_true rfl) dX1_alone_2_50 rfl (fun f' hf' => ?_)
  refine r_aload_n 54 0 (hK.pu _ _) dX1_alone_2_53 rfl rfl ?_
  refine k_getq 57 hK (T := TX1) (C' := RX1) 3 (v := .ref (kd 0)) okX1 (fun _ z => (hx3 z)) rfl (by decide) (Or.inl q553) (Or.inl rfl) dX1_alone_2_54 rfl ?_
  refine r_aload_n 58 0 (hK.pu _ _) dX1_alone_2_57 rfl rfl ?_
  refine k_getq 61 hK (T := TX1) (C' := RX1) 0 (v := .ref (wd 0)) okX1 (fun _ z => (hx0 z)) rfl (by decide) (Or.inl q550) (Or.inl rfl) dX1_alone_2_58 rfl ?_
  refine k_getq 64 hK (T := TX2) (C' := RX2) 0 (v := .ref (rd 0)) okX2 (fun _ z => ((hw z).o.fld 0 rfl)) rfl (by decide) (Or.inr ⟨_, nw_q448⟩) (Or.inl rfl) dX1_alone_2_61 rfl ?_
  refine k_d1 67 hK (kc_X6_run D l kd hN hQ rd g nb nch ncr (fun z => (hw z).ru) hnb hch hcr (va_up L 0 f') (upC (upC (upC (upC C 0 e) 1 (e + (g (64 + 3 * p + 1)))) 2 d) 3 1)) lk_X1_256 1 yk_X6_run rfl ⟨by decide, by decide⟩ (fun _ hh z => (hh.1.fld 0 rfl)) rfl rfl (Nat.le_of_ble_eq_true rfl) dX1_alone_2_64 rfl ?_
  exact KR.lg hR dX1_alone_2_67 ⟨by rw [(run_post g (fun k => h (6 * p + k)) _ _ _ _ _ nb nch ncr hcr hf').1]; rfl, (run_post g (fun k => h (6 * p + k)) _ _ _ _ _ nb nch ncr hcr hf').2⟩
theorem lk_X1_260 : GoodIn lw_all (wsV RX1 260 yX1_alone_2.cls yX1_alone_2 (ws_ yX1_alone_2 cX1_alone_2 4 (some .long))) := lw_V q1884 q1886 qs24 q102 q1887
theorem yk_X1_alone_2 : yOk yX1_alone_2 3 := by decide +kernel
set_option maxHeartbeats 4000000 in
theorem kc_X1_alone (D : DD) (l : Launch) (kd : Nat → Nat) (hN : kwN kd) {Q : Heap → Prop} (hQ : kQ kd Q) {K0 : Nat → Prop} (x : Nat) (wd rd : Nat → Nat) (g : Nat → Int32) (h : Nat → Int64) (nb nch ncr : Nat) (hx0 : ∀ {H : Heap}, Q H → fld D 1 x 0 (.ref (wd 0)) H) (hx3 : ∀ {H : Heap}, Q H → fld D 1 x 3 (.ref (kd 0)) H) (hw : ∀ {H : Heap}, Q H → woK K0 D wd rd g h nb nch ncr H) (hnb : nb ≤ 6) (hch : nch ≤ 4) (hcr : ncr ≤ 6) (p : Nat) (hp : p < 6) (L : TL) (C : TC) : Kc D l yX1_alone cX1_alone 2 (some .long) 7 197 kd Q [.ref x, .int (nI p)] L C (fun r L' C' => r = some (.long (owT g h nb nch ncr p)) ∧ owP g h nb nch ncr p L') := by
  refine Kc.of hN hQ (by decide) (Nat.le_of_ble_eq_true rfl) (fun s K hK hR => ?_)
  show K L C 0 [] [(0, .ref x), (1, .int (nI p))]
  refine r_aload_n 1 0 (hK.pu _ _) dX1_alone_0 rfl rfl ?_
  refine r_iload_n 2 1 (hK.pu _ _) dX1_alone_1 rfl rfl ?_
  refine r_aload_n 3 0 (hK.pu _ _) dX1_alone_2 rfl rfl ?_
  refine k_getq 6 hK (T := TX1) (C' := RX1) 0 (v := .ref (wd 0)) okX1 (fun _ z => (hx0 z)) rfl (by decide) (Or.inl q550) (Or.inl rfl) dX1_alone_3 rfl ?_
  refine k_getq 9 hK (T := TX2) (C' := RX2) 1 (v := .ref (wd 1)) okX2 (fun _ z => ((hw z).o.fld 1 rfl)) rfl (by decide) (Or.inr ⟨_, nw_q450⟩) (Or.inl rfl) dX1_alone_6 rfl ?_
  refine r_iload_n 10 1 (hK.pu _ _) dX1_alone_9 rfl rfl ?_
  refine k_aaldq 11 hK p (x := some (wd (10 + p))) (fun _ z => ((hw z).pe.el (j := p) (by omega))) rfl rfl (by omega) (by omega) dX1_alone_10 rfl ?_
  refine k_getq 14 hK (T := TX5) (C' := RX5) 0 (v := .int (g (64 + 3 * p + 0))) okX5 (fun _ z => (((hw z).p (p := p) (by omega)).fld 0 rfl)) rfl (by decide) (Or.inr ⟨_, nw_q342⟩) (Or.inl rfl) dX1_alone_11 rfl ?_
  refine r_aload_n 15 0 (hK.pu _ _) dX1_alone_14 rfl rfl ?_
  refine k_getq 18 hK (T := TX1) (C' := RX1) 0 (v := .ref (wd 0)) okX1 (fun _ z => (hx0 z)) rfl (by decide) (Or.inl q550) (Or.inl rfl) dX1_alone_15 rfl ?_
  refine k_getq 21 hK (T := TX2) (C' := RX2) 1 (v := .ref (wd 1)) okX2 (fun _ z => ((hw z).o.fld 1 rfl)) rfl (by decide) (Or.inr ⟨_, nw_q450⟩) (Or.inl rfl) dX1_alone_18 rfl ?_
  refine r_iload_n 22 1 (hK.pu _ _) dX1_alone_21 rfl rfl ?_
  refine k_aaldq 23 hK p (x := some (wd (10 + p))) (fun _ z => ((hw z).pe.el (j := p) (by omega))) rfl rfl (by omega) (by omega) dX1_alone_22 rfl ?_
  refine k_getq 26 hK (T := TX5) (C' := RX5) 2 (v := .int (g (64 + 3 * p + 2))) okX5 (fun _ z => (((hw z).p (p := p) (by omega)).fld 2 rfl)) rfl (by decide) (Or.inr ⟨_, nw_q346⟩) (Or.inl rfl) dX1_alone_23 rfl ?_
  refine k_call 29 hK (kc_X1_alone_2 D l kd hN hQ x wd rd g h nb nch ncr hx0 hx3 hw hnb hch hcr p (by omega) (g (64 + 3 * p + 0)) (g (64 + 3 * p + 2)) L C) lk_X1_260 3 yk_X1_alone_2 rfl ⟨by decide, by decide⟩ (fun _ hh z => (hx0 z)) rfl rfl (Nat.le_of_ble_eq_true rfl) dX1_alone_26 rfl (fun r L1 C1 h1 => ?_)
  obtain ⟨rfl, p1⟩ := h1
  exact KR.lg hR dX1_alone_29 ⟨rfl, p1⟩
set_option maxHeartbeats 4000000 in
theorem kc_X1_curveAt (D : DD) (l : Launch) (kd : Nat → Nat) (hN : kwN kd) {Q : Heap → Prop} (hQ : kQ kd Q) {K0 : Nat → Prop} (x : Nat) (wd rd : Nat → Nat) (g : Nat → Int32) (h : Nat → Int64) (nb nch ncr : Nat) (hx0 : ∀ {H : Heap}, Q H → fld D 1 x 0 (.ref (wd 0)) H) (hx3 : ∀ {H : Heap}, Q H → fld D 1 x 3 (.ref (kd 0)) H) (hw : ∀ {H : Heap}, Q H → woK K0 D wd rd g h nb nch ncr H) (hnb : nb ≤ 6) (hch : nch ≤ 4) (hcr : ncr ≤ 6) (p : Nat) (hp : p < 6) (e : Int32) (L : TL) (C : TC) : Kc D l yX1_curveAt cX1_curveAt 3 (some .long) 7 197 kd Q [.ref x, .int (nI p), .int e] L C (fun r L' C' => r = some (.long (aloT g h nb nch ncr p e (g (64 + 3 * p + 2)))) ∧ aloP g h nb nch ncr p e (g (64 + 3 * p + 2)) L') := by
  refine Kc.of hN hQ (by decide) (Nat.le_of_ble_eq_true rfl) (fun s K hK hR => ?_)
  show K L C 0 [] [(0, .ref x), (1, .int (nI p)), (2, .int e)]
  refine r_aload_n 1 0 (hK.pu _ _) dX1_curveAt_0 rfl rfl ?_
  refine r_iload_n 2 1 (hK.pu _ _) dX1_curveAt_1 rfl rfl ?_
  refine r_iload_n 3 2 (hK.pu _ _) dX1_curveAt_2 rfl rfl ?_
  refine r_aload_n 4 0 (hK.pu _ _) dX1_curveAt_3 rfl rfl ?_
  refine k_getq 7 hK (T := TX1) (C' := RX1) 0 (v := .ref (wd 0)) okX1 (fun _ z => (hx0 z)) rfl (by decide) (Or.inl q550) (Or.inl rfl) dX1_curveAt_4 rfl ?_
  refine k_getq 10 hK (T := TX2) (C' := RX2) 1 (v := .ref (wd 1)) okX2 (fun _ z => ((hw z).o.fld 1 rfl)) rfl (by decide) (Or.inr ⟨_, nw_q450⟩) (Or.inl rfl) dX1_curveAt_7 rfl ?_
  refine r_iload_n 11 1 (hK.pu _ _) dX1_curveAt_10 rfl rfl ?_
  refine k_aaldq 12 hK p (x := some (wd (10 + p))) (fun _ z => ((hw z).pe.el (j := p) (by omega))) rfl rfl (by omega) (by omega) dX1_curveAt_11 rfl ?_
  refine k_getq 15 hK (T := TX5) (C' := RX5) 2 (v := .int (g (64 + 3 * p + 2))) okX5 (fun _ z => (((hw z).p (p := p) (by omega)).fld 2 rfl)) rfl (by decide) (Or.inr ⟨_, nw_q346⟩) (Or.inl rfl) dX1_curveAt_12 rfl ?_
  refine k_call 18 hK (kc_X1_alone_2 D l kd hN hQ x wd rd g h nb nch ncr hx0 hx3 hw hnb hch hcr p (by omega) e (g (64 + 3 * p + 2)) L C) lk_X1_260 3 yk_X1_alone_2 rfl ⟨by decide, by decide⟩ (fun _ hh z => (hx0 z)) rfl rfl (Nat.le_of_ble_eq_true rfl) dX1_curveAt_15 rfl (fun r L1 C1 h1 => ?_)
  obtain ⟨rfl, p1⟩ := h1
  exact KR.lg hR dX1_curveAt_18 ⟨rfl, p1⟩
set_option maxHeartbeats 4000000 in
theorem kc_X1_firstOf (D : DD) (l : Launch) (kd : Nat → Nat) (hN : kwN kd) {Q : Heap → Prop} (hQ : kQ kd Q) {K0 : Nat → Prop} (x : Nat) (wd rd : Nat → Nat) (g : Nat → Int32) (h : Nat → Int64) (nb nch ncr : Nat) (hx0 : ∀ {H : Heap}, Q H → fld D 1 x 0 (.ref (wd 0)) H) (hx3 : ∀ {H : Heap}, Q H → fld D 1 x 3 (.ref (kd 0)) H) (hw : ∀ {H : Heap}, Q H → woK K0 D wd rd g h nb nch ncr H) (hnb : nb ≤ 6) (hch : nch ≤ 4) (hcr : ncr ≤ 6) (p q a b n : Nat) (hc : cpl g p q a b n) (L : TL) (C : TC) : Kc D l yX1_firstOf cX1_firstOf 2 (some .int) 1 23 kd Q [.ref x, .int (nI p)] L C (fun r L' C' => r = some (.int (nI a)) ∧ L' = L ∧ C' = C) := by
  obtain ⟨hp, hq, ha, hb, hn, hpq, hf, hab, hall⟩ := hc
  refine Kc.of hN hQ (by decide) (Nat.le_of_ble_eq_true rfl) (fun s K hK hR => ?_)
  show K L C 0 [] [(0, .ref x), (1, .int (nI p))]
  refine r_iload_n 1 1 (hK.pu _ _) dX1_firstOf_0 rfl rfl ?_
  refine r_aload_n 2 0 (hK.pu _ _) dX1_firstOf_1 rfl rfl ?_
  refine k_getq 5 hK (T := TX1) (C' := RX1) 0 (v := .ref (wd 0)) okX1 (fun _ z => (hx0 z)) rfl (by decide) (Or.inl q550) (Or.inl rfl) dX1_firstOf_2 rfl ?_
  refine k_getq 8 hK (T := TX2) (C' := RX2) 2 (v := .ref (wd 2)) okX2 (fun _ z => ((hw z).o.fld 2 rfl)) rfl (by decide) (Or.inr ⟨_, nw_q452⟩) (Or.inl rfl) dX1_firstOf_5 rfl ?_
  refine r_iload_n 9 1 (hK.pu _ _) dX1_firstOf_8 rfl rfl ?_
  refine k_ialdq 10 hK p (fun _ z => ((hw z).pa.el (j := p) (by omega))) rfl (by omega) (by omega) dX1_firstOf_9 rfl ?_
  refine r_eqi (nI q) hpq ?_
  refine k_minJ 13 hK q1975 ⟨by decide, by decide⟩ (Nat.le_of_ble_eq_true rfl) dX1_firstOf_10 rfl ?_
  refine r_eqi (nI a) hf ?_
  exact KR.i hR rfl dX1_firstOf_13 ⟨rfl, rfl, rfl⟩
set_option maxHeartbeats 4000000 in
theorem kc_X1_joint (D : DD) (l : Launch) (kd : Nat → Nat) (hN : kwN kd) {Q : Heap → Prop} (hQ : kQ kd Q) {K0 : Nat → Prop} (x : Nat) (wd rd : Nat → Nat) (g : Nat → Int32) (h : Nat → Int64) (nb nch ncr : Nat) (hx0 : ∀ {H : Heap}, Q H → fld D 1 x 0 (.ref (wd 0)) H) (hx3 : ∀ {H : Heap}, Q H → fld D 1 x 3 (.ref (kd 0)) H) (hw : ∀ {H : Heap}, Q H → woK K0 D wd rd g h nb nch ncr H) (hnb : nb ≤ 6) (hch : nch ≤ 4) (hcr : ncr ≤ 6) (p q a b n : Nat) (hc : cpl g p q a b n) (L : TL) (C : TC) : Kc D l yX1_joint cX1_joint 6 (some .long) 6 174 kd Q [.ref x, .int (nI p)] L C (fun r L' C' => r = some (.long (joT g h nb nch ncr p q)) ∧ joP g h nb nch ncr p q L') := by
  have hc := hc
  obtain ⟨hp, hq, ha, hb, hn, hpq, hf, hab, hall⟩ := id hc
  refine Kc.of hN hQ (by decide) (Nat.le_of_ble_eq_true rfl) (fun s K hK hR => ?_)
  show K L C 0 [] [(0, .ref x), (1, .int (nI p))]
  refine r_aload_n 1 0 (hK.pu _ _) dX1_joint_0 rfl rfl ?_
  refine k_getq 4 hK (T := TX1) (C' := RX1) 0 (v := .ref (wd 0)) okX1 (fun _ z => (hx0 z)) rfl (by decide) (Or.inl q550) (Or.inl rfl) dX1_joint_1 rfl ?_
  refine k_getq 7 hK (T := TX2) (C' := RX2) 2 (v := .ref (wd 2)) okX2 (fun _ z => ((hw z).o.fld 2 rfl)) rfl (by decide) (Or.inr ⟨_, nw_q452⟩) (Or.inl rfl) dX1_joint_4 rfl ?_
  refine r_iload_n 8 1 (hK.pu _ _) dX1_joint_7 rfl rfl ?_
  refine k_ialdq 9 hK p (fun _ z => ((hw z).pa.el (j := p) (by omega))) rfl (by omega) (by omega) dX1_joint_8 rfl ?_
  refine r_eqi (nI q) hpq ?_
  refine r_istore_n 10 [(2, .int (nI q)), (0, .ref x), (1, .int (nI p))] (hK.pu _ _) dX1_joint_9 rfl (by decide) rfl rfl ?_
  refine r_aload_n 11 1 (hK.pu _ _) dX1_joint_10 rfl rfl ?_
  refine k_getq 14 hK (T := TX1) (C' := RX1) 0 (v := .ref (wd 0)) okX1 (fun _ z => (hx0 z)) rfl (by decide) (Or.inl q550) (Or.inl rfl) dX1_joint_11 rfl ?_
  refine k_getq 17 hK (T := TX2) (C' := RX2) 1 (v := .ref (wd 1)) okX2 (fun _ z => ((hw z).o.fld 1 rfl)) rfl (by decide) (Or.inr ⟨_, nw_q450⟩) (Or.inl rfl) dX1_joint_14 rfl ?_
  refine r_iload_n 18 2 (hK.pu _ _) dX1_joint_17 rfl rfl ?_
  refine k_aaldq 19 hK p (x := some (wd (10 + p))) (fun _ z => ((hw z).pe.el (j := p) (by omega))) rfl rfl (by omega) (by omega) dX1_joint_18 rfl ?_
  refine r_astore_n 20 [(3, .ref (wd (10 + p))), (2, .int (nI q)), (0, .ref x), (1, .int (nI p))] (hK.pu _ _) dX1_joint_19 rfl (by decide) rfl rfl ?_
  refine r_aload_n 21 2 (hK.pu _ _) dX1_joint_20 rfl rfl ?_
  refine k_getq 24 hK (T := TX1) (C' := RX1) 0 (v := .ref (wd 0)) okX1 (fun _ z => (hx0 z)) rfl (by decide) (Or.inl q550) (Or.inl rfl) dX1_joint_21 rfl ?_
  refine k_getq 27 hK (T := TX2) (C' := RX2) 1 (v := .ref (wd 1)) okX2 (fun _ z => ((hw z).o.fld 1 rfl)) rfl (by decide) (Or.inr ⟨_, nw_q450⟩) (Or.inl rfl) dX1_joint_24 rfl ?_
  refine r_iload_n 28 1 (hK.pu _ _) dX1_joint_27 rfl rfl ?_
  refine k_aaldq 29 hK q (x := some (wd (10 + q))) (fun _ z => ((hw z).pe.el (j := q) (by omega))) rfl rfl (by omega) (by omega) dX1_joint_28 rfl ?_
  refine r_astore 31 [(4, .ref (wd (10 + q))), (3, .ref (wd (10 + p))), (2, .int (nI q)), (0, .ref x), (1, .int (nI p))] (hK.pu _ _) dX1_joint_29 (by decide) rfl rfl ?_
  refine r_aload_n 32 3 (hK.pu _ _) dX1_joint_31 rfl rfl ?_
  refine k_getq 35 hK (T := TX1) (C' := RX1) 3 (v := .ref (kd 0)) okX1 (fun _ z => (hx3 z)) rfl (by decide) (Or.inl q553) (Or.inl rfl) dX1_joint_32 rfl ?_
  refine k_getc 38 hK 0 (.ref (kd 1)) (by decide) (Or.inr ⟨_, nw_q525⟩) (Or.inl rfl) rfl dX1_joint_35 rfl ?_
  refine r_aload_n 39 1 (hK.pu _ _) dX1_joint_38 rfl rfl ?_
  refine k_getq 42 hK (T := TX5) (C' := RX5) 0 (v := .int (g (64 + 3 * p + 0))) okX5 (fun _ z => (((hw z).p (p := p) (by omega)).fld 0 rfl)) rfl (by decide) (Or.inr ⟨_, nw_q342⟩) (Or.inl rfl) dX1_joint_39 rfl ?_
  refine r_aload 44 0 (hK.pu _ _) dX1_joint_42 rfl rfl ?_
  refine k_getq 47 hK (T := TX5) (C' := RX5) 0 (v := .int (g (64 + 3 * q + 0))) okX5 (fun _ z => (((hw z).p (p := q) (by omega)).fld 0 rfl)) rfl (by decide) (Or.inr ⟨_, nw_q342⟩) (Or.inl rfl) dX1_joint_44 rfl ?_
  refine r_iadd 48 (hK.pu _ _) dX1_joint_47 rfl ?_
  refine r_aload_n 49 1 (hK.pu _ _) dX1_joint_48 rfl rfl ?_
  refine k_getq 52 hK (T := TX5) (C' := RX5) 1 (v := .int (g (64 + 3 * p + 1))) okX5 (fun _ z => (((hw z).p (p := p) (by omega)).fld 1 rfl)) rfl (by decide) (Or.inr ⟨_, nw_q344⟩) (Or.inl rfl) dX1_joint_49 rfl ?_
  refine r_aload 54 0 (hK.pu _ _) dX1_joint_52 rfl rfl ?_
  refine k_getq 57 hK (T := TX5) (C' := RX5) 1 (v := .int (g (64 + 3 * q + 1))) okX5 (fun _ z => (((hw z).p (p := q) (by omega)).fld 1 rfl)) rfl (by decide) (Or.inr ⟨_, nw_q344⟩) (Or.inl rfl) dX1_joint_54 rfl ?_
  refine r_iadd 58 (hK.pu _ _) dX1_joint_57 rfl ?_
  refine r_aload_n 59 1 (hK.pu _ _) dX1_joint_58 rfl rfl ?_
  refine k_getq 62 hK (T := TX5) (C' := RX5) 2 (v := .int (g (64 + 3 * p + 2))) okX5 (fun _ z => (((hw z).p (p := p) (by omega)).fld 2 rfl)) rfl (by decide) (Or.inr ⟨_, nw_q346⟩) (Or.inl rfl) dX1_joint_59 rfl ?_
  refine r_aload 64 0 (hK.pu _ _) dX1_joint_62 rfl rfl ?_
  refine k_getq 67 hK (T := TX5) (C' := RX5) 2 (v := .int (g (64 + 3 * q + 2))) okX5 (fun _ z => (((hw z).p (p := q) (by omega)).fld 2 rfl)) rfl (by decide) (Or.inr ⟨_, nw_q346⟩) (Or.inl rfl) dX1_joint_64 rfl ?_
  refine r_iadd 68 (hK.pu _ _) dX1_joint_67 rfl ?_
  refine r_iconst 69 2 (hK.pu _ _) dX1_joint_68 (by decide) rfl ?_
  refine k_d0 72 hK (kc_X7_set D l kd hN hQ ((g (64 + 3 * p + 0)) + (g (64 + 3 * q + 0))) ((g (64 + 3 * p + 1)) + (g (64 + 3 * q + 1))) ((g (64 + 3 * p + 2)) + (g (64 + 3 * q + 2))) 2 L C) lk_X1_242 4 yk_X7_set rfl ⟨by decide, by decide⟩ (fun _ hh z => (hh.2.1.fld 4 rfl)) rfl rfl (Nat.le_of_ble_eq_true rfl) dX1_joint_69 rfl ?_
  refine r_iconst 73 0 (hK.pu _ _) dX1_joint_72 (by decide) rfl ?_
  refine r_istore 75 [(5, .int 0), (4, .ref (wd (10 + q))), (3, .ref (wd (10 + p))), (2, .int (nI q)), (0, .ref x), (1, .int (nI p))] (hK.pu _ _) dX1_joint_73 (by decide) rfl rfl ?_
  have lp_75 : ∀ (m : Nat) (k : Nat), (k ≤ 6) → (6 - k) < m → K (joL L h p q k) (upC (upC (upC (upC C 0 (jE g p q 0)) 1 (jE g p q 0 + jE g p q 1)) 2 (jE g p q 2)) 3 2) 75 [] [(5, .int (nI k)), (4, .ref (wd (10 + q))), (3, .ref (wd (10 + p))), (2, .int (nI q)), (0, .ref x), (1, .int (nI p))] := by
    intro m
    induction m with
    | zero => intro k hk hm; exact absurd hm (Nat.not_lt_zero _)
    | succ m ih =>
      intro k hk hm
      refine r_iload 77 0 (hK.pu _ _) dX1_joint_75 rfl rfl ?_
      refine r_bipush 79 6 (hK.pu _ _) dX1_joint_77 (by decide) rfl ?_
      refine r_icmp_geN k 6 82 136 (hK.pu _ _) dX1_joint_79 (by omega) (by omega) (by decide) (fun c79 => ?_) rfl (fun c79 => ?_)
      · have hk6 : k = 6 := by omega
        subst hk6
        refine r_aload_n 137 4 (hK.pu _ _) dX1_joint_136 rfl rfl ?_
        refine k_getq 140 hK (T := TX1) (C' := RX1) 3 (v := .ref (kd 0)) okX1 (fun _ z => (hx3 z)) rfl (by decide) (Or.inl q553) (Or.inl rfl) dX1_joint_137 rfl ?_
        refine r_aload_n 141 4 (hK.pu _ _) dX1_joint_140 rfl rfl ?_
        refine k_getq 144 hK (T := TX1) (C' := RX1) 0 (v := .ref (wd 0)) okX1 (fun _ z => (hx0 z)) rfl (by decide) (Or.inl q550) (Or.inl rfl) dX1_joint_141 rfl ?_
        refine k_getq 147 hK (T := TX2) (C' := RX2) 0 (v := .ref (rd 0)) okX2 (fun _ z => ((hw z).o.fld 0 rfl)) rfl (by decide) (Or.inr ⟨_, nw_q448⟩) (Or.inl rfl) dX1_joint_144 rfl ?_
        refine k_d1 150 hK (kc_X6_run D l kd hN hQ rd g nb nch ncr (fun z => (hw z).ru) hnb hch hcr (joL L h p q 6) (upC (upC (upC (upC C 0 (jE g p q 0)) 1 (jE g p q 0 + jE g p q 1)) 2 (jE g p q 2)) 3 2)) lk_X1_256 1 yk_X6_run rfl ⟨by decide, by decide⟩ (fun _ hh z => (hh.1.fld 0 rfl)) rfl rfl (Nat.le_of_ble_eq_true rfl) dX1_joint_147 rfl ?_
        exact KR.lg hR dX1_joint_150 ⟨by rw [(run_post g (fun k => h (6 * p + k) + h (6 * q + k)) _ _ _ _ _ nb nch ncr hcr (joL_0 L h p q 6)).1]; rfl, (run_post g (fun k => h (6 * p + k) + h (6 * q + k)) _ _ _ _ _ nb nch ncr hcr (joL_0 L h p q 6)).2⟩
      · refine r_aload_n 83 4 (hK.pu _ _) dX1_joint_82 rfl rfl ?_
        refine k_getq 86 hK (T := TX1) (C' := RX1) 3 (v := .ref (kd 0)) okX1 (fun _ z => (hx3 z)) rfl (by decide) (Or.inl q553) (Or.inl rfl) dX1_joint_83 rfl ?_
        refine k_getc 89 hK 0 (.ref (kd 1)) (by decide) (Or.inr ⟨_, nw_q525⟩) (Or.inl rfl) rfl dX1_joint_86 rfl ?_
        refine k_gets 92 hK 4 (.ref (kd 2)) (by decide) (Or.inr ⟨_, nw_q512⟩) (Or.inl rfl) rfl dX1_joint_89 rfl ?_
        refine r_iload 94 0 (hK.pu _ _) dX1_joint_92 rfl rfl ?_
        refine r_aload_n 95 4 (hK.pu _ _) dX1_joint_94 rfl rfl ?_
        refine k_getq 98 hK (T := TX1) (C' := RX1) 0 (v := .ref (wd 0)) okX1 (fun _ z => (hx0 z)) rfl (by decide) (Or.inl q550) (Or.inl rfl) dX1_joint_95 rfl ?_
        refine k_getq 101 hK (T := TX2) (C' := RX2) 3 (v := .ref (wd 3)) okX2 (fun _ z => ((hw z).o.fld 3 rfl)) rfl (by decide) (Or.inr ⟨_, nw_q454⟩) (Or.inl rfl) dX1_joint_98 rfl ?_
        refine r_iload_n 102 5 (hK.pu _ _) dX1_joint_101 rfl rfl ?_
        refine k_callp 105 hK (fun _ hh z => cp_J8_get D l (wd 3) (wd 4) 6 p (fun p => wd (20 + p)) (hw z).ca (by omega)) lk_X1_164 1 yk_J8_get rfl ⟨by decide, by decide⟩ (fun _ hh z => (hw z).ca.sz) rfl rfl (Nat.le_of_ble_eq_true rfl) dX1_joint_102 rfl ?_
        refine k_casta 108 hK (fun _ z => (hw z).c (p := p) (by omega)) q1958 dX1_joint_105 rfl ?_
        refine r_iload 110 0 (hK.pu _ _) dX1_joint_108 rfl rfl ?_
        refine k_laldq 111 hK k (fun _ z => (((hw z).c (p := p) (by omega)).el (j := k) (by omega))) rfl (by omega) (by omega) dX1_joint_110 rfl ?_
        refine r_aload_n 112 4 (hK.pu _ _) dX1_joint_111 rfl rfl ?_
        refine k_getq 115 hK (T := TX1) (C' := RX1) 0 (v := .ref (wd 0)) okX1 (fun _ z => (hx0 z)) rfl (by decide) (Or.inl q550) (Or.inl rfl) dX1_joint_112 rfl ?_
        refine k_getq 118 hK (T := TX2) (C' := RX2) 3 (v := .ref (wd 3)) okX2 (fun _ z => ((hw z).o.fld 3 rfl)) rfl (by decide) (Or.inr ⟨_, nw_q454⟩) (Or.inl rfl) dX1_joint_115 rfl ?_
        refine r_iload_n 119 3 (hK.pu _ _) dX1_joint_118 rfl rfl ?_
        refine k_callp 122 hK (fun _ hh z => cp_J8_get D l (wd 3) (wd 4) 6 q (fun p => wd (20 + p)) (hw z).ca (by omega)) lk_X1_164 1 yk_J8_get rfl ⟨by decide, by decide⟩ (fun _ hh z => (hw z).ca.sz) rfl rfl (Nat.le_of_ble_eq_true rfl) dX1_joint_119 rfl ?_
        refine k_casta 125 hK (fun _ z => (hw z).c (p := q) (by omega)) q1958 dX1_joint_122 rfl ?_
        refine r_iload 127 0 (hK.pu _ _) dX1_joint_125 rfl rfl ?_
        refine k_laldq 128 hK k (fun _ z => (((hw z).c (p := q) (by omega)).el (j := k) (by omega))) rfl (by omega) (by omega) dX1_joint_127 rfl ?_
        refine r_ladd 129 (hK.pu _ _) dX1_joint_128 rfl ?_
        refine k_last 130 hK 0 k (by decide) rfl (by show k < 6; omega) dX1_joint_129 rfl ?_
        refine r_iinc 133 (nI (k + 1)) 0 [(5, .int (nI (k + 1))), (4, .ref (wd (10 + q))), (3, .ref (wd (10 + p))), (2, .int (nI q)), (0, .ref x), (1, .int (nI p))] (hK.pu _ _) dX1_joint_130 rfl (nI_1 k) (by decide) rfl rfl ?_
        refine r_goto 75 (hK.pu _ _) dX1_joint_133 (by decide) ?_
        exact ih (k + 1) (by omega) (by omega)
  exact lp_75 7 0 (by omega) (by omega)
theorem lk_X1_281 : GoodIn lw_all (wsV RX1 281 yX1_firstOf.cls yX1_firstOf (ws_ yX1_firstOf cX1_firstOf 2 (some .int))) := lw_V q1971 q1973 qs30 q102 q1974
theorem yk_X1_firstOf : yOk yX1_firstOf 1 := by decide +kernel
set_option maxHeartbeats 4000000 in
theorem kc_X1_divided (D : DD) (l : Launch) (kd : Nat → Nat) (hN : kwN kd) {Q : Heap → Prop} (hQ : kQ kd Q) {K0 : Nat → Prop} (x : Nat) (wd rd : Nat → Nat) (g : Nat → Int32) (h : Nat → Int64) (nb nch ncr : Nat) (hx0 : ∀ {H : Heap}, Q H → fld D 1 x 0 (.ref (wd 0)) H) (hx3 : ∀ {H : Heap}, Q H → fld D 1 x 3 (.ref (kd 0)) H) (hw : ∀ {H : Heap}, Q H → woK K0 D wd rd g h nb nch ncr H) (hnb : nb ≤ 6) (hch : nch ≤ 4) (hcr : ncr ≤ 6) (p q a b n : Nat) (hc : cpl g p q a b n) (sh : Int32) (L : TL) (C : TC) : Kc D l yX1_divided cX1_divided 6 (some .long) 7 197 kd Q [.ref x, .int (nI p), .int sh] L C (fun r L' C' => r = some (.long (diT g h nb nch ncr a b sh))) := by
  have hc := hc
  obtain ⟨hp, hq, ha, hb, hn, hpq, hf, hab, hall⟩ := id hc
  refine Kc.of hN hQ (by decide) (Nat.le_of_ble_eq_true rfl) (fun s K hK hR => ?_)
  show K L C 0 [] [(0, .ref x), (1, .int (nI p)), (2, .int sh)]
  refine r_aload_n 1 0 (hK.pu _ _) dX1_divided_0 rfl rfl ?_
  refine r_iload_n 2 1 (hK.pu _ _) dX1_divided_1 rfl rfl ?_
  refine k_d1 5 hK (kc_X1_firstOf D l kd hN hQ x wd rd g h nb nch ncr hx0 hx3 hw hnb hch hcr p q a b n hc L C) lk_X1_281 1 yk_X1_firstOf rfl ⟨by decide, by decide⟩ (fun _ hh z => (hx0 z)) rfl rfl (Nat.le_of_ble_eq_true rfl) dX1_divided_2 rfl ?_
  refine r_istore_n 6 [(3, .int (nI a)), (0, .ref x), (1, .int (nI p)), (2, .int sh)] (hK.pu _ _) dX1_divided_5 rfl (by decide) rfl rfl ?_
  refine r_aload_n 7 1 (hK.pu _ _) dX1_divided_6 rfl rfl ?_
  refine k_getq 10 hK (T := TX1) (C' := RX1) 0 (v := .ref (wd 0)) okX1 (fun _ z => (hx0 z)) rfl (by decide) (Or.inl q550) (Or.inl rfl) dX1_divided_7 rfl ?_
  refine k_getq 13 hK (T := TX2) (C' := RX2) 2 (v := .ref (wd 2)) okX2 (fun _ z => ((hw z).o.fld 2 rfl)) rfl (by decide) (Or.inr ⟨_, nw_q452⟩) (Or.inl rfl) dX1_divided_10 rfl ?_
  refine r_iload_n 14 0 (hK.pu _ _) dX1_divided_13 rfl rfl ?_
  refine k_ialdq 15 hK a (fun _ z => ((hw z).pa.el (j := a) (by omega))) rfl (by omega) (by omega) dX1_divided_14 rfl ?_
  refine r_eqi (nI b) hab ?_
  refine r_istore 17 [(4, .int (nI b)), (3, .int (nI a)), (0, .ref x), (1, .int (nI p)), (2, .int sh)] (hK.pu _ _) dX1_divided_15 (by decide) rfl rfl ?_
  refine r_aload_n 18 2 (hK.pu _ _) dX1_divided_17 rfl rfl ?_
  refine k_getq 21 hK (T := TX1) (C' := RX1) 0 (v := .ref (wd 0)) okX1 (fun _ z => (hx0 z)) rfl (by decide) (Or.inl q550) (Or.inl rfl) dX1_divided_18 rfl ?_
  refine k_getq 24 hK (T := TX2) (C' := RX2) 1 (v := .ref (wd 1)) okX2 (fun _ z => ((hw z).o.fld 1 rfl)) rfl (by decide) (Or.inr ⟨_, nw_q450⟩) (Or.inl rfl) dX1_divided_21 rfl ?_
  refine r_iload_n 25 1 (hK.pu _ _) dX1_divided_24 rfl rfl ?_
  refine k_aaldq 26 hK a (x := some (wd (10 + a))) (fun _ z => ((hw z).pe.el (j := a) (by omega))) rfl rfl (by omega) (by omega) dX1_divided_25 rfl ?_
  refine k_getq 29 hK (T := TX5) (C' := RX5) 2 (v := .int (g (64 + 3 * a + 2))) okX5 (fun _ z => (((hw z).p (p := a) (by omega)).fld 2 rfl)) rfl (by decide) (Or.inr ⟨_, nw_q346⟩) (Or.inl rfl) dX1_divided_26 rfl ?_
  refine r_aload_n 30 2 (hK.pu _ _) dX1_divided_29 rfl rfl ?_
  refine k_getq 33 hK (T := TX1) (C' := RX1) 0 (v := .ref (wd 0)) okX1 (fun _ z => (hx0 z)) rfl (by decide) (Or.inl q550) (Or.inl rfl) dX1_divided_30 rfl ?_
  refine k_getq 36 hK (T := TX2) (C' := RX2) 1 (v := .ref (wd 1)) okX2 (fun _ z => ((hw z).o.fld 1 rfl)) rfl (by decide) (Or.inr ⟨_, nw_q450⟩) (Or.inl rfl) dX1_divided_33 rfl ?_
  refine r_iload 38 0 (hK.pu _ _) dX1_divided_36 rfl rfl ?_
  refine k_aaldq 39 hK b (x := some (wd (10 + b))) (fun _ z => ((hw z).pe.el (j := b) (by omega))) rfl rfl (by omega) (by omega) dX1_divided_38 rfl ?_
  refine k_getq 42 hK (T := TX5) (C' := RX5) 2 (v := .int (g (64 + 3 * b + 2))) okX5 (fun _ z => (((hw z).p (p := b) (by omega)).fld 2 rfl)) rfl (by decide) (Or.inr ⟨_, nw_q346⟩) (Or.inl rfl) dX1_divided_39 rfl ?_
  refine r_iadd 43 (hK.pu _ _) dX1_divided_42 rfl ?_
  refine r_istore 45 [(5, .int ((g (64 + 3 * a + 2)) + (g (64 + 3 * b + 2)))), (4, .int (nI b)), (3, .int (nI a)), (0, .ref x), (1, .int (nI p)), (2, .int sh)] (hK.pu _ _) dX1_divided_43 (by decide) rfl rfl ?_
  refine r_aload_n 46 3 (hK.pu _ _) dX1_divided_45 rfl rfl ?_
  refine r_iload_n 47 2 (hK.pu _ _) dX1_divided_46 rfl rfl ?_
  refine r_aload_n 48 3 (hK.pu _ _) dX1_divided_47 rfl rfl ?_
  refine k_getq 51 hK (T := TX1) (C' := RX1) 0 (v := .ref (wd 0)) okX1 (fun _ z => (hx0 z)) rfl (by decide) (Or.inl q550) (Or.inl rfl) dX1_divided_48 rfl ?_
  refine k_getq 54 hK (T := TX2) (C' := RX2) 1 (v := .ref (wd 1)) okX2 (fun _ z => ((hw z).o.fld 1 rfl)) rfl (by decide) (Or.inr ⟨_, nw_q450⟩) (Or.inl rfl) dX1_divided_51 rfl ?_
  refine r_iload_n 55 2 (hK.pu _ _) dX1_divided_54 rfl rfl ?_
  refine k_aaldq 56 hK a (x := some (wd (10 + a))) (fun _ z => ((hw z).pe.el (j := a) (by omega))) rfl rfl (by omega) (by omega) dX1_divided_55 rfl ?_
  refine k_getq 59 hK (T := TX5) (C' := RX5) 0 (v := .int (g (64 + 3 * a + 0))) okX5 (fun _ z => (((hw z).p (p := a) (by omega)).fld 0 rfl)) rfl (by decide) (Or.inr ⟨_, nw_q342⟩) (Or.inl rfl) dX1_divided_56 rfl ?_
  refine r_iload_n 60 5 (hK.pu _ _) dX1_divided_59 rfl rfl ?_
  refine k_call 63 hK (kc_X1_alone_2 D l kd hN hQ x wd rd g h nb nch ncr hx0 hx3 hw hnb hch hcr a (by omega) (g (64 + 3 * a + 0)) sh L C) lk_X1_260 3 yk_X1_alone_2 rfl ⟨by decide, by decide⟩ (fun _ hh z => (hx0 z)) rfl rfl (Nat.le_of_ble_eq_true rfl) dX1_divided_60 rfl (fun r L1 C1 h1 => ?_)
  obtain ⟨rfl, p1⟩ := h1
  refine r_aload_n 64 3 (hK.pu _ _) dX1_divided_63 rfl rfl ?_
  refine r_iload 66 1 (hK.pu _ _) dX1_divided_64 rfl rfl ?_
  refine r_aload_n 67 3 (hK.pu _ _) dX1_divided_66 rfl rfl ?_
  refine k_getq 70 hK (T := TX1) (C' := RX1) 0 (v := .ref (wd 0)) okX1 (fun _ z => (hx0 z)) rfl (by decide) (Or.inl q550) (Or.inl rfl) dX1_divided_67 rfl ?_
  refine k_getq 73 hK (T := TX2) (C' := RX2) 1 (v := .ref (wd 1)) okX2 (fun _ z => ((hw z).o.fld 1 rfl)) rfl (by decide) (Or.inr ⟨_, nw_q450⟩) (Or.inl rfl) dX1_divided_70 rfl ?_
  refine r_iload 75 1 (hK.pu _ _) dX1_divided_73 rfl rfl ?_
  refine k_aaldq 76 hK b (x := some (wd (10 + b))) (fun _ z => ((hw z).pe.el (j := b) (by omega))) rfl rfl (by omega) (by omega) dX1_divided_75 rfl ?_
  refine k_getq 79 hK (T := TX5) (C' := RX5) 0 (v := .int (g (64 + 3 * b + 0))) okX5 (fun _ z => (((hw z).p (p := b) (by omega)).fld 0 rfl)) rfl (by decide) (Or.inr ⟨_, nw_q342⟩) (Or.inl rfl) dX1_divided_76 rfl ?_
  refine r_iload 81 0 (hK.pu _ _) dX1_divided_79 rfl rfl ?_
  refine r_iload_n 82 5 (hK.pu _ _) dX1_divided_81 rfl rfl ?_
  refine r_isub 83 (hK.pu _ _) dX1_divided_82 rfl ?_
  refine k_call 86 hK (kc_X1_alone_2 D l kd hN hQ x wd rd g h nb nch ncr hx0 hx3 hw hnb hch hcr b (by omega) (g (64 + 3 * b + 0)) (((g (64 + 3 * a + 2)) + (g (64 + 3 * b + 2))) - sh) L1 C1) lk_X1_260 3 yk_X1_alone_2 rfl ⟨by decide, by decide⟩ (fun _ hh z => (hx0 z)) rfl rfl (Nat.le_of_ble_eq_true rfl) dX1_divided_83 rfl (fun r L2 C2 h2 => ?_)
  obtain ⟨rfl, p2⟩ := h2
  refine r_ladd 87 (hK.pu _ _) dX1_divided_86 rfl ?_
  exact KR.lg hR dX1_divided_87 rfl
theorem lk_X1_284 : GoodIn lw_all (wsV RX1 284 yX1_divided.cls yX1_divided (ws_ yX1_divided cX1_divided 6 (some .long))) := lw_V q1967 q1969 qs29 q102 q1970
theorem yk_X1_divided : yOk yX1_divided 2 := by decide +kernel
set_option maxHeartbeats 4000000 in
theorem kc_X1_bestDivision (D : DD) (l : Launch) (kd : Nat → Nat) (hN : kwN kd) {Q : Heap → Prop} (hQ : kQ kd Q) {K0 : Nat → Prop} (x : Nat) (wd rd : Nat → Nat) (g : Nat → Int32) (h : Nat → Int64) (nb nch ncr : Nat) (hx0 : ∀ {H : Heap}, Q H → fld D 1 x 0 (.ref (wd 0)) H) (hx3 : ∀ {H : Heap}, Q H → fld D 1 x 3 (.ref (kd 0)) H) (hw : ∀ {H : Heap}, Q H → woK K0 D wd rd g h nb nch ncr H) (hnb : nb ≤ 6) (hch : nch ≤ 4) (hcr : ncr ≤ 6) (p q a b n : Nat) (hc : cpl g p q a b n) (L : TL) (C : TC) : Kc D l yX1_bestDivision cX1_bestDivision 5 (some .int) 8 222 kd Q [.ref x, .int (nI p)] L C (fun r L' C' => r = some (.int (nI (beT g h nb nch ncr a b n)))) := by
  have hc := hc
  obtain ⟨hp, hq, ha, hb, hn, hpq, hf, hab, hall⟩ := id hc
  refine Kc.of hN hQ (by decide) (Nat.le_of_ble_eq_true rfl) (fun s K hK hR => ?_)
  show K L C 0 [] [(0, .ref x), (1, .int (nI p))]
  refine r_aload_n 1 0 (hK.pu _ _) dX1_bestDivision_0 rfl rfl ?_
  refine k_getq 4 hK (T := TX1) (C' := RX1) 0 (v := .ref (wd 0)) okX1 (fun _ z => (hx0 z)) rfl (by decide) (Or.inl q550) (Or.inl rfl) dX1_bestDivision_1 rfl ?_
  refine k_getq 7 hK (T := TX2) (C' := RX2) 1 (v := .ref (wd 1)) okX2 (fun _ z => ((hw z).o.fld 1 rfl)) rfl (by decide) (Or.inr ⟨_, nw_q450⟩) (Or.inl rfl) dX1_bestDivision_4 rfl ?_
  refine r_iload_n 8 1 (hK.pu _ _) dX1_bestDivision_7 rfl rfl ?_
  refine k_aaldq 9 hK p (x := some (wd (10 + p))) (fun _ z => ((hw z).pe.el (j := p) (by omega))) rfl rfl (by omega) (by omega) dX1_bestDivision_8 rfl ?_
  refine k_getq 12 hK (T := TX5) (C' := RX5) 2 (v := .int (g (64 + 3 * p + 2))) okX5 (fun _ z => (((hw z).p (p := p) (by omega)).fld 2 rfl)) rfl (by decide) (Or.inr ⟨_, nw_q346⟩) (Or.inl rfl) dX1_bestDivision_9 rfl ?_
  refine r_aload_n 13 0 (hK.pu _ _) dX1_bestDivision_12 rfl rfl ?_
  refine k_getq 16 hK (T := TX1) (C' := RX1) 0 (v := .ref (wd 0)) okX1 (fun _ z => (hx0 z)) rfl (by decide) (Or.inl q550) (Or.inl rfl) dX1_bestDivision_13 rfl ?_
  refine k_getq 19 hK (T := TX2) (C' := RX2) 1 (v := .ref (wd 1)) okX2 (fun _ z => ((hw z).o.fld 1 rfl)) rfl (by decide) (Or.inr ⟨_, nw_q450⟩) (Or.inl rfl) dX1_bestDivision_16 rfl ?_
  refine r_aload_n 20 0 (hK.pu _ _) dX1_bestDivision_19 rfl rfl ?_
  refine k_getq 23 hK (T := TX1) (C' := RX1) 0 (v := .ref (wd 0)) okX1 (fun _ z => (hx0 z)) rfl (by decide) (Or.inl q550) (Or.inl rfl) dX1_bestDivision_20 rfl ?_
  refine k_getq 26 hK (T := TX2) (C' := RX2) 2 (v := .ref (wd 2)) okX2 (fun _ z => ((hw z).o.fld 2 rfl)) rfl (by decide) (Or.inr ⟨_, nw_q452⟩) (Or.inl rfl) dX1_bestDivision_23 rfl ?_
  refine r_iload_n 27 1 (hK.pu _ _) dX1_bestDivision_26 rfl rfl ?_
  refine k_ialdq 28 hK p (fun _ z => ((hw z).pa.el (j := p) (by omega))) rfl (by omega) (by omega) dX1_bestDivision_27 rfl ?_
  refine r_eqi (nI q) hpq ?_
  refine k_aaldq 29 hK q (x := some (wd (10 + q))) (fun _ z => ((hw z).pe.el (j := q) (by omega))) rfl rfl (by omega) (by omega) dX1_bestDivision_28 rfl ?_
  refine k_getq 32 hK (T := TX5) (C' := RX5) 2 (v := .int (g (64 + 3 * q + 2))) okX5 (fun _ z => (((hw z).p (p := q) (by omega)).fld 2 rfl)) rfl (by decide) (Or.inr ⟨_, nw_q346⟩) (Or.inl rfl) dX1_bestDivision_29 rfl ?_
  refine r_iadd 33 (hK.pu _ _) dX1_bestDivision_32 rfl ?_
  refine r_eqi (nI n) hall ?_
  refine r_istore_n 34 [(2, .int (nI n)), (0, .ref x), (1, .int (nI p))] (hK.pu _ _) dX1_bestDivision_33 rfl (by decide) rfl rfl ?_
  refine r_iconst 35 0 (hK.pu _ _) dX1_bestDivision_34 (by decide) rfl ?_
  refine r_istore_n 36 [(3, .int 0), (2, .int (nI n)), (0, .ref x), (1, .int (nI p))] (hK.pu _ _) dX1_bestDivision_35 rfl (by decide) rfl rfl ?_
  refine r_iconst 37 1 (hK.pu _ _) dX1_bestDivision_36 (by decide) rfl ?_
  refine r_istore 39 [(4, .int 1), (3, .int 0), (2, .int (nI n)), (0, .ref x), (1, .int (nI p))] (hK.pu _ _) dX1_bestDivision_37 (by decide) rfl rfl ?_
  have lp_39 : ∀ (m : Nat) (k : Nat) (L : TL) (C : TC), (k ≤ n) → (n - k) < m → K L C 39 [] [(4, .int (nI (k + 1))), (3, .int (nI (beT g h nb nch ncr a b k))), (2, .int (nI n)), (0, .ref x), (1, .int (nI p))] := by
    intro m
    induction m with
    | zero => intro k L C hk hm; exact absurd hm (Nat.not_lt_zero _)
    | succ m ih =>
      intro k L C hk hm
      refine r_iload 41 0 (hK.pu _ _) dX1_bestDivision_39 rfl rfl ?_
      refine r_iload_n 42 2 (hK.pu _ _) dX1_bestDivision_41 rfl rfl ?_
      refine r_icmp_gtN (k + 1) n 45 75 (hK.pu _ _) dX1_bestDivision_42 (by omega) (by omega) (by decide) (fun c42 => ?_) rfl (fun c42 => ?_)
      · have hkn : k = n := by omega
        subst hkn
        refine r_iload_n 76 1 (hK.pu _ _) dX1_bestDivision_75 rfl rfl ?_
        exact KR.i hR rfl dX1_bestDivision_76 rfl
      · refine r_aload_n 46 3 (hK.pu _ _) dX1_bestDivision_45 rfl rfl ?_
        refine r_iload_n 47 4 (hK.pu _ _) dX1_bestDivision_46 rfl rfl ?_
        refine r_iload 49 0 (hK.pu _ _) dX1_bestDivision_47 rfl rfl ?_
        refine k_call 52 hK (kc_X1_divided D l kd hN hQ x wd rd g h nb nch ncr hx0 hx3 hw hnb hch hcr p q a b n hc (nI (k + 1)) L C) lk_X1_284 2 yk_X1_divided rfl ⟨by decide, by decide⟩ (fun _ hh z => (hx0 z)) rfl rfl (Nat.le_of_ble_eq_true rfl) dX1_bestDivision_49 rfl (fun r L1 C1 h1 => ?_)
        subst h1
        refine r_aload_n 53 3 (hK.pu _ _) dX1_bestDivision_52 rfl rfl ?_
        refine r_iload_n 54 4 (hK.pu _ _) dX1_bestDivision_53 rfl rfl ?_
        refine r_iload_n 55 1 (hK.pu _ _) dX1_bestDivision_54 rfl rfl ?_
        refine k_call 58 hK (kc_X1_divided D l kd hN hQ x wd rd g h nb nch ncr hx0 hx3 hw hnb hch hcr p q a b n hc (nI (beT g h nb nch ncr a b k)) L1 C1) lk_X1_284 2 yk_X1_divided rfl ⟨by decide, by decide⟩ (fun _ hh z => (hx0 z)) rfl rfl (Nat.le_of_ble_eq_true rfl) dX1_bestDivision_55 rfl (fun r L2 C2 h2 => ?_)
        subst h2
        have hj_58 : K L2 C2 68 [.int (nI (beT g h nb nch ncr a b (k + 1)))] [(4, .int (nI (k + 1))), (3, .int (nI (beT g h nb nch ncr a b k))), (2, .int (nI n)), (0, .ref x), (1, .int (nI p))] := by
          refine r_istore_n 69 [(3, .int (nI (beT g h nb nch ncr a b (k + 1)))), (4, .int (nI (k + 1))), (2, .int (nI n)), (0, .ref x), (1, .int (nI p))] (hK.pu _ _) dX1_bestDivision_68 rfl (by decide) rfl rfl ?_
          refine r_iinc 72 (nI (k + 1 + 1)) 1 [(4, .int (nI (k + 1 + 1))), (3, .int (nI (beT g h nb nch ncr a b (k + 1)))), (2, .int (nI n)), (0, .ref x), (1, .int (nI p))] (hK.pu _ _) dX1_bestDivision_69 rfl (nI_1 (k + 1)) (by decide) rfl rfl ?_
          refine r_goto 39 (hK.pu _ _) dX1_bestDivision_72 (by decide) ?_
          exact ih (k + 1) L2 C2 (by omega) (by omega)
        refine r_lc_ge 62 67 (hK.pu _ _) dX1_bestDivision_58 dX1_bestDivision_59 (by decide) (fun c58 => ?_) rfl (fun c58 => ?_)
        · refine r_iload_n 68 1 (hK.pu _ _) dX1_bestDivision_67 rfl rfl ?_
          refine r_eqi (nI (beT g h nb nch ncr a b (k + 1))) (by simp only [beT]; first | rw [if_pos c58] | rw [if_neg c58] | rw [if_neg (Int64.not_lt.mpr c58)] | rw [if_pos (Int64.not_le.mp c58)]) ?_
          exact hj_58
        · refine r_iload 64 0 (hK.pu _ _) dX1_bestDivision_62 rfl rfl ?_
          refine r_goto 68 (hK.pu _ _) dX1_bestDivision_64 (by decide) ?_
          refine r_eqi (nI (beT g h nb nch ncr a b (k + 1))) (by simp only [beT]; first | rw [if_pos c58] | rw [if_neg c58] | rw [if_neg (Int64.not_lt.mpr c58)] | rw [if_pos (Int64.not_le.mp c58)]) ?_
          exact hj_58
  exact lp_39 (n + 1) 0 L C (by omega) (by omega)
theorem lk_X1_287 : GoodIn lw_all (wsV RX1 287 yX1_bestDivision.cls yX1_bestDivision (ws_ yX1_bestDivision cX1_bestDivision 5 (some .int))) := lw_V q1963 q1965 qs28 q102 q1966
theorem yk_X1_bestDivision : yOk yX1_bestDivision 1 := by decide +kernel
set_option maxHeartbeats 4000000 in
theorem kc_X1_separate (D : DD) (l : Launch) (kd : Nat → Nat) (hN : kwN kd) {Q : Heap → Prop} (hQ : kQ kd Q) {K0 : Nat → Prop} (x : Nat) (wd rd : Nat → Nat) (g : Nat → Int32) (h : Nat → Int64) (nb nch ncr : Nat) (hx0 : ∀ {H : Heap}, Q H → fld D 1 x 0 (.ref (wd 0)) H) (hx3 : ∀ {H : Heap}, Q H → fld D 1 x 3 (.ref (kd 0)) H) (hw : ∀ {H : Heap}, Q H → woK K0 D wd rd g h nb nch ncr H) (hnb : nb ≤ 6) (hch : nch ≤ 4) (hcr : ncr ≤ 6) (p q a b n : Nat) (hc : cpl g p q a b n) (L : TL) (C : TC) : Kc D l yX1_separate cX1_separate 2 (some .long) 9 246 kd Q [.ref x, .int (nI p)] L C (fun r L' C' => r = some (.long (seT g h nb nch ncr a b n))) := by
  have hc := hc
  obtain ⟨hp, hq, ha, hb, hn, hpq, hf, hab, hall⟩ := id hc
  refine Kc.of hN hQ (by decide) (Nat.le_of_ble_eq_true rfl) (fun s K hK hR => ?_)
  show K L C 0 [] [(0, .ref x), (1, .int (nI p))]
  refine r_aload_n 1 0 (hK.pu _ _) dX1_separate_0 rfl rfl ?_
  refine r_iload_n 2 1 (hK.pu _ _) dX1_separate_1 rfl rfl ?_
  refine r_aload_n 3 0 (hK.pu _ _) dX1_separate_2 rfl rfl ?_
  refine r_iload_n 4 1 (hK.pu _ _) dX1_separate_3 rfl rfl ?_
  refine k_call 7 hK (kc_X1_bestDivision D l kd hN hQ x wd rd g h nb nch ncr hx0 hx3 hw hnb hch hcr p q a b n hc  L C) lk_X1_287 1 yk_X1_bestDivision rfl ⟨by decide, by decide⟩ (fun _ hh z => (hx0 z)) rfl rfl (Nat.le_of_ble_eq_true rfl) dX1_separate_4 rfl (fun r L1 C1 h1 => ?_)
  subst h1
  refine k_call 10 hK (kc_X1_divided D l kd hN hQ x wd rd g h nb nch ncr hx0 hx3 hw hnb hch hcr p q a b n hc (nI (beT g h nb nch ncr a b n)) L1 C1) lk_X1_284 2 yk_X1_divided rfl ⟨by decide, by decide⟩ (fun _ hh z => (hx0 z)) rfl rfl (Nat.le_of_ble_eq_true rfl) dX1_separate_7 rfl (fun r L2 C2 h2 => ?_)
  subst h2
  exact KR.lg hR dX1_separate_10 rfl
theorem lk_X1_290 : GoodIn lw_all (wsV RX1 290 yX1_joint.cls yX1_joint (ws_ yX1_joint cX1_joint 6 (some .long))) := lw_V q1954 q1956 qs26 q102 q1957
theorem yk_X1_joint : yOk yX1_joint 1 := by decide +kernel
theorem lk_X1_293 : GoodIn lw_all (wsV RX1 293 yX1_separate.cls yX1_separate (ws_ yX1_separate cX1_separate 2 (some .long))) := lw_V q1959 q1961 qs27 q102 q1962
theorem yk_X1_separate : yOk yX1_separate 1 := by decide +kernel
set_option maxHeartbeats 4000000 in
theorem kc_X1_isJoint (D : DD) (l : Launch) (kd : Nat → Nat) (hN : kwN kd) {Q : Heap → Prop} (hQ : kQ kd Q) {K0 : Nat → Prop} (x : Nat) (wd rd : Nat → Nat) (g : Nat → Int32) (h : Nat → Int64) (nb nch ncr : Nat) (hx0 : ∀ {H : Heap}, Q H → fld D 1 x 0 (.ref (wd 0)) H) (hx3 : ∀ {H : Heap}, Q H → fld D 1 x 3 (.ref (kd 0)) H) (hw : ∀ {H : Heap}, Q H → woK K0 D wd rd g h nb nch ncr H) (hnb : nb ≤ 6) (hch : nch ≤ 4) (hcr : ncr ≤ 6) (p q a b n : Nat) (hc : cpl g p q a b n) (L : TL) (C : TC) : Kc D l yX1_isJoint cX1_isJoint 2 (some .boolean) 10 267 kd Q [.ref x, .int (nI p)] L C (fun r L' C' => r = some (.int (zB (decide (joT g h nb nch ncr p q < seT g h nb nch ncr a b n))))) := by
  have hc := hc
  obtain ⟨hp, hq, ha, hb, hn, hpq, hf, hab, hall⟩ := id hc
  refine Kc.of hN hQ (by decide) (Nat.le_of_ble_eq_true rfl) (fun s K hK hR => ?_)
  show K L C 0 [] [(0, .ref x), (1, .int (nI p))]
  refine r_aload_n 1 0 (hK.pu _ _) dX1_isJoint_0 rfl rfl ?_
  refine r_iload_n 2 1 (hK.pu _ _) dX1_isJoint_1 rfl rfl ?_
  refine k_call 5 hK (kc_X1_joint D l kd hN hQ x wd rd g h nb nch ncr hx0 hx3 hw hnb hch hcr p q a b n hc  L C) lk_X1_290 1 yk_X1_joint rfl ⟨by decide, by decide⟩ (fun _ hh z => (hx0 z)) rfl rfl (Nat.le_of_ble_eq_true rfl) dX1_isJoint_2 rfl (fun r L1 C1 h1 => ?_)
  obtain ⟨rfl, p1⟩ := h1
  refine r_aload_n 6 0 (hK.pu _ _) dX1_isJoint_5 rfl rfl ?_
  refine r_iload_n 7 1 (hK.pu _ _) dX1_isJoint_6 rfl rfl ?_
  refine k_call 10 hK (kc_X1_separate D l kd hN hQ x wd rd g h nb nch ncr hx0 hx3 hw hnb hch hcr p q a b n hc  L1 C1) lk_X1_293 1 yk_X1_separate rfl ⟨by decide, by decide⟩ (fun _ hh z => (hx0 z)) rfl rfl (Nat.le_of_ble_eq_true rfl) dX1_isJoint_7 rfl (fun r L2 C2 h2 => ?_)
  subst h2
  refine r_lc_ge 14 18 (hK.pu _ _) dX1_isJoint_10 dX1_isJoint_11 (by decide) (fun c10 => ?_) rfl (fun c10 => ?_)
  · refine r_iconst 19 0 (hK.pu _ _) dX1_isJoint_18 (by decide) rfl ?_
    exact KR.i hR rfl dX1_isJoint_19 (by simp [zB, *])
  · refine r_iconst 15 1 (hK.pu _ _) dX1_isJoint_14 (by decide) rfl ?_
    refine r_goto 19 (hK.pu _ _) dX1_isJoint_15 (by decide) ?_
    exact KR.i hR rfl dX1_isJoint_19 (by simp [zB, *])
set_option maxHeartbeats 4000000 in
theorem kc_X1_household_c (D : DD) (l : Launch) (kd : Nat → Nat) (hN : kwN kd) {Q : Heap → Prop} (hQ : kQ kd Q) {K0 : Nat → Prop} (x : Nat) (wd rd : Nat → Nat) (g : Nat → Int32) (h : Nat → Int64) (nb nch ncr : Nat) (hx0 : ∀ {H : Heap}, Q H → fld D 1 x 0 (.ref (wd 0)) H) (hx3 : ∀ {H : Heap}, Q H → fld D 1 x 3 (.ref (kd 0)) H) (hw : ∀ {H : Heap}, Q H → woK K0 D wd rd g h nb nch ncr H) (hnb : nb ≤ 6) (hch : nch ≤ 4) (hcr : ncr ≤ 6) (p q a b n : Nat) (hc : cpl g p q a b n) (L : TL) (C : TC) : Kc D l yX1_household cX1_household 2 (some .long) 10 267 kd Q [.ref x, .int (nI p)] L C (fun r L' C' => r = some (.long (minL (joT g h nb nch ncr p q) (seT g h nb nch ncr a b n)))) := by
  have hc := hc
  obtain ⟨hp, hq, ha, hb, hn, hpq, hf, hab, hall⟩ := id hc
  refine Kc.of hN hQ (by decide) (Nat.le_of_ble_eq_true rfl) (fun s K hK hR => ?_)
  show K L C 0 [] [(0, .ref x), (1, .int (nI p))]
  refine r_aload_n 1 0 (hK.pu _ _) dX1_household_0 rfl rfl ?_
  refine k_getq 4 hK (T := TX1) (C' := RX1) 0 (v := .ref (wd 0)) okX1 (fun _ z => (hx0 z)) rfl (by decide) (Or.inl q550) (Or.inl rfl) dX1_household_1 rfl ?_
  refine k_getq 7 hK (T := TX2) (C' := RX2) 2 (v := .ref (wd 2)) okX2 (fun _ z => ((hw z).o.fld 2 rfl)) rfl (by decide) (Or.inr ⟨_, nw_q452⟩) (Or.inl rfl) dX1_household_4 rfl ?_
  refine r_iload_n 8 1 (hK.pu _ _) dX1_household_7 rfl rfl ?_
  refine k_ialdq 9 hK p (fun _ z => ((hw z).pa.el (j := p) (by omega))) rfl (by omega) (by omega) dX1_household_8 rfl ?_
  refine r_eqi (nI q) hpq ?_
  refine r_iconst 10 (-1) (hK.pu _ _) dX1_household_9 (by decide) rfl ?_
  refine r_icmp_ne 13 19 (hK.pu _ _) dX1_household_10 (by decide) (fun c10 => ?_) rfl (fun c10 => absurd c10 (nI_nm1 hq))
  refine r_aload_n 20 0 (hK.pu _ _) dX1_household_19 rfl rfl ?_
  refine r_iload_n 21 1 (hK.pu _ _) dX1_household_20 rfl rfl ?_
  refine k_call 24 hK (kc_X1_joint D l kd hN hQ x wd rd g h nb nch ncr hx0 hx3 hw hnb hch hcr p q a b n hc  L C) lk_X1_290 1 yk_X1_joint rfl ⟨by decide, by decide⟩ (fun _ hh z => (hx0 z)) rfl rfl (Nat.le_of_ble_eq_true rfl) dX1_household_21 rfl (fun r L1 C1 h1 => ?_)
  obtain ⟨rfl, p1⟩ := h1
  refine r_aload_n 25 0 (hK.pu _ _) dX1_household_24 rfl rfl ?_
  refine r_iload_n 26 1 (hK.pu _ _) dX1_household_25 rfl rfl ?_
  refine k_call 29 hK (kc_X1_separate D l kd hN hQ x wd rd g h nb nch ncr hx0 hx3 hw hnb hch hcr p q a b n hc  L1 C1) lk_X1_293 1 yk_X1_separate rfl ⟨by decide, by decide⟩ (fun _ hh z => (hx0 z)) rfl rfl (Nat.le_of_ble_eq_true rfl) dX1_household_26 rfl (fun r L2 C2 h2 => ?_)
  subst h2
  refine k_minL 32 hK q1976 ⟨by decide, by decide⟩ (Nat.le_of_ble_eq_true rfl) dX1_household_29 rfl ?_
  exact KR.lg hR dX1_household_32 rfl
theorem lk_X1_264 : GoodIn lw_all (wsV RX1 264 yX1_alone.cls yX1_alone (ws_ yX1_alone cX1_alone 2 (some .long))) := lw_V q1880 q1882 qs23 q102 q1883
theorem yk_X1_alone : yOk yX1_alone 1 := by decide +kernel
set_option maxHeartbeats 4000000 in
theorem kc_X1_household_a (D : DD) (l : Launch) (kd : Nat → Nat) (hN : kwN kd) {Q : Heap → Prop} (hQ : kQ kd Q) {K0 : Nat → Prop} (x : Nat) (wd rd : Nat → Nat) (g : Nat → Int32) (h : Nat → Int64) (nb nch ncr : Nat) (hx0 : ∀ {H : Heap}, Q H → fld D 1 x 0 (.ref (wd 0)) H) (hx3 : ∀ {H : Heap}, Q H → fld D 1 x 3 (.ref (kd 0)) H) (hw : ∀ {H : Heap}, Q H → woK K0 D wd rd g h nb nch ncr H) (hnb : nb ≤ 6) (hch : nch ≤ 4) (hcr : ncr ≤ 6) (p : Nat) (hp : p < 6) (hno : g (82 + p) = -1) (L : TL) (C : TC) : Kc D l yX1_household cX1_household 2 (some .long) 8 218 kd Q [.ref x, .int (nI p)] L C (fun r L' C' => r = some (.long (owT g h nb nch ncr p))) := by
  refine Kc.of hN hQ (by decide) (Nat.le_of_ble_eq_true rfl) (fun s K hK hR => ?_)
  show K L C 0 [] [(0, .ref x), (1, .int (nI p))]
  refine r_aload_n 1 0 (hK.pu _ _) dX1_household_0 rfl rfl ?_
  refine k_getq 4 hK (T := TX1) (C' := RX1) 0 (v := .ref (wd 0)) okX1 (fun _ z => (hx0 z)) rfl (by decide) (Or.inl q550) (Or.inl rfl) dX1_household_1 rfl ?_
  refine k_getq 7 hK (T := TX2) (C' := RX2) 2 (v := .ref (wd 2)) okX2 (fun _ z => ((hw z).o.fld 2 rfl)) rfl (by decide) (Or.inr ⟨_, nw_q452⟩) (Or.inl rfl) dX1_household_4 rfl ?_
  refine r_iload_n 8 1 (hK.pu _ _) dX1_household_7 rfl rfl ?_
  refine k_ialdq 9 hK p (fun _ z => ((hw z).pa.el (j := p) (by omega))) rfl (by omega) (by omega) dX1_household_8 rfl ?_
  refine r_iconst 10 (-1) (hK.pu _ _) dX1_household_9 (by decide) rfl ?_
  refine r_icmp_ne 13 19 (hK.pu _ _) dX1_household_10 (by decide) (fun c10 => absurd c10 (fun z => z hno)) rfl (fun c10 => ?_)
  refine r_aload_n 14 0 (hK.pu _ _) dX1_household_13 rfl rfl ?_
  refine r_iload_n 15 1 (hK.pu _ _) dX1_household_14 rfl rfl ?_
  refine k_call 18 hK (kc_X1_alone D l kd hN hQ x wd rd g h nb nch ncr hx0 hx3 hw hnb hch hcr p (by omega) L C) lk_X1_264 1 yk_X1_alone rfl ⟨by decide, by decide⟩ (fun _ hh z => (hx0 z)) rfl rfl (Nat.le_of_ble_eq_true rfl) dX1_household_15 rfl (fun r L1 C1 h1 => ?_)
  obtain ⟨rfl, p1⟩ := h1
  exact KR.lg hR dX1_household_18 rfl
