theorem ldcwF {p : Program} {l : Launch} {e : Env} {R : Room} {s : State} {m : MethodId} {args : Array Value} {below : List Frame} {meth : Method} {c : Code} {locs : List Loc} {cells slots : Nat} {T : State} (X : Stand p l e R s m args below meth c T locs cells slots) (hexec : p.tables.exec = Jvm.exec) {own : String} {index : Nat} {v : UInt32} (hown : s.vm.findClass own = some m.cls)
    (hconst : (Cond.constantFloat own index v).before args s = true) {g : JFrame} (hg : g.method = m) (hdg : decode c.code g.pc = .ok (.ldc_w index, 3)) :
    ∀ target, Steps p.tables e below (T.setTop { g with pc := g.pc + 3, stack := .float v :: g.stack }) target → Steps p.tables e below (T.setTop g) target := by
  obtain ⟨k, cf, hk, hcf, hcp⟩ := Cond.constantFloat_spec hown hconst
  obtain ⟨k', hk', he⟩ := X.warmed.alike.2.2 _ _ hk
  intro target hrest
  subst hg
  jvm_step X.here [hexec, hdg, ldc_w.wp_float (s := T) (f := g) X.here.top hk' (by rw [he]; exact hcf) hcp]
  exact hrest
theorem r_ldcwf {s : State} {own : String} {args : Array Value} {cc : ByteArray} {nL : Nat} {P : Nat → List Value → List (Nat × Value) → Prop} {pc : Nat} {st : List Value} {lv : List (Nat × Value)} (q : Nat) {index : Nat} {v : UInt32} (h : Pu s own args cc nL P) (d : decode cc pc = .ok (.ldc_w index, 3)) (hq : Cond.constantFloat own index v ∈ lw_all) (e : pc + 3 = q) (k : P q (.float v :: st) lv) : P pc st lv := by
  subst e
  refine h.go (fun hx hb ho ht hl w => ?_) k
  intro T hT X
  obtain ⟨t, a, b⟩ := w T hT X
  exact ⟨t, ldcwF X hx ho (ht _ hq) (g := F0 _ _ _ _) rfl (by rw [hb]; exact d) t a, b⟩
/-- a part of the curve -/
def cvT (g : Nat → Int32) (h : Nat → Int64) (nb nch ncr p : Nat) (e : Int32) (pt : Nat) : Int64 :=
  if pt < 4 then (match pt with
    | 0 => p2K g e (e + g (64 + 3 * p + 1)) (g (64 + 3 * p + 2)) 1 nb
    | 1 => p3K g e (e + g (64 + 3 * p + 1)) (g (64 + 3 * p + 2)) 1
    | 2 => p4K g e (e + g (64 + 3 * p + 1)) (g (64 + 3 * p + 2)) 1 nb
    | _ => p5K g e (e + g (64 + 3 * p + 1)) (g (64 + 3 * p + 2)) 1 nb nch)
  else reK g e (e + g (64 + 3 * p + 1)) (g (64 + 3 * p + 2)) 1 (fun k => h (6 * p + k)) (p5K g e (e + g (64 + 3 * p + 1)) (g (64 + 3 * p + 2)) 1 nb nch) (pt - 4 + 1)
theorem cvP {g : Nat → Int32} {h : Nat → Int64} {nb nch ncr p : Nat} {e : Int32} {L : TL} (q : aloP g h nb nch ncr p e (g (64 + 3 * p + 2)) L) {pt : Nat} (hp : pt < 4 + ncr) : (if pt < 4 then L 1 (pt + 2) else L 6 (pt - 4)) = cvT g h nb nch ncr p e pt := by
  obtain ⟨-, -, h2, h3, h4, h5, hk⟩ := q
  unfold cvT
  by_cases c : pt < 4
  · rw [if_pos c, if_pos c]
    rcases (show pt = 0 ∨ pt = 1 ∨ pt = 2 ∨ pt = 3 by omega) with rfl | rfl | rfl | rfl
    · exact h2
    · exact h3
    · exact h4
    · exact h5
  · rw [if_neg c, if_neg c]
    exact (hk (pt - 4) (by omega)).2.2.2.2
def beD (g : Nat → Int32) (h : Nat → Int64) (nb nch ncr p : Nat) (e : Int32) (pt : Nat) : Int64 := -(cvT g h nb nch ncr p (e - 1) pt) + 2 * cvT g h nb nch ncr p e pt - cvT g h nb nch ncr p (e + 1) pt
/-- the steepest place -/
def stT (c : Nat → Int64) : Nat → Int64 × Nat
  | 0 => (-9223372036854775808, 0)
  | k + 1 => (maxL (stT c k).1 (c (k + 1) - c k), if (stT c k).1 < c (k + 1) - c k then k else (stT c k).2)
def crT (g : Nat → Int32) (h : Nat → Int64) (nb nch ncr p e : Nat) : Int64 := aloT g h nb nch ncr p (nI e) (g (64 + 3 * p + 2))
def dpS (g : Nat → Int32) : Nat → Int32
  | 0 => 0
  | k + 1 => dpS g k + g (64 + 3 * k + 2)
theorem lk_X1_345 : GoodIn lw_all (wsV RX1 345 yX6_curvePart.cls yX6_curvePart (ws_ yX6_curvePart cX6_curvePart 2 (some .long))) := lw_V q3422 q3423 q3424 q123 q3425
theorem yk_X6_curvePart : yOk yX6_curvePart 1 := by decide +kernel
set_option maxHeartbeats 4000000 in
theorem kc_X1_bend (D : DD) (l : Launch) (kd : Nat → Nat) (hN : kwN kd) {Q : Heap → Prop} (hQ : kQ kd Q) {K0 : Nat → Prop} (x : Nat) (wd rd : Nat → Nat) (g : Nat → Int32) (h : Nat → Int64) (nb nch ncr : Nat) (hx0 : ∀ {H : Heap}, Q H → fld D 1 x 0 (.ref (wd 0)) H) (hx3 : ∀ {H : Heap}, Q H → fld D 1 x 3 (.ref (kd 0)) H) (hw : ∀ {H : Heap}, Q H → woK K0 D wd rd g h nb nch ncr H) (hnb : nb ≤ 6) (hch : nch ≤ 4) (hcr : ncr ≤ 6) (p : Nat) (hp : p < 6) (e : Int32) (pt : Nat) (hpt : pt < 4 + ncr) (L : TL) (C : TC) : Kc D l yX1_bend cX1_bend 6 (some .long) 8 219 kd Q [.ref x, .int (nI p), .int e, .int (nI pt)] L C (fun r L' C' => r = some (.long (beD g h nb nch ncr p e pt))) := by
  refine Kc.of hN hQ (by decide) (Nat.le_of_ble_eq_true rfl) (fun s K hK hR => ?_)
  show K L C 0 [] [(0, .ref x), (1, .int (nI p)), (2, .int e), (3, .int (nI pt))]
  refine r_aload_n 1 0 (hK.pu _ _) dX1_bend_0 rfl rfl ?_
  refine r_iload_n 2 1 (hK.pu _ _) dX1_bend_1 rfl rfl ?_
  refine r_iload_n 3 2 (hK.pu _ _) dX1_bend_2 rfl rfl ?_
  refine r_iconst 4 1 (hK.pu _ _) dX1_bend_3 (by decide) rfl ?_
  refine r_isub 5 (hK.pu _ _) dX1_bend_4 rfl ?_
  refine k_call 8 hK (kc_X1_curveAt D l kd hN hQ x wd rd g h nb nch ncr hx0 hx3 hw hnb hch hcr p (by omega) (e - 1) L C) lk_X1_323 2 yk_X1_curveAt rfl ⟨by decide, by decide⟩ (fun _ hh z => (hx0 z)) rfl rfl (Nat.le_of_ble_eq_true rfl) dX1_bend_5 rfl (fun r L1 C1 h1 => ?_)
  obtain ⟨rfl, p1⟩ := h1
  refine r_pop2 9 (hK.pu _ _) dX1_bend_8 rfl rfl ?_
  refine r_aload_n 10 0 (hK.pu _ _) dX1_bend_9 rfl rfl ?_
  refine k_getq 13 hK (T := TX1) (C' := RX1) 3 (v := .ref (kd 0)) okX1 (fun _ z => (hx3 z)) rfl (by decide) (Or.inl q553) (Or.inl rfl) dX1_bend_10 rfl ?_
  refine r_iload_n 14 3 (hK.pu _ _) dX1_bend_13 rfl rfl ?_
  refine k_d1 17 hK (kc_X6_curvePart D l kd hN hQ pt (by omega) L1 C1) lk_X1_345 1 yk_X6_curvePart rfl ⟨by decide, by decide⟩ (fun _ hh z => (hh.1.fld 0 rfl)) rfl rfl (Nat.le_of_ble_eq_true rfl) dX1_bend_14 rfl ?_
  refine r_eql (cvT g h nb nch ncr p (e - 1) pt) (cvP p1 hpt) ?_
  refine r_lneg 18 (hK.pu _ _) dX1_bend_17 rfl ?_
  refine r_lstore 20 [(4, .long (-(cvT g h nb nch ncr p (e - 1) pt))), (0, .ref x), (1, .int (nI p)), (2, .int e), (3, .int (nI pt))] (hK.pu _ _) dX1_bend_18 (by decide) rfl rfl ?_
  refine r_aload_n 21 1 (hK.pu _ _) dX1_bend_20 rfl rfl ?_
  refine r_iload_n 22 2 (hK.pu _ _) dX1_bend_21 rfl rfl ?_
  refine r_iload_n 23 3 (hK.pu _ _) dX1_bend_22 rfl rfl ?_
  refine k_call 26 hK (kc_X1_curveAt D l kd hN hQ x wd rd g h nb nch ncr hx0 hx3 hw hnb hch hcr p (by omega) e L1 C1) lk_X1_323 2 yk_X1_curveAt rfl ⟨by decide, by decide⟩ (fun _ hh z => (hx0 z)) rfl rfl (Nat.le_of_ble_eq_true rfl) dX1_bend_23 rfl (fun r L2 C2 h2 => ?_)
  obtain ⟨rfl, p2⟩ := h2
  refine r_pop2 27 (hK.pu _ _) dX1_bend_26 rfl rfl ?_
  refine r_lload 29 0 (hK.pu _ _) dX1_bend_27 rfl rfl ?_
  refine r_ldc2 32 (hK.pu _ _) dX1_bend_29 q3426 rfl ?_
  refine r_aload_n 33 1 (hK.pu _ _) dX1_bend_32 rfl rfl ?_
  refine k_getq 36 hK (T := TX1) (C' := RX1) 3 (v := .ref (kd 0)) okX1 (fun _ z => (hx3 z)) rfl (by decide) (Or.inl q553) (Or.inl rfl) dX1_bend_33 rfl ?_
  refine r_iload_n 37 4 (hK.pu _ _) dX1_bend_36 rfl rfl ?_
  refine k_d1 40 hK (kc_X6_curvePart D l kd hN hQ pt (by omega) L2 C2) lk_X1_345 1 yk_X6_curvePart rfl ⟨by decide, by decide⟩ (fun _ hh z => (hh.1.fld 0 rfl)) rfl rfl (Nat.le_of_ble_eq_true rfl) dX1_bend_37 rfl ?_
  refine r_eql (cvT g h nb nch ncr p (e) pt) (cvP p2 hpt) ?_
  refine r_lmul 41 (hK.pu _ _) dX1_bend_40 rfl ?_
  refine r_ladd 42 (hK.pu _ _) dX1_bend_41 rfl ?_
  refine r_lstore 44 [(4, .long ((-(cvT g h nb nch ncr p (e - 1) pt)) + (2 * (cvT g h nb nch ncr p (e) pt)))), (0, .ref x), (1, .int (nI p)), (2, .int e), (3, .int (nI pt))] (hK.pu _ _) dX1_bend_42 (by decide) rfl rfl ?_
  refine r_aload_n 45 1 (hK.pu _ _) dX1_bend_44 rfl rfl ?_
  refine r_iload_n 46 2 (hK.pu _ _) dX1_bend_45 rfl rfl ?_
  refine r_iload_n 47 3 (hK.pu _ _) dX1_bend_46 rfl rfl ?_
  refine r_iconst 48 1 (hK.pu _ _) dX1_bend_47 (by decide) rfl ?_
  refine r_iadd 49 (hK.pu _ _) dX1_bend_48 rfl ?_
  refine k_call 52 hK (kc_X1_curveAt D l kd hN hQ x wd rd g h nb nch ncr hx0 hx3 hw hnb hch hcr p (by omega) (e + 1) L2 C2) lk_X1_323 2 yk_X1_curveAt rfl ⟨by decide, by decide⟩ (fun _ hh z => (hx0 z)) rfl rfl (Nat.le_of_ble_eq_true rfl) dX1_bend_49 rfl (fun r L3 C3 h3 => ?_)
  obtain ⟨rfl, p3⟩ := h3
  refine r_pop2 53 (hK.pu _ _) dX1_bend_52 rfl rfl ?_
  refine r_lload 55 0 (hK.pu _ _) dX1_bend_53 rfl rfl ?_
  refine r_aload_n 56 1 (hK.pu _ _) dX1_bend_55 rfl rfl ?_
  refine k_getq 59 hK (T := TX1) (C' := RX1) 3 (v := .ref (kd 0)) okX1 (fun _ z => (hx3 z)) rfl (by decide) (Or.inl q553) (Or.inl rfl) dX1_bend_56 rfl ?_
  refine r_iload_n 60 4 (hK.pu _ _) dX1_bend_59 rfl rfl ?_
  refine k_d1 63 hK (kc_X6_curvePart D l kd hN hQ pt (by omega) L3 C3) lk_X1_345 1 yk_X6_curvePart rfl ⟨by decide, by decide⟩ (fun _ hh z => (hh.1.fld 0 rfl)) rfl rfl (Nat.le_of_ble_eq_true rfl) dX1_bend_60 rfl ?_
  refine r_eql (cvT g h nb nch ncr p (e + 1) pt) (cvP p3 hpt) ?_
  refine r_lsub 64 (hK.pu _ _) dX1_bend_63 rfl ?_
  exact KR.lg hR dX1_bend_64 rfl
theorem lk_X1_350 : GoodIn lw_all (wsV RX1 350 yX1_bend.cls yX1_bend (ws_ yX1_bend cX1_bend 6 (some .long))) := lw_V q3418 q3420 qs60 q102 q3421
theorem yk_X1_bend : yOk yX1_bend 3 := by decide +kernel
set_option maxHeartbeats 4000000 in
theorem kc_X1_causeOf (D : DD) (l : Launch) (kd : Nat → Nat) (hN : kwN kd) {Q : Heap → Prop} (hQ : kQ kd Q) {K0 : Nat → Prop} (x : Nat) (wd rd : Nat → Nat) (g : Nat → Int32) (h : Nat → Int64) (nb nch ncr : Nat) (hx0 : ∀ {H : Heap}, Q H → fld D 1 x 0 (.ref (wd 0)) H) (hx3 : ∀ {H : Heap}, Q H → fld D 1 x 3 (.ref (kd 0)) H) (hw : ∀ {H : Heap}, Q H → woK K0 D wd rd g h nb nch ncr H) (hnb : nb ≤ 6) (hch : nch ≤ 4) (hcr : ncr ≤ 6) (p : Nat) (hp : p < 6) (e : Int32) (L : TL) (C : TC) : Kc D l yX1_causeOf cX1_causeOf 5 (some .int) 9 244 kd Q [.ref x, .int (nI p), .int e] L C (fun r L' C' => ∃ k, r = some (.int (nI k)) ∧ ((k < 4 + ncr ∧ ¬ beD g h nb nch ncr p e k = 0 ∧ ∀ j, j < k → beD g h nb nch ncr p e j = 0) ∨ (k = 4 + ncr - 1 ∧ ∀ j, j < 4 + ncr → beD g h nb nch ncr p e j = 0))) := by
  refine Kc.of hN hQ (by decide) (Nat.le_of_ble_eq_true rfl) (fun s K hK hR => ?_)
  show K L C 0 [] [(0, .ref x), (1, .int (nI p)), (2, .int e)]
  refine r_iconst 1 4 (hK.pu _ _) dX1_causeOf_0 (by decide) rfl ?_
  refine r_aload_n 2 0 (hK.pu _ _) dX1_causeOf_1 rfl rfl ?_
  refine k_getq 5 hK (T := TX1) (C' := RX1) 0 (v := .ref (wd 0)) okX1 (fun _ z => (hx0 z)) rfl (by decide) (Or.inl q550) (Or.inl rfl) dX1_causeOf_2 rfl ?_
  refine k_getq 8 hK (T := TX2) (C' := RX2) 0 (v := .ref (rd 0)) okX2 (fun _ z => ((hw z).o.fld 0 rfl)) rfl (by decide) (Or.inr ⟨_, nw_q448⟩) (Or.inl rfl) dX1_causeOf_5 rfl ?_
  refine k_getq 11 hK (T := TX3) (C' := RX3) 4 (v := .ref (rd 6)) okX3 (fun _ z => ((hw z).ru.o.fld 4 rfl)) rfl (by decide) (Or.inr ⟨_, nw_q320⟩) (Or.inl rfl) dX1_causeOf_8 rfl ?_
  refine k_callp 14 hK (fun _ hh z => cp_J10_size D l (rd 6) ncr (fun k => rd (400 + k)) (fun k => rd (300 + k)) (hw z).ru.rl) lk_X1_124 0 yk_J10_size rfl ⟨by decide, by decide⟩ (fun _ hh z => (hw z).ru.rl.sz) rfl rfl (Nat.le_of_ble_eq_true rfl) dX1_causeOf_11 rfl ?_
  refine r_iaddN 4 ncr (4 + ncr) 15 (hK.pu _ _) dX1_causeOf_14 rfl rfl ?_
  refine r_istore_n 16 [(3, .int (nI (4 + ncr))), (0, .ref x), (1, .int (nI p)), (2, .int e)] (hK.pu _ _) dX1_causeOf_15 rfl (by decide) rfl rfl ?_
  refine r_iconst 17 0 (hK.pu _ _) dX1_causeOf_16 (by decide) rfl ?_
  refine r_istore 19 [(4, .int 0), (3, .int (nI (4 + ncr))), (0, .ref x), (1, .int (nI p)), (2, .int e)] (hK.pu _ _) dX1_causeOf_17 (by decide) rfl rfl ?_
  have lp_19 : ∀ (m : Nat) (k : Nat) (L : TL) (C : TC), (k ≤ 4 + ncr) → (∀ j, j < k → beD g h nb nch ncr p e j = 0) → (4 + ncr - k) < m → K L C 19 [] [(4, .int (nI k)), (3, .int (nI (4 + ncr))), (0, .ref x), (1, .int (nI p)), (2, .int e)] := by
    intro m
    induction m with
    | zero => intro k L C hk hz hm; exact absurd hm (Nat.not_lt_zero _)
    | succ m ih =>
      intro k L C hk hz hm
      refine r_iload 21 0 (hK.pu _ _) dX1_causeOf_19 rfl rfl ?_
      refine r_iload_n 22 1 (hK.pu _ _) dX1_causeOf_21 rfl rfl ?_
      refine r_icmp_geN k (4 + ncr) 25 47 (hK.pu _ _) dX1_causeOf_22 (by omega) (by omega) (by decide) (fun c22 => ?_) rfl (fun c22 => ?_)
      · refine r_iload_n 48 1 (hK.pu _ _) dX1_causeOf_47 rfl rfl ?_
        refine r_iconst 49 1 (hK.pu _ _) dX1_causeOf_48 (by decide) rfl ?_
        refine r_isubN (4 + ncr) 1 (4 + ncr - 1) 50 (hK.pu _ _) dX1_causeOf_49 (by omega) (by omega) rfl ?_
        exact KR.i hR rfl dX1_causeOf_50 ⟨_, rfl, Or.inr ⟨rfl, fun j hj => hz j (by omega)⟩⟩
      · refine r_aload_n 26 2 (hK.pu _ _) dX1_causeOf_25 rfl rfl ?_
        refine r_iload_n 27 3 (hK.pu _ _) dX1_causeOf_26 rfl rfl ?_
        refine r_iload_n 28 4 (hK.pu _ _) dX1_causeOf_27 rfl rfl ?_
        refine r_iload 30 0 (hK.pu _ _) dX1_causeOf_28 rfl rfl ?_
        refine k_call 33 hK (kc_X1_bend D l kd hN hQ x wd rd g h nb nch ncr hx0 hx3 hw hnb hch hcr p (by omega) e k (by omega) L C) lk_X1_350 3 yk_X1_bend rfl ⟨by decide, by decide⟩ (fun _ hh z => (hx0 z)) rfl rfl (Nat.le_of_ble_eq_true rfl) dX1_causeOf_30 rfl (fun r L1 C1 h1 => ?_)
        subst h1
        refine r_lconst 34 0 (hK.pu _ _) dX1_causeOf_33 (by decide) rfl ?_
        refine r_lc_eq 38 41 (hK.pu _ _) dX1_causeOf_34 dX1_causeOf_35 (by decide) (fun c34 => ?_) rfl (fun c34 => ?_)
        · refine r_iinc 44 (nI (k + 1)) 0 [(4, .int (nI (k + 1))), (3, .int (nI (4 + ncr))), (0, .ref x), (1, .int (nI p)), (2, .int e)] (hK.pu _ _) dX1_causeOf_41 rfl (nI_1 k) (by decide) rfl rfl ?_
          refine r_goto 19 (hK.pu _ _) dX1_causeOf_44 (by decide) ?_
          exact ih (k + 1) L1 C1 (by omega) (fun j hj => by rcases Nat.lt_or_ge j k with z | z; exact hz j z; rw [show j = k by omega]; exact c34) (by omega)
        · refine r_iload 40 0 (hK.pu _ _) dX1_causeOf_38 rfl rfl ?_
          exact KR.i hR rfl dX1_causeOf_40 ⟨_, rfl, Or.inl ⟨by omega, c34, hz⟩⟩
  exact lp_19 (5 + ncr) 0 L C (by omega) (fun j hj => absurd hj (Nat.not_lt_zero _)) (by omega)
set_option maxHeartbeats 4000000 in
theorem kc_X1_steepest (D : DD) (l : Launch) (kd : Nat → Nat) (hN : kwN kd) {Q : Heap → Prop} (hQ : kQ kd Q) {K0 : Nat → Prop} (x : Nat) (wd rd : Nat → Nat) (g : Nat → Int32) (h : Nat → Int64) (nb nch ncr : Nat) (hx0 : ∀ {H : Heap}, Q H → fld D 1 x 0 (.ref (wd 0)) H) (hx3 : ∀ {H : Heap}, Q H → fld D 1 x 3 (.ref (kd 0)) H) (hw : ∀ {H : Heap}, Q H → woK K0 D wd rd g h nb nch ncr H) (hnb : nb ≤ 6) (hch : nch ≤ 4) (hcr : ncr ≤ 6) (p : Nat) (hp : p < 6) (L : TL) (C : TC) : Kc D l yX1_steepest cX1_steepest 10 (some .int) 8 219 kd Q [.ref x, .int (nI p)] L C (fun r L' C' => r = some (.int (nI (stT (crT g h nb nch ncr p) 9999).2))) := by
  refine Kc.of hN hQ (by decide) (Nat.le_of_ble_eq_true rfl) (fun s K hK hR => ?_)
  show K L C 0 [] [(0, .ref x), (1, .int (nI p))]
  refine r_aload_n 1 0 (hK.pu _ _) dX1_steepest_0 rfl rfl ?_
  refine r_iload_n 2 1 (hK.pu _ _) dX1_steepest_1 rfl rfl ?_
  refine k_callp 5 hK (fun _ hh z => cp_X1_person D l x wd rd g h nb nch ncr (hx0 z) (hw z) hnb hch hcr p (by omega) (per_in (by omega))) lk_X1_211 1 yk_X1_person rfl ⟨by decide, by decide⟩ (fun _ hh z => (hx0 z)) rfl rfl (Nat.le_of_ble_eq_true rfl) dX1_steepest_2 rfl ?_
  refine r_pop 6 (hK.pu _ _) dX1_steepest_5 rfl rfl ?_
  refine r_iconst 7 0 (hK.pu _ _) dX1_steepest_6 (by decide) rfl ?_
  refine r_istore_n 8 [(2, .int 0), (0, .ref x), (1, .int (nI p))] (hK.pu _ _) dX1_steepest_7 rfl (by decide) rfl rfl ?_
  refine r_aload_n 9 1 (hK.pu _ _) dX1_steepest_8 rfl rfl ?_
  refine r_iload_n 10 2 (hK.pu _ _) dX1_steepest_9 rfl rfl ?_
  refine r_iconst 11 0 (hK.pu _ _) dX1_steepest_10 (by decide) rfl ?_
  refine k_call 14 hK (kc_X1_curveAt D l kd hN hQ x wd rd g h nb nch ncr hx0 hx3 hw hnb hch hcr p (by omega) 0 L C) lk_X1_323 2 yk_X1_curveAt rfl ⟨by decide, by decide⟩ (fun _ hh z => (hx0 z)) rfl rfl (Nat.le_of_ble_eq_true rfl) dX1_steepest_11 rfl (fun r L1 C1 h1 => ?_)
  obtain ⟨rfl, p1⟩ := h1
  refine r_eql (crT g h nb nch ncr p 0) (rfl) ?_
  refine r_lstore_n 15 [(3, .long (crT g h nb nch ncr p 0)), (2, .int 0), (0, .ref x), (1, .int (nI p))] (hK.pu _ _) dX1_steepest_14 rfl (by decide) rfl rfl ?_
  refine r_ldc2 18 (hK.pu _ _) dX1_steepest_15 q3438 rfl ?_
  refine r_lstore 20 [(5, .long (-9223372036854775808)), (3, .long (crT g h nb nch ncr p 0)), (2, .int 0), (0, .ref x), (1, .int (nI p))] (hK.pu _ _) dX1_steepest_18 (by decide) rfl rfl ?_
  refine r_iconst 21 0 (hK.pu _ _) dX1_steepest_20 (by decide) rfl ?_
  refine r_istore 23 [(7, .int 0), (5, .long (-9223372036854775808)), (3, .long (crT g h nb nch ncr p 0)), (2, .int 0), (0, .ref x), (1, .int (nI p))] (hK.pu _ _) dX1_steepest_21 (by decide) rfl rfl ?_
  have lp_23 : ∀ (m : Nat) (k : Nat) (L : TL) (C : TC), (k ≤ 9999) → (9999 - k) < m → K L C 23 [] [(7, .int (nI k)), (5, .long ((stT (crT g h nb nch ncr p) k).1)), (3, .long (crT g h nb nch ncr p k)), (2, .int (nI ((stT (crT g h nb nch ncr p) k).2))), (0, .ref x), (1, .int (nI p))] := by
    intro m
    induction m with
    | zero => intro k L C hk hm; exact absurd hm (Nat.not_lt_zero _)
    | succ m ih =>
      intro k L C hk hm
      refine r_iload 25 0 (hK.pu _ _) dX1_steepest_23 rfl rfl ?_
      refine r_sipush 28 9999 (hK.pu _ _) dX1_steepest_25 (by decide) rfl ?_
      refine r_icmp_geN k 9999 31 79 (hK.pu _ _) dX1_steepest_28 (by omega) (by omega) (by decide) (fun c28 => ?_) rfl (fun c28 => ?_)
      · have hk9 : k = 9999 := by omega
        subst hk9
        refine r_iload_n 80 3 (hK.pu _ _) dX1_steepest_79 rfl rfl ?_
        exact KR.i hR rfl dX1_steepest_80 rfl
      · refine r_aload_n 32 4 (hK.pu _ _) dX1_steepest_31 rfl rfl ?_
        refine r_iload_n 33 5 (hK.pu _ _) dX1_steepest_32 rfl rfl ?_
        refine r_iload 35 0 (hK.pu _ _) dX1_steepest_33 rfl rfl ?_
        refine r_iconst 36 1 (hK.pu _ _) dX1_steepest_35 (by decide) rfl ?_
        refine r_iaddN k 1 (k + 1) 37 (hK.pu _ _) dX1_steepest_36 rfl rfl ?_
        refine k_call 40 hK (kc_X1_curveAt D l kd hN hQ x wd rd g h nb nch ncr hx0 hx3 hw hnb hch hcr p (by omega) (nI (k + 1)) L C) lk_X1_323 2 yk_X1_curveAt rfl ⟨by decide, by decide⟩ (fun _ hh z => (hx0 z)) rfl rfl (Nat.le_of_ble_eq_true rfl) dX1_steepest_37 rfl (fun r L2 C2 h2 => ?_)
        obtain ⟨rfl, p2⟩ := h2
        refine r_eql (crT g h nb nch ncr p (k + 1)) (rfl) ?_
        refine r_lstore 42 [(8, .long (crT g h nb nch ncr p (k + 1))), (7, .int (nI k)), (5, .long ((stT (crT g h nb nch ncr p) k).1)), (3, .long (crT g h nb nch ncr p k)), (2, .int (nI ((stT (crT g h nb nch ncr p) k).2))), (0, .ref x), (1, .int (nI p))] (hK.pu _ _) dX1_steepest_40 (by decide) rfl rfl ?_
        refine r_lload 44 0 (hK.pu _ _) dX1_steepest_42 rfl rfl ?_
        refine r_lload_n 45 3 (hK.pu _ _) dX1_steepest_44 rfl rfl ?_
        refine r_lsub 46 (hK.pu _ _) dX1_steepest_45 rfl ?_
        refine r_lload 48 2 (hK.pu _ _) dX1_steepest_46 rfl rfl ?_
        have hj_48 : K L2 C2 58 [.int (nI ((stT (crT g h nb nch ncr p) (k + 1)).2))] [(8, .long (crT g h nb nch ncr p (k + 1))), (7, .int (nI k)), (5, .long ((stT (crT g h nb nch ncr p) k).1)), (3, .long (crT g h nb nch ncr p k)), (2, .int (nI ((stT (crT g h nb nch ncr p) k).2))), (0, .ref x), (1, .int (nI p))] := by
          refine r_istore_n 59 [(2, .int (nI ((stT (crT g h nb nch ncr p) (k + 1)).2))), (8, .long (crT g h nb nch ncr p (k + 1))), (7, .int (nI k)), (5, .long ((stT (crT g h nb nch ncr p) k).1)), (3, .long (crT g h nb nch ncr p k)), (0, .ref x), (1, .int (nI p))] (hK.pu _ _) dX1_steepest_58 rfl (by decide) rfl rfl ?_
          refine r_lload 61 3 (hK.pu _ _) dX1_steepest_59 rfl rfl ?_
          refine r_lload 63 1 (hK.pu _ _) dX1_steepest_61 rfl rfl ?_
          refine r_lload_n 64 4 (hK.pu _ _) dX1_steepest_63 rfl rfl ?_
          refine r_lsub 65 (hK.pu _ _) dX1_steepest_64 rfl ?_
          refine k_maxL 68 hK q3439 ⟨by decide, by decide⟩ (Nat.le_of_ble_eq_true rfl) dX1_steepest_65 rfl ?_
          refine r_eql ((stT (crT g h nb nch ncr p) (k + 1)).1) (rfl) ?_
          refine r_lstore 70 [(5, .long ((stT (crT g h nb nch ncr p) (k + 1)).1)), (2, .int (nI ((stT (crT g h nb nch ncr p) (k + 1)).2))), (8, .long (crT g h nb nch ncr p (k + 1))), (7, .int (nI k)), (3, .long (crT g h nb nch ncr p k)), (0, .ref x), (1, .int (nI p))] (hK.pu _ _) dX1_steepest_68 (by decide) rfl rfl ?_
          refine r_lload 72 2 (hK.pu _ _) dX1_steepest_70 rfl rfl ?_
          refine r_lstore_n 73 [(3, .long (crT g h nb nch ncr p (k + 1))), (5, .long ((stT (crT g h nb nch ncr p) (k + 1)).1)), (2, .int (nI ((stT (crT g h nb nch ncr p) (k + 1)).2))), (8, .long (crT g h nb nch ncr p (k + 1))), (7, .int (nI k)), (0, .ref x), (1, .int (nI p))] (hK.pu _ _) dX1_steepest_72 rfl (by decide) rfl rfl ?_
          refine r_iinc 76 (nI (k + 1)) 4 [(7, .int (nI (k + 1))), (3, .long (crT g h nb nch ncr p (k + 1))), (5, .long ((stT (crT g h nb nch ncr p) (k + 1)).1)), (2, .int (nI ((stT (crT g h nb nch ncr p) (k + 1)).2))), (8, .long (crT g h nb nch ncr p (k + 1))), (0, .ref x), (1, .int (nI p))] (hK.pu _ _) dX1_steepest_73 rfl (nI_1 k) (by decide) rfl rfl ?_
          refine r_goto 23 (hK.pu _ _) dX1_steepest_76 (by decide) ?_
          refine (hK.pu _ _).lvs [0, 2, 1, 3, 5, 6] rfl ?_
          exact ih (k + 1) L2 C2 (by omega) (by omega)
        refine r_lc_le 52 57 (hK.pu _ _) dX1_steepest_48 dX1_steepest_49 (by decide) (fun c48 => ?_) rfl (fun c48 => ?_)
        · refine r_iload_n 58 4 (hK.pu _ _) dX1_steepest_57 rfl rfl ?_
          refine r_eqi (nI ((stT (crT g h nb nch ncr p) (k + 1)).2)) (by show _ = nI (if _ then _ else _); first | rw [if_pos c48] | rw [if_neg c48] | rw [if_pos (Int64.not_le.mp c48)] | rw [if_neg (Int64.not_lt.mpr c48)]) ?_
          exact hj_48
        · refine r_iload 54 1 (hK.pu _ _) dX1_steepest_52 rfl rfl ?_
          refine r_goto 58 (hK.pu _ _) dX1_steepest_54 (by decide) ?_
          refine r_eqi (nI ((stT (crT g h nb nch ncr p) (k + 1)).2)) (by show _ = nI (if _ then _ else _); first | rw [if_pos c48] | rw [if_neg c48] | rw [if_pos (Int64.not_le.mp c48)] | rw [if_neg (Int64.not_lt.mpr c48)]) ?_
          exact hj_48
  exact lp_23 10000 0 L1 C1 (by omega) (by omega)
set_option maxHeartbeats 2000000 in
theorem cp_X1_averageDependents (D : DD) (l : Launch) {H0 : Heap} {K0 : Nat → Prop} (x : Nat) (wd rd : Nat → Nat) (g : Nat → Int32) (h : Nat → Int64) (nb nch ncr : Nat) (hx0 : fld D 1 x 0 (.ref (wd 0)) H0) (hw : woK K0 D wd rd g h nb nch ncr H0) (hnb : nb ≤ 6) (hch : nch ≤ 4) (hcr : ncr ≤ 6) (hnan : vf_n32 (FP.fdiv (FP.i2f (dpS g 6)) 1086324736)) : Cp D l yX1_averageDependents cX1_averageDependents 3 (some .float) 0 0 [.ref x] H0 (some (.float (FP.fdiv (FP.i2f (dpS g 6)) 1086324736))) := by
  refine Cp.of (by decide) (Nat.le_of_ble_eq_true rfl) (fun s A J hJ hR => ?_)
  show J H0 0 0 0 [] [(0, .ref x)]
  refine r_iconst 1 0 (hJ.pu _ _ _) dX1_averageDependents_0 (by decide) rfl ?_
  refine r_istore_n 2 [(1, .int 0), (0, .ref x)] (hJ.pu _ _ _) dX1_averageDependents_1 rfl (by decide) rfl rfl ?_
  refine r_iconst 3 0 (hJ.pu _ _ _) dX1_averageDependents_2 (by decide) rfl ?_
  refine r_istore_n 4 [(2, .int 0), (1, .int 0), (0, .ref x)] (hJ.pu _ _ _) dX1_averageDependents_3 rfl (by decide) rfl rfl ?_
  have lp_4 : ∀ (m : Nat) (k : Nat), (k ≤ 6) → (6 - k) < m → J H0 0 0 4 [] [(2, .int (nI k)), (1, .int (dpS g k)), (0, .ref x)] := by
    intro m
    induction m with
    | zero => intro k hk hm; exact absurd hm (Nat.not_lt_zero _)
    | succ m ih =>
      intro k hk hm
      refine r_iload_n 5 0 (hJ.pu _ _ _) dX1_averageDependents_4 rfl rfl ?_
      refine r_bipush 7 6 (hJ.pu _ _ _) dX1_averageDependents_5 (by decide) rfl ?_
      refine r_icmp_geN k 6 10 31 (hJ.pu _ _ _) dX1_averageDependents_7 (by omega) (by omega) (by decide) (fun c7 => ?_) rfl (fun c7 => ?_)
      · have hk6 : k = 6 := by omega
        subst hk6
        refine r_iload_n 32 1 (hJ.pu _ _ _) dX1_averageDependents_31 rfl rfl ?_
        refine r_i2f 33 (hJ.pu _ _ _) dX1_averageDependents_32 rfl ?_
        refine r_ldcwf 36 (hJ.pu _ _ _) dX1_averageDependents_33 q2001 rfl ?_
        refine r_fdiv 37 (hJ.pu _ _ _) dX1_averageDependents_36 hnan rfl ?_
        exact Rt.fl hR dX1_averageDependents_37 (Nat.zero_le _) (Nat.zero_le _) ⟨rfl, rfl⟩
      · refine r_iload_n 11 1 (hJ.pu _ _ _) dX1_averageDependents_10 rfl rfl ?_
        refine r_aload_n 12 2 (hJ.pu _ _ _) dX1_averageDependents_11 rfl rfl ?_
        refine j_getf 15 hJ (T := TX1) (C := RX1) 0 (v := .ref (wd 0)) okX1 hx0 rfl (by decide) (Or.inl q550) (Or.inl rfl) dX1_averageDependents_12 rfl ?_
        refine j_getf 18 hJ (T := TX2) (C := RX2) 1 (v := .ref (wd 1)) okX2 (hw.o.fld 1 rfl) rfl (by decide) (Or.inr ⟨_, nw_q450⟩) (Or.inl rfl) dX1_averageDependents_15 rfl ?_
        refine r_iload_n 19 0 (hJ.pu _ _ _) dX1_averageDependents_18 rfl rfl ?_
        refine j_aalde 20 hJ k (x := some (wd (10 + k))) (hw.pe.el (j := k) (by omega)) rfl rfl (by omega) (by omega) dX1_averageDependents_19 rfl ?_
        refine j_getf 23 hJ (T := TX5) (C := RX5) 2 (v := .int (g (64 + 3 * k + 2))) okX5 ((hw.p (p := k) (by omega)).fld 2 rfl) rfl (by decide) (Or.inr ⟨_, nw_q346⟩) (Or.inl rfl) dX1_averageDependents_20 rfl ?_
        refine r_iadd 24 (hJ.pu _ _ _) dX1_averageDependents_23 rfl ?_
        refine r_istore_n 25 [(1, .int ((dpS g k) + (g (64 + 3 * k + 2)))), (2, .int (nI k)), (0, .ref x)] (hJ.pu _ _ _) dX1_averageDependents_24 rfl (by decide) rfl rfl ?_
        refine r_iinc 28 (nI (k + 1)) 1 [(2, .int (nI (k + 1))), (1, .int ((dpS g k) + (g (64 + 3 * k + 2)))), (0, .ref x)] (hJ.pu _ _ _) dX1_averageDependents_25 rfl (nI_1 k) (by decide) rfl rfl ?_
        refine r_goto 4 (hJ.pu _ _ _) dX1_averageDependents_28 (by decide) ?_
        exact ih (k + 1) (by omega) (by omega)
  exact lp_4 7 0 (by omega) (by omega)
