theorem nI_128 {j : Nat} : nI (j + 128) - 128 = nI j := by
  rw [show (128 : Int32) = nI 128 from rfl, pk_sub (by omega), show j + 128 - 128 = j by omega]
theorem nI_gt {j : Nat} (hj : j ≤ 9999) : ¬ nI j < -128 := by
  rw [Int32.lt_iff_toInt_lt, nI_toInt (by omega)]
  show ¬ (j : Int) < -128
  omega
set_option maxHeartbeats 4000000 in
theorem fc_J27_init (D : DD) (l : Launch) {KS : Nat → Prop} {Hb : Heap} (a : Nat) : Fc D l yJ27_init cJ27_init 1 none 1 0 0 20 KS Hb [.ref a] ([]) ([]) (fun r w i => r = none ∧ w = [] ∧ i = []) := by
  refine Fc.of (by decide) (Nat.le_of_ble_eq_true rfl) (fun s F hF hR => ?_)
  show F 0 0 ([]) ([]) 0 [] [(0, .ref a)]
  refine r_aload_n 1 0 (hF.pu _ _ _ _) dJ27_init_0 rfl rfl ?_
  refine f_objInit 4 hF q2199 q179 q180 ⟨by decide, by decide⟩ dJ27_init_1 rfl ?_
  exact FR.v hR dJ27_init_4 (Nat.le_of_ble_eq_true rfl) (Nat.le_of_ble_eq_true rfl) ⟨rfl, rfl, rfl⟩
theorem yk_J27_init : yOk yJ27_init 0 := by decide +kernel
set_option maxHeartbeats 4000000 in
theorem fc_J28_init (D : DD) (l : Launch) {KS : Nat → Prop} {Hb : Heap} (a : Nat) (v v0 : Int32) : Fc D l yJ28_init cJ28_init 2 none 2 0 0 40 KS Hb [.ref a, .int v] ([oC a 19 [.int v0]]) ([]) (fun r w i => r = none ∧ w = [oC a 19 [.int v]] ∧ i = []) := by
  refine Fc.of (by decide) (Nat.le_of_ble_eq_true rfl) (fun s F hF hR => ?_)
  show F 0 0 ([oC a 19 [.int v0]]) ([]) 0 [] [(0, .ref a), (1, .int v)]
  refine r_aload_n 1 0 (hF.pu _ _ _ _) dJ28_init_0 rfl rfl ?_
  refine f_callI 4 hF (fc_J27_init (KS := KS) (Hb := Hb) D l a) (wr := ([oC a 19 [.int v0]])) rfl (imk [] rfl) q2198 q139 q2196 q2197 rfl 0 yk_J27_init rfl ⟨by decide, by decide⟩ rfl (Nat.le_of_ble_eq_true rfl) dJ28_init_1 ⟨Nat.le_of_ble_eq_true rfl, Nat.le_of_ble_eq_true rfl⟩ rfl (fun r ws_ im' hp => ?_)
  obtain ⟨rfl, rfl, rfl⟩ := hp
  show F 0 0 ([oC a 19 [.int v0]]) ([]) 4 [] [(0, .ref a), (1, .int v)]
  refine r_aload_n 5 0 (hF.pu _ _ _ _) dJ28_init_4 rfl rfl ?_
  refine r_iload_n 6 1 (hF.pu _ _ _ _) dJ28_init_5 rfl rfl ?_
  refine f_putF 9 hF 0 (T := TJ28) (C := RJ28) ([oC a 19 [.int v]]) okJ28 rfl rfl 0 (by decide) q2200 rfl rfl rfl rfl rfl (Nat.le_of_ble_eq_true rfl) rfl dJ28_init_6 rfl ?_
  exact FR.v hR dJ28_init_9 (Nat.le_of_ble_eq_true rfl) (Nat.le_of_ble_eq_true rfl) ⟨rfl, rfl, rfl⟩
theorem dvJ28 : ∀ j, j < 1 → defaultValue (tyJ28 j) = vp_V [.int 0] j := by
  intro j hj
  rcases (show j = 0 by omega) with rfl <;> rfl
theorem yk_J28_init : yOk yJ28_init 1 := by decide +kernel
set_option maxHeartbeats 4000000 in
theorem fc_J28_valueOf (D : DD) (l : Launch) {KS : Nat → Prop} {Hb : Heap} (j : Nat) (hj : j ≤ 9999) : Fc D l yJ28_valueOf cJ28_valueOf 1 (Option.some (ClassFile.FieldType.object "java/lang/Integer")) 3 1 1 61 KS Hb [.int (nI j)] ([]) ([]) (fun r w i => ∃ a, r = some (.ref a) ∧ w = [] ∧ i = [oC a 19 [.int (nI j)]]) := by
  refine Fc.of (by decide) (Nat.le_of_ble_eq_true rfl) (fun s F hF hR => ?_)
  show F 0 0 ([]) ([]) 0 [] [(0, .int (nI j))]
  refine r_iload_n 1 0 (hF.pu _ _ _ _) dJ28_valueOf_0 rfl rfl ?_
  refine r_bipush 3 (-128) (hF.pu _ _ _ _) dJ28_valueOf_1 (by decide) rfl ?_
  refine r_icmp_lt 6 23 (hF.pu _ _ _ _) dJ28_valueOf_3 (by decide) (fun c3 => absurd c3 (nI_gt hj)) rfl (fun c3 => ?_)
  refine r_iload_n 7 0 (hF.pu _ _ _ _) dJ28_valueOf_6 rfl rfl ?_
  refine f_geti 10 hF (v := 127) (List.mem_of_getElem? (i := 1) rfl) (Or.inl q2187) dJ28_valueOf_7 rfl ?_
  refine r_icmp_gtN j 127 13 23 (hF.pu _ _ _ _) dJ28_valueOf_10 (by omega) (by omega) (by decide) (fun c10 => ?_) rfl (fun c10 => ?_)
  · refine f_new 26 hF (ci := 19) [.int 0] okJ28 rfl q2191 q2192 q140 dvJ28 ⟨Nat.le_of_ble_eq_true rfl, Nat.le_of_ble_eq_true rfl⟩ dJ28_valueOf_23 rfl (fun a1_ => ?_)
    refine r_dup 27 (hF.pu _ _ _ _) dJ28_valueOf_26 rfl rfl ?_
    refine r_iload_n 28 0 (hF.pu _ _ _ _) dJ28_valueOf_27 rfl rfl ?_
    refine f_callI 31 hF (fc_J28_init (KS := KS) (Hb := Hb) D l a1_ (nI j) 0) (wr := ([])) rfl (imk [] rfl) q2195 q140 q2193 q2194 rfl 1 yk_J28_init rfl ⟨by decide, by decide⟩ rfl (Nat.le_of_ble_eq_true rfl) dJ28_valueOf_28 ⟨Nat.le_of_ble_eq_true rfl, Nat.le_of_ble_eq_true rfl⟩ rfl (fun r ws_ im' hp => ?_)
    obtain ⟨rfl, rfl, rfl⟩ := hp
    show F 1 1 ([oC a1_ 19 [.int (nI j)]]) ([]) 31 [.ref a1_] [(0, .int (nI j))]
    refine f_frz hF ?_
    exact FR.a hR (Or.inl ⟨_, rfl⟩) dJ28_valueOf_31 (Nat.le_of_ble_eq_true rfl) (Nat.le_of_ble_eq_true rfl) ⟨_, rfl, rfl, rfl⟩
  · refine f_cI hF ?_
    refine f_gets 16 hF (i := 2) (List.mem_of_getElem? (i := 2) rfl) (Or.inl q2189) dJ28_valueOf_13 rfl ?_
    refine r_iload_n 17 0 (hF.pu _ _ _ _) dJ28_valueOf_16 rfl rfl ?_
    refine r_sipush 20 128 (hF.pu _ _ _ _) dJ28_valueOf_17 (by decide) rfl ?_
    refine r_iaddN j 128 (j + 128) 21 (hF.pu _ _ _ _) dJ28_valueOf_20 rfl rfl ?_
    refine f_aald 22 hF (j + 128) (x := some (D.2.2.1 (1000 + (j + 128)))) (fun _ z => ⟨_, (z.ma 0 rfl), rfl⟩) rfl rfl (by omega) (by omega) dJ28_valueOf_21 rfl ?_
    refine f_cIk hF (j := j + 128) (by omega) ?_
    rw [nI_128]
    refine f_imsub hF [oC (D.2.2.1 (1000 + (j + 128))) 19 [.int (nI j)]] (imk [0] rfl) ?_
    exact FR.a hR (Or.inl ⟨_, rfl⟩) dJ28_valueOf_22 (Nat.le_of_ble_eq_true rfl) (Nat.le_of_ble_eq_true rfl) ⟨_, rfl, rfl, rfl⟩
theorem f_EX {D : DD} {l : Launch} {s : State} {own : String} {args : Array Value} {cc : ByteArray} {nL : Nat} {R : Room} {nm : String} {KS : Nat → Prop} {Hb : Heap} {F : FJ} {k n pc : Nat} {ws im : va_W} {st : List Value} {lv : List (Nat × Value)} (hF : Fx D l s own args cc nL R nm KS Hb F) (kk : (D.2.2.1 101 ≠ D.2.2.1 102 ∧ D.2.2.1 101 ≠ D.2.2.1 103) → F k n ws im pc st lv) : F k n ws im pc st lv := by
  obtain ⟨A, B, H0, J, hJ, hB, hAK, hAB, hBB, rfl⟩ := hF
  intro H hH
  refine hJ.go fun ls locs hx hb hml hown hts hnm hK hA hOK hl hS ret => ?_
  exact ret _ _ _ _ _ _ (kk hK.2.2.2.2.2.2.2.2.2.2.2 H hH) ls locs hl hS
set_option maxHeartbeats 4000000 in
theorem fc_J42_init (D : DD) (l : Launch) {KS : Nat → Prop} {Hb : Heap} (a l_ : Nat) : Fc D l yJ42_init cJ42_init 2 none 1 0 0 20 KS Hb [.ref a, .ref l_] ([oC a 21 [.null, .null]]) ([]) (fun r w i => r = none ∧ w = [oC a 21 [.ref l_, .null]] ∧ i = []) := by
  refine Fc.of (by decide) (Nat.le_of_ble_eq_true rfl) (fun s F hF hR => ?_)
  show F 0 0 ([oC a 21 [.null, .null]]) ([]) 0 [] [(0, .ref a), (1, .ref l_)]
  refine r_aload_n 1 0 (hF.pu _ _ _ _) dJ42_init_0 rfl rfl ?_
  refine f_objInit 4 hF q2236 q179 q180 ⟨by decide, by decide⟩ dJ42_init_1 rfl ?_
  refine r_aload_n 5 1 (hF.pu _ _ _ _) dJ42_init_4 rfl rfl ?_
  refine r_ifnonnull 16 (hF.pu _ _ _ _) dJ42_init_5 (by decide) ?_
  refine r_aload_n 17 0 (hF.pu _ _ _ _) dJ42_init_16 rfl rfl ?_
  refine r_aload_n 18 1 (hF.pu _ _ _ _) dJ42_init_17 rfl rfl ?_
  refine f_putF 21 hF 0 (T := TJ44) (C := RJ44) ([oC a 21 [.ref l_, .null]]) okJ44 rfl rfl 0 (by decide) q2241 rfl rfl rfl rfl rfl (Nat.le_of_ble_eq_true rfl) rfl dJ42_init_18 rfl ?_
  exact FR.v hR dJ42_init_21 (Nat.le_of_ble_eq_true rfl) (Nat.le_of_ble_eq_true rfl) ⟨rfl, rfl, rfl⟩
theorem yk_J42_init : yOk yJ42_init 1 := by decide +kernel
set_option maxHeartbeats 4000000 in
theorem fc_J43_init (D : DD) (l : Launch) {KS : Nat → Prop} {Hb : Heap} (a l_ : Nat) : Fc D l yJ43_init cJ43_init 2 none 2 0 0 41 KS Hb [.ref a, .ref l_] ([oC a 21 [.null, .null]]) ([]) (fun r w i => r = none ∧ w = [oC a 21 [.ref l_, .ref l_]] ∧ i = []) := by
  refine Fc.of (by decide) (Nat.le_of_ble_eq_true rfl) (fun s F hF hR => ?_)
  show F 0 0 ([oC a 21 [.null, .null]]) ([]) 0 [] [(0, .ref a), (1, .ref l_)]
  refine r_aload_n 1 0 (hF.pu _ _ _ _) dJ43_init_0 rfl rfl ?_
  refine r_aload_n 2 1 (hF.pu _ _ _ _) dJ43_init_1 rfl rfl ?_
  refine f_callI 5 hF (fc_J42_init (KS := KS) (Hb := Hb) D l a l_) (wr := ([])) rfl (imk [] rfl) q2235 q156 q2233 q2234 rfl 1 yk_J42_init rfl ⟨by decide, by decide⟩ rfl (Nat.le_of_ble_eq_true rfl) dJ43_init_2 ⟨Nat.le_of_ble_eq_true rfl, Nat.le_of_ble_eq_true rfl⟩ rfl (fun r ws_ im' hp => ?_)
  obtain ⟨rfl, rfl, rfl⟩ := hp
  show F 0 0 ([oC a 21 [.ref l_, .null]]) ([]) 5 [] [(0, .ref a), (1, .ref l_)]
  refine r_aload_n 6 0 (hF.pu _ _ _ _) dJ43_init_5 rfl rfl ?_
  refine r_aload_n 7 1 (hF.pu _ _ _ _) dJ43_init_6 rfl rfl ?_
  refine f_putF 10 hF 0 (T := TJ44) (C := RJ44) ([oC a 21 [.ref l_, .ref l_]]) okJ44 rfl rfl 1 (by decide) q2237 rfl rfl rfl rfl rfl (Nat.le_of_ble_eq_true rfl) rfl dJ43_init_7 rfl ?_
  exact FR.v hR dJ43_init_10 (Nat.le_of_ble_eq_true rfl) (Nat.le_of_ble_eq_true rfl) ⟨rfl, rfl, rfl⟩
theorem yk_J43_init : yOk yJ43_init 1 := by decide +kernel
set_option maxHeartbeats 4000000 in
theorem fc_J44_init (D : DD) (l : Launch) {KS : Nat → Prop} {Hb : Heap} (a l_ : Nat) : Fc D l yJ44_init cJ44_init 2 none 3 0 0 62 KS Hb [.ref a, .ref l_] ([oC a 21 [.null, .null]]) ([]) (fun r w i => r = none ∧ w = [oC a 21 [.ref l_, .ref l_]] ∧ i = []) := by
  refine Fc.of (by decide) (Nat.le_of_ble_eq_true rfl) (fun s F hF hR => ?_)
  show F 0 0 ([oC a 21 [.null, .null]]) ([]) 0 [] [(0, .ref a), (1, .ref l_)]
  refine r_aload_n 1 0 (hF.pu _ _ _ _) dJ44_init_0 rfl rfl ?_
  refine r_aload_n 2 1 (hF.pu _ _ _ _) dJ44_init_1 rfl rfl ?_
  refine f_callI 5 hF (fc_J43_init (KS := KS) (Hb := Hb) D l a l_) (wr := ([])) rfl (imk [] rfl) q2232 q157 q2230 q2231 rfl 1 yk_J43_init rfl ⟨by decide, by decide⟩ rfl (Nat.le_of_ble_eq_true rfl) dJ44_init_2 ⟨Nat.le_of_ble_eq_true rfl, Nat.le_of_ble_eq_true rfl⟩ rfl (fun r ws_ im' hp => ?_)
  obtain ⟨rfl, rfl, rfl⟩ := hp
  show F 0 0 ([oC a 21 [.ref l_, .ref l_]]) ([]) 5 [] [(0, .ref a), (1, .ref l_)]
  exact FR.v hR dJ44_init_5 (Nat.le_of_ble_eq_true rfl) (Nat.le_of_ble_eq_true rfl) ⟨rfl, rfl, rfl⟩
theorem dvJ44 : ∀ j, j < 2 → defaultValue (tyJ44 j) = vp_V [.null, .null] j := by
  intro j hj
  rcases (show j = 0 ∨ j = 1 by omega) with rfl | rfl <;> rfl
theorem yk_J44_init : yOk yJ44_init 1 := by decide +kernel
set_option maxHeartbeats 4000000 in
theorem fc_J41_unmodifiableList (D : DD) (l : Launch) {KS : Nat → Prop} {Hb : Heap} (l_ e n : Nat) (mc : Int32) : Fc D l yJ41_unmodifiableList cJ41_unmodifiableList 1 (Option.some (ClassFile.FieldType.object "java/util/List")) 4 1 2 83 KS Hb [.ref l_] ([oC l_ 12 [.int mc, .ref e, .int (nI n)]]) ([]) (fun r w i => ∃ u, r = some (.ref u) ∧ w = [oC u 21 [.ref l_, .ref l_], oC l_ 12 [.int mc, .ref e, .int (nI n)]] ∧ i = []) := by
  refine Fc.of (by decide) (Nat.le_of_ble_eq_true rfl) (fun s F hF hR => ?_)
  show F 0 0 ([oC l_ 12 [.int mc, .ref e, .int (nI n)]]) ([]) 0 [] [(0, .ref l_)]
  refine f_EX hF (fun hne => ?_)
  refine r_aload_n 1 0 (hF.pu _ _ _ _) dJ41_unmodifiableList_0 rfl rfl ?_
  refine f_getCI 6 hF (fun _ z => (z.o 0 rfl)) q2208 q414 q385 q384 q431 nw_q1553 ⟨by decide, by decide⟩ (Nat.le_of_ble_eq_true rfl) dJ41_unmodifiableList_1 rfl ?_
  refine f_ldcM 8 hF (i := 102) (List.mem_of_getElem? (i := 2) rfl) q2221 dJ41_unmodifiableList_6 rfl ?_
  refine r_acmp_eq 11 22 (rx := (some (D.2.2.1 101))) (ry := (some (D.2.2.1 102))) (hF.pu _ _ _ _) dJ41_unmodifiableList_8 (by decide) (fun c8 => absurd c8 (fun z => hne.1 (Option.some.inj z))) rfl (fun c8 => ?_)
  refine r_aload_n 12 0 (hF.pu _ _ _ _) dJ41_unmodifiableList_11 rfl rfl ?_
  refine f_getCI 17 hF (fun _ z => (z.o 0 rfl)) q2223 q414 q385 q384 q431 nw_q1553 ⟨by decide, by decide⟩ (Nat.le_of_ble_eq_true rfl) dJ41_unmodifiableList_12 rfl ?_
  refine f_ldcM 19 hF (i := 103) (List.mem_of_getElem? (i := 3) rfl) q2224 dJ41_unmodifiableList_17 rfl ?_
  refine r_acmp_ne 22 24 (rx := (some (D.2.2.1 101))) (ry := (some (D.2.2.1 103))) (hF.pu _ _ _ _) dJ41_unmodifiableList_19 (by decide) (fun c19 => ?_) rfl (fun c19 => absurd c19 (fun z => hne.2 (Option.some.inj z)))
  refine r_aload_n 25 0 (hF.pu _ _ _ _) dJ41_unmodifiableList_24 rfl rfl ?_
  refine f_instY 28 hF (fun _ z => ((z.o 0 rfl).fld 0 rfl)) rfl q2225 nw_q3943 dJ41_unmodifiableList_25 rfl ?_
  refine r_if_eq 31 42 (hF.pu _ _ _ _) dJ41_unmodifiableList_28 (by decide) (fun c => absurd c (by decide)) rfl (fun _ => ?_)
  refine f_new 34 hF (ci := 21) [.null, .null] okJ44 rfl q2224 q2226 q158 dvJ44 ⟨Nat.le_of_ble_eq_true rfl, Nat.le_of_ble_eq_true rfl⟩ dJ41_unmodifiableList_31 rfl (fun a1_ => ?_)
  refine r_dup 35 (hF.pu _ _ _ _) dJ41_unmodifiableList_34 rfl rfl ?_
  refine r_aload_n 36 0 (hF.pu _ _ _ _) dJ41_unmodifiableList_35 rfl rfl ?_
  refine f_callI 39 hF (fc_J44_init (KS := KS) (Hb := Hb) D l a1_ l_) (wr := ([oC l_ 12 [.int mc, .ref e, .int (nI n)]])) rfl (imk [] rfl) q2229 q158 q2227 q2228 rfl 1 yk_J44_init rfl ⟨by decide, by decide⟩ rfl (Nat.le_of_ble_eq_true rfl) dJ41_unmodifiableList_36 ⟨Nat.le_of_ble_eq_true rfl, Nat.le_of_ble_eq_true rfl⟩ rfl (fun r ws_ im' hp => ?_)
  obtain ⟨rfl, rfl, rfl⟩ := hp
  show F 1 2 ([oC a1_ 21 [.ref l_, .ref l_], oC l_ 12 [.int mc, .ref e, .int (nI n)]]) ([]) 39 [.ref a1_] [(0, .ref l_)]
  refine r_goto 50 (hF.pu _ _ _ _) dJ41_unmodifiableList_39 (by decide) ?_
  exact FR.a hR (Or.inl ⟨_, rfl⟩) dJ41_unmodifiableList_50 (Nat.le_of_ble_eq_true rfl) (Nat.le_of_ble_eq_true rfl) ⟨_, rfl, rfl, rfl⟩
def nuN (t : Nat → Int32) (ln sp : Nat) : Nat := (nuA t sp (nuD t ln sp)).toNatClampNeg
theorem dg_j {c : Int32} (h : inB c 48 57 = true) : ∃ j, j ≤ 9 ∧ c = nI (48 + j) := by
  simp only [inB, Bool.and_eq_true, decide_eq_true_eq] at h
  obtain ⟨j, hj, rfl⟩ := nI_of2 (x := c) (M := 57) (n := 57) (by decide) (fun q => h.1 (Int32.lt_trans q (by decide))) (Int32.not_lt.mp h.2)
  have h1 : ∀ j, j < 58 → (¬ nI j < 48) → 48 ≤ j := by decide +kernel
  exact ⟨j - 48, by omega, by rw [show 48 + (j - 48) = j by have := h1 j (by omega) h.1; omega]⟩
theorem nuA_nI {t : Nat → Int32} {sp : Nat} : ∀ k, (∀ i, i < k → inB (t (sp + i)) 48 57 = true) → ∃ m, m < 10 ^ k ∧ nuA t sp k = nI m := by
  intro k
  induction k with
  | zero => intro _; exact ⟨0, by decide, rfl⟩
  | succ k ih =>
    intro h
    obtain ⟨m, hm, e⟩ := ih (fun i hi => h i (by omega))
    obtain ⟨j, hj, e2⟩ := dg_j (h k (by omega))
    refine ⟨10 * m + j, by rw [Nat.pow_succ]; omega, ?_⟩
    show 10 * nuA t sp k + t (sp + k) - 48 = _
    rw [e, e2, show (10 : Int32) = nI 10 from rfl, show (48 : Int32) = nI 48 from rfl, pk_mul, show nI (10 * m) + nI (48 + j) = nI (10 * m + (48 + j)) from (Int32.ofNat_add _ _).symm, pk_sub (by omega)]
    congr 1; omega
theorem nuC_dg {t : Nat → Int32} {ln : Nat} : ∀ f sp i, i < nuC t ln f sp → dgB t ln (sp + i) = true := by
  intro f
  induction f with
  | zero => intro sp i h; exact absurd h (Nat.not_lt_zero _)
  | succ f ih =>
    intro sp i h
    unfold nuC at h
    by_cases hd : dgB t ln sp = true
    · rw [if_pos hd] at h
      cases i with
      | zero => exact hd
      | succ i => rw [show sp + (i + 1) = sp + 1 + i by omega]; exact ih _ _ (by omega)
    · rw [if_neg hd] at h; exact absurd h (Nat.not_lt_zero _)
theorem nuN_of {t : Nat → Int32} {ln sp : Nat} (hs : sp ≤ ln) : nuA t sp (nuD t ln sp) = nI (nuN t ln sp) ∧ nuN t ln sp ≤ 9999 := by
  obtain ⟨m, hm, e⟩ := nuA_nI (t := t) (sp := sp) (nuD t ln sp) (fun i hi => by
    have h1 := nuC_dg 4 sp i hi
    have h2 := dgB_lt h1
    unfold dgB at h1; rw [h2.2] at h1; exact h1)
  have h4 := (nuC_le (t := t) (ln := ln) 4 sp hs).2
  have h5 : (10 : Nat) ^ nuD t ln sp ≤ 10 ^ 4 := Nat.pow_le_pow_right (by decide) h4
  have h6 : (10 : Nat) ^ 4 = 10000 := by decide
  have e2 : nuN t ln sp = m := by unfold nuN; rw [e]; exact nI_clamp (by omega)
  rw [e2]; exact ⟨e, by omega⟩
/-- the numbers that follow: how it ends and where -/
def cmR (t : Nat → Int32) (ln : Nat) : Nat → Nat → Bool × Nat
  | 0, p => (true, p)
  | m + 1, p => if heC t ln p = 44 then (if nuD t ln (p + 1) = 0 then (false, p + 1) else cmR t ln m (p + 1 + nuD t ln (p + 1))) else (false, p)
def nbR (t : Nat → Int32) (ln m sp : Nat) : Bool × Nat := if nuD t ln sp = 0 then (false, sp) else cmR t ln (m - 1) (sp + nuD t ln sp)
/-- the places where they begin -/
def sK (t : Nat → Int32) (ln sp : Nat) : Nat → Nat
  | 0 => sp
  | k + 1 => sK t ln sp k + nuD t ln (sK t ln sp k) + 1
section NBR
variable {t : Nat → Int32} {ln m sp p : Nat}
theorem nb_f (h : nuD t ln sp = 0) : nbR t ln m sp = (false, sp) := by unfold nbR; rw [if_pos h]
theorem nb_0 (h : 0 < nuD t ln sp) : nbR t ln m sp = cmR t ln (m - 1) (sp + nuD t ln sp) := by unfold nbR; rw [if_neg (by omega)]
theorem cm_c (h : ¬ heC t ln p = 44) : cmR t ln (m + 1) p = (false, p) := by rw [cmR, if_neg h]
theorem cm_f (h : heC t ln p = 44) (h2 : nuD t ln (p + 1) = 0) : cmR t ln (m + 1) p = (false, p + 1) := by rw [cmR, if_pos h, if_pos h2]
theorem cm_s (h : heC t ln p = 44) (h2 : 0 < nuD t ln (p + 1)) : cmR t ln (m + 1) p = cmR t ln m (p + 1 + nuD t ln (p + 1)) := by rw [cmR, if_pos h, if_neg (by omega)]
theorem pr_f {R : Bool × Nat} {p q : Nat} (h : R = (false, p)) (e : q = p) : R.1 = false ∧ q = R.2 := by subst e; rw [h]; exact ⟨rfl, rfl⟩
theorem heC_p {c : Int32} (hc : ¬ c = 32) (h : heC t ln p = c) : p < ln := by
  unfold heC at h; split at h
  · assumption
  · exact absurd h.symm hc
end NBR
theorem lk_X9_71 : GoodIn lw_all (wsV RX9 71 yX9_number.cls yX9_number (ws_ yX9_number cX9_number 3 (some .int))) := lw_V q2164 q2166 qs38 q131 q2167
theorem yk_X9_number : yOk yX9_number 0 := by decide +kernel
theorem lk_X9_75 : GoodIn lw_all (va_wsS RX9 75 yJ28_valueOf (ws_ yJ28_valueOf cJ28_valueOf 1 (Option.some (ClassFile.FieldType.object "java/lang/Integer")))) := lw_S q2184 q2185 q140 q2186
theorem yk_J28_valueOf : yOk yJ28_valueOf 1 := by decide +kernel
theorem lk_X9_81 : GoodIn lw_all (wsV RX9 81 yJ8_add.cls yJ8_add (ws_ yJ8_add cJ8_add 2 (some .boolean))) := lw_V q2175 q355 q356 q114 q357
theorem lk_X9_85 : GoodIn lw_all (va_wsS RX9 85 yJ41_unmodifiableList (ws_ yJ41_unmodifiableList cJ41_unmodifiableList 1 (Option.some (ClassFile.FieldType.object "java/util/List")))) := lw_S q2204 q2205 q155 q2206
theorem yk_J41_unmodifiableList : yOk yJ41_unmodifiableList 1 := by decide +kernel
set_option maxHeartbeats 4000000 in
theorem fc_X9_numbers_2 (D : DD) (l : Launch) (hl : l.stackTraces = false) {KS : Nat → Prop} {Hb : Heap} (r x R tx sp : Nat) (it : Int32) (ab : Bool) (x0 x1 x2 x3 x6 : Value) (t : Nat → Int32) (ln : Nat) (hln : ln ≤ 80) (hch : ∀ i, i < ln → inB (t i) 33 126 = true) (hsp : sp ≤ ln) : Gc D l yX9_numbers cX9_numbers 4 (Option.some (ClassFile.FieldType.object "java/util/List")) 6 8 38 132 KS Hb [.ref r, .int (nI 2)] ([oC r 8 [.ref R, .int (nI sp), .int it, .int (zB ab), .ref x]]) ([oC x 1 [x0, x1, x2, x3, .ref tx, .int (nI ln), x6], aC D 2 tx (iA 80 t)]) (fun r_ w i => ∃ u l_ e_ i0 i1, r_ = some (.ref u) ∧ w = [oC r 8 [.ref R, .int (nI (sK t ln sp 1 + nuD t ln (sK t ln sp 1))), .int it, .int (zB ab), .ref x]] ∧ i = [oC u 21 [.ref l_, .ref l_], oC l_ 12 [.int ((0 + 1) + 1), .ref e_, .int (nI 2)], aC D 3 e_ (qA 10 (va_up (va_up (fun _ => none) 0 (some i0)) 1 (some i1))), oC i0 19 [.int (nI (nuN t ln sp))], oC i1 19 [.int (nI (nuN t ln (sK t ln sp 1)))]] ∧ nbR t ln 2 sp = (true, sK t ln sp 1 + nuD t ln (sK t ln sp 1))) (pxF ((nbR t ln 2 sp).1 = false) (nbR t ln 2 sp).2) := by
  refine Gc.of hl (by decide) (Nat.le_of_ble_eq_true rfl) (fun s F X hG hR hO => ?_)
  have hF := hG.f
  show F 0 0 ([oC r 8 [.ref R, .int (nI sp), .int it, .int (zB ab), .ref x]]) ([oC x 1 [x0, x1, x2, x3, .ref tx, .int (nI ln), x6], aC D 2 tx (iA 80 t)]) 0 [] [(0, .ref r), (1, .int (nI 2))]
  refine f_new 3 hF (ci := 12) [.int 0, .null, .int 0] okJ8 rfl q2162 q241 q114 dvJ8 ⟨Nat.le_of_ble_eq_true rfl, Nat.le_of_ble_eq_true rfl⟩ dX9_numbers_0 rfl (fun a1_ => ?_)
  refine r_dup 4 (hF.pu _ _ _ _) dX9_numbers_3 rfl rfl ?_
  refine f_callI 7 hF (fc_J8_init_J8 (KS := KS) (Hb := Hb) D l a1_) (wr := ([oC r 8 [.ref R, .int (nI sp), .int it, .int (zB ab), .ref x]])) rfl (imk [] rfl) q244 q114 q2163 q243 rfl 0 yk_J8_init rfl ⟨by decide, by decide⟩ rfl (Nat.le_of_ble_eq_true rfl) dX9_numbers_4 ⟨Nat.le_of_ble_eq_true rfl, Nat.le_of_ble_eq_true rfl⟩ rfl (fun r ws_ im' hp => ?_)
  obtain ⟨rfl, rfl, rfl⟩ := hp
  show F 1 3 ([oC a1_ 12 [.int 0, .ref (D.2.2.1 1), .int 0], oC r 8 [.ref R, .int (nI sp), .int it, .int (zB ab), .ref x]]) ([oC x 1 [x0, x1, x2, x3, .ref tx, .int (nI ln), x6], aC D 2 tx (iA 80 t)]) 7 [.ref a1_] [(0, .ref r), (1, .int (nI 2))]
  refine r_astore_n 8 [(2, .ref a1_), (0, .ref r), (1, .int (nI 2))] (hF.pu _ _ _ _) dX9_numbers_7 rfl (by decide) rfl rfl ?_
  refine r_iconst 9 0 (hF.pu _ _ _ _) dX9_numbers_8 (by decide) rfl ?_
  refine r_istore_n 10 [(3, .int 0), (2, .ref a1_), (0, .ref r), (1, .int (nI 2))] (hF.pu _ _ _ _) dX9_numbers_9 rfl (by decide) rfl rfl ?_
  refine r_iload_n 11 0 (hF.pu _ _ _ _) dX9_numbers_10 rfl rfl ?_
  refine r_iload_n 12 3 (hF.pu _ _ _ _) dX9_numbers_11 rfl rfl ?_
  refine r_icmp_geN 0 2 15 55 (hF.pu _ _ _ _) dX9_numbers_12 (by omega) (by omega) (by decide) (fun c12 => absurd c12 (by decide)) rfl (fun c12 => ?_)
  refine r_iload_n 16 0 (hF.pu _ _ _ _) dX9_numbers_15 rfl rfl ?_
  refine r_if_le 19 37 (hF.pu _ _ _ _) dX9_numbers_16 (by decide) (fun _ => ?_) rfl (fun c => absurd (by decide) c)
  refine r_aload_n 38 1 (hF.pu _ _ _ _) dX9_numbers_37 rfl rfl ?_
  refine r_aload_n 39 2 (hF.pu _ _ _ _) dX9_numbers_38 rfl rfl ?_
  refine f_ups hF [1] ([oC r 8 [.ref R, .int (nI sp), .int it, .int (zB ab), .ref x], oC a1_ 12 [.int 0, .ref (D.2.2.1 1), .int 0]]) rfl ?_
  refine g_callV 42 hG (fc_X9_number (KS := KS) (Hb := Hb) D l hl r x R tx sp it ab x0 x1 x2 x3 x6 t ln hln hch (by omega)) (wr := ([oC a1_ 12 [.int 0, .ref (D.2.2.1 1), .int 0]])) rfl (imk [0, 1] rfl) lk_X9_71 0 yk_X9_number rfl ⟨by decide, by decide⟩ (fun _ z => ((z.o 0 rfl).fld 0 rfl)) rfl rfl (Nat.le_of_ble_eq_true rfl) dX9_numbers_39 ⟨Nat.le_of_ble_eq_true rfl, Nat.le_of_ble_eq_true rfl⟩ rfl (fun E a ws' im' hp hx => by obtain ⟨hb, rfl, rfl, rfl⟩ := hp; exact g_out hO 0 rfl (Nat.le_of_ble_eq_true rfl) (Nat.le_of_ble_eq_true rfl) (pr_f (nb_f hb) rfl)) (fun r ws_ im' hp => ?_)
  obtain ⟨rfl, rfl, rfl, hp39⟩ := hp
  show F 2 10 ([oC r 8 [.ref R, .int (nI (sp + nuD t ln sp)), .int it, .int (zB ab), .ref x], oC a1_ 12 [.int 0, .ref (D.2.2.1 1), .int 0]]) ([oC x 1 [x0, x1, x2, x3, .ref tx, .int (nI ln), x6], aC D 2 tx (iA 80 t)]) 42 [.int (nuA t sp (nuD t ln sp)), .ref a1_] [(3, .int 0), (2, .ref a1_), (0, .ref r), (1, .int (nI 2))]
  have hNR := nb_0 (m := 2) hp39
  have hle0 := (nuC_le (t := t) (ln := ln) 4 sp (by omega)).1
  have hn0 : nuN t ln sp ≤ 9999 := (nuN_of (by omega)).2
  refine r_eqi (nI (nuN t ln sp)) (nuN_of (by omega)).1 ?_
  refine f_callS 45 hF (fc_J28_valueOf (KS := KS) (Hb := Hb) D l (nuN t ln sp) (by assumption)) (wr := ([oC r 8 [.ref R, .int (nI (sp + nuD t ln sp)), .int it, .int (zB ab), .ref x], oC a1_ 12 [.int 0, .ref (D.2.2.1 1), .int 0]])) rfl (imk [] rfl) lk_X9_75 1 yk_J28_valueOf rfl ⟨by decide, by decide⟩ rfl (Nat.le_of_ble_eq_true rfl) dX9_numbers_42 ⟨Nat.le_of_ble_eq_true rfl, Nat.le_of_ble_eq_true rfl⟩ rfl (fun r ws_ im' hp => ?_)
  obtain ⟨a2_, rfl, rfl, rfl⟩ := hp
  show F 3 11 ([oC r 8 [.ref R, .int (nI (sp + nuD t ln sp)), .int it, .int (zB ab), .ref x], oC a1_ 12 [.int 0, .ref (D.2.2.1 1), .int 0]]) ([oC a2_ 19 [.int (nI (nuN t ln sp))], oC x 1 [x0, x1, x2, x3, .ref tx, .int (nI ln), x6], aC D 2 tx (iA 80 t)]) 45 [.ref a2_, .ref a1_] [(3, .int 0), (2, .ref a1_), (0, .ref r), (1, .int (nI 2))]
  refine f_ups hF [1] ([oC a1_ 12 [.int 0, .ref (D.2.2.1 1), .int 0], oC r 8 [.ref R, .int (nI (sp + nuD t ln sp)), .int it, .int (zB ab), .ref x]]) rfl ?_
  refine f_callV 48 hF (fc_J8_add_e (KS := KS) (Hb := Hb) D l a1_ a2_ 0 [] [oC a2_ 19 [.int (nI (nuN t ln sp))]] (fun H h => anyK.ofob (h _ List.mem_cons_self) rfl nw_q3968)) (wr := ([oC r 8 [.ref R, .int (nI (sp + nuD t ln sp)), .int it, .int (zB ab), .ref x]])) rfl (imk [0] rfl) lk_X9_81 1 yk_J8_add rfl ⟨by decide, by decide⟩ (fun _ z => ((z.o 0 rfl).fld 0 rfl)) rfl rfl (Nat.le_of_ble_eq_true rfl) dX9_numbers_45 ⟨Nat.le_of_ble_eq_true rfl, Nat.le_of_ble_eq_true rfl⟩ rfl (fun r ws_ im' hp => ?_)
  obtain ⟨a3_, rfl, rfl, rfl⟩ := hp
  show F 4 21 ([oC a1_ 12 [.int (0 + 1), .ref a3_, .int (nI 1)], aC D 3 a3_ (qA 10 (va_up (fun _ => none) 0 (some a2_))), oC r 8 [.ref R, .int (nI (sp + nuD t ln sp)), .int it, .int (zB ab), .ref x]]) ([oC a2_ 19 [.int (nI (nuN t ln sp))], oC x 1 [x0, x1, x2, x3, .ref tx, .int (nI ln), x6], aC D 2 tx (iA 80 t)]) 48 [.int 1] [(3, .int 0), (2, .ref a1_), (0, .ref r), (1, .int (nI 2))]
  refine r_pop 49 (hF.pu _ _ _ _) dX9_numbers_48 rfl rfl ?_
  refine r_iinc 52 (nI (0 + 1)) 0 [(3, .int (nI (0 + 1))), (2, .ref a1_), (0, .ref r), (1, .int (nI 2))] (hF.pu _ _ _ _) dX9_numbers_49 rfl (nI_1 0) (by decide) rfl rfl ?_
  refine r_goto 10 (hF.pu _ _ _ _) dX9_numbers_52 (by decide) ?_
  refine r_iload_n 11 0 (hF.pu _ _ _ _) dX9_numbers_10 rfl rfl ?_
  refine r_iload_n 12 3 (hF.pu _ _ _ _) dX9_numbers_11 rfl rfl ?_
  refine r_icmp_geN 1 2 15 55 (hF.pu _ _ _ _) dX9_numbers_12 (by omega) (by omega) (by decide) (fun c12 => absurd c12 (by decide)) rfl (fun c12 => ?_)
  refine r_iload_n 16 0 (hF.pu _ _ _ _) dX9_numbers_15 rfl rfl ?_
  refine r_if_le 19 37 (hF.pu _ _ _ _) dX9_numbers_16 (by decide) (fun c => absurd c (by decide)) rfl (fun _ => ?_)
  refine r_aload_n 20 2 (hF.pu _ _ _ _) dX9_numbers_19 rfl rfl ?_
  refine r_aload_n 21 2 (hF.pu _ _ _ _) dX9_numbers_20 rfl rfl ?_
  refine f_callp 24 hF (fun _ z => cp_X9_here D l r x tx (sp + nuD t ln sp) t ln hln hch (by omega) ((z.o 2 rfl).fld 1 rfl) ((z.o 2 rfl).fld 4 rfl) ((z.mo 1 rfl).fld 4 rfl) ((z.mo 1 rfl).fld 5 rfl) (z.ma 2 rfl)) lk_X9_52 0 yk_X9_here rfl ⟨by decide, by decide⟩ (fun _ z => ((z.o 2 rfl).fld 0 rfl)) rfl rfl (Nat.le_of_ble_eq_true rfl) dX9_numbers_21 ⟨Nat.le_of_ble_eq_true rfl, Nat.le_of_ble_eq_true rfl⟩ rfl ?_
  refine r_bipush 26 44 (hF.pu _ _ _ _) dX9_numbers_24 (by decide) rfl ?_
  have hj_26 : F 4 21 ([oC a1_ 12 [.int (0 + 1), .ref a3_, .int (nI 1)], aC D 3 a3_ (qA 10 (va_up (fun _ => none) 0 (some a2_))), oC r 8 [.ref R, .int (nI (sp + nuD t ln sp)), .int it, .int (zB ab), .ref x]]) ([oC a2_ 19 [.int (nI (nuN t ln sp))], oC x 1 [x0, x1, x2, x3, .ref tx, .int (nI ln), x6], aC D 2 tx (iA 80 t)]) 34 [.int (zB (decide (heC t ln (sp + nuD t ln sp) = 44))), .ref r] [(3, .int (nI (0 + 1))), (2, .ref a1_), (0, .ref r), (1, .int (nI 2))] := by
    refine f_ups hF [2] ([oC r 8 [.ref R, .int (nI (sp + nuD t ln sp)), .int it, .int (zB ab), .ref x], oC a1_ 12 [.int (0 + 1), .ref a3_, .int (nI 1)], aC D 3 a3_ (qA 10 (va_up (fun _ => none) 0 (some a2_)))]) rfl ?_
    refine g_callV 37 hG (fc_X9_pass (KS := KS) (Hb := Hb) D l hl r x R (sp + nuD t ln sp) it ab (decide (heC t ln (sp + nuD t ln sp) = 44))) (wr := ([oC a1_ 12 [.int (0 + 1), .ref a3_, .int (nI 1)], aC D 3 a3_ (qA 10 (va_up (fun _ => none) 0 (some a2_)))])) rfl (imk [] rfl) lk_X9_64 1 yk_X9_pass rfl ⟨by decide, by decide⟩ (fun _ z => ((z.o 0 rfl).fld 0 rfl)) rfl rfl (Nat.le_of_ble_eq_true rfl) dX9_numbers_34 ⟨Nat.le_of_ble_eq_true rfl, Nat.le_of_ble_eq_true rfl⟩ rfl (fun E a ws' im' hp hx => by obtain ⟨hb, rfl, rfl, rfl⟩ := hp; exact g_out hO 0 rfl (Nat.le_of_ble_eq_true rfl) (Nat.le_of_ble_eq_true rfl) (pr_f (hNR.trans (cm_c (of_decide_eq_false hb))) rfl)) (fun r ws_ im' hp => ?_)
    obtain ⟨rfl, rfl, rfl, hp34⟩ := hp
    show F 5 28 ([oC r 8 [.ref R, .int (nI (sp + nuD t ln sp + 1)), .int it, .int (zB ab), .ref x], oC a1_ 12 [.int (0 + 1), .ref a3_, .int (nI 1)], aC D 3 a3_ (qA 10 (va_up (fun _ => none) 0 (some a2_)))]) ([oC a2_ 19 [.int (nI (nuN t ln sp))], oC x 1 [x0, x1, x2, x3, .ref tx, .int (nI ln), x6], aC D 2 tx (iA 80 t)]) 37 [] [(3, .int (nI (0 + 1))), (2, .ref a1_), (0, .ref r), (1, .int (nI 2))]
    have hsl1 : sK t ln sp 1 ≤ ln := heC_p (by decide) (of_decide_eq_true hp34)
    show F 5 28 ([oC r 8 [.ref R, .int (nI (sK t ln sp 1)), .int it, .int (zB ab), .ref x], oC a1_ 12 [.int (0 + 1), .ref a3_, .int (nI 1)], aC D 3 a3_ (qA 10 (va_up (fun _ => none) 0 (some a2_)))]) ([oC a2_ 19 [.int (nI (nuN t ln sp))], oC x 1 [x0, x1, x2, x3, .ref tx, .int (nI ln), x6], aC D 2 tx (iA 80 t)]) 37 [] [(3, .int (nI (0 + 1))), (2, .ref a1_), (0, .ref r), (1, .int (nI 2))]
    refine r_aload_n 38 1 (hF.pu _ _ _ _) dX9_numbers_37 rfl rfl ?_
    refine r_aload_n 39 2 (hF.pu _ _ _ _) dX9_numbers_38 rfl rfl ?_
    refine g_callV 42 hG (fc_X9_number (KS := KS) (Hb := Hb) D l hl r x R tx (sK t ln sp 1) it ab x0 x1 x2 x3 x6 t ln hln hch (by omega)) (wr := ([oC a1_ 12 [.int (0 + 1), .ref a3_, .int (nI 1)], aC D 3 a3_ (qA 10 (va_up (fun _ => none) 0 (some a2_)))])) rfl (imk [1, 2] rfl) lk_X9_71 0 yk_X9_number rfl ⟨by decide, by decide⟩ (fun _ z => ((z.o 0 rfl).fld 0 rfl)) rfl rfl (Nat.le_of_ble_eq_true rfl) dX9_numbers_39 ⟨Nat.le_of_ble_eq_true rfl, Nat.le_of_ble_eq_true rfl⟩ rfl (fun E a ws' im' hp hx => by obtain ⟨hb, rfl, rfl, rfl⟩ := hp; exact g_out hO 0 rfl (Nat.le_of_ble_eq_true rfl) (Nat.le_of_ble_eq_true rfl) (pr_f (hNR.trans (cm_f (of_decide_eq_true hp34) hb)) rfl)) (fun r ws_ im' hp => ?_)
    obtain ⟨rfl, rfl, rfl, hp39⟩ := hp
    show F 6 35 ([oC r 8 [.ref R, .int (nI (sK t ln sp 1 + nuD t ln (sK t ln sp 1))), .int it, .int (zB ab), .ref x], oC a1_ 12 [.int (0 + 1), .ref a3_, .int (nI 1)], aC D 3 a3_ (qA 10 (va_up (fun _ => none) 0 (some a2_)))]) ([oC a2_ 19 [.int (nI (nuN t ln sp))], oC x 1 [x0, x1, x2, x3, .ref tx, .int (nI ln), x6], aC D 2 tx (iA 80 t)]) 42 [.int (nuA t (sK t ln sp 1) (nuD t ln (sK t ln sp 1))), .ref a1_] [(3, .int (nI (0 + 1))), (2, .ref a1_), (0, .ref r), (1, .int (nI 2))]
    have hNR := hNR.trans (cm_s (of_decide_eq_true hp34) hp39)
    have hle1 := (nuC_le (t := t) (ln := ln) 4 (sK t ln sp 1) (by omega)).1
    have hn1 : nuN t ln (sK t ln sp 1) ≤ 9999 := (nuN_of (by omega)).2
    refine r_eqi (nI (nuN t ln (sK t ln sp 1))) (nuN_of (by omega)).1 ?_
    refine f_callS 45 hF (fc_J28_valueOf (KS := KS) (Hb := Hb) D l (nuN t ln (sK t ln sp 1)) (by assumption)) (wr := ([oC r 8 [.ref R, .int (nI (sK t ln sp 1 + nuD t ln (sK t ln sp 1))), .int it, .int (zB ab), .ref x], oC a1_ 12 [.int (0 + 1), .ref a3_, .int (nI 1)], aC D 3 a3_ (qA 10 (va_up (fun _ => none) 0 (some a2_)))])) rfl (imk [] rfl) lk_X9_75 1 yk_J28_valueOf rfl ⟨by decide, by decide⟩ rfl (Nat.le_of_ble_eq_true rfl) dX9_numbers_42 ⟨Nat.le_of_ble_eq_true rfl, Nat.le_of_ble_eq_true rfl⟩ rfl (fun r ws_ im' hp => ?_)
    obtain ⟨a4_, rfl, rfl, rfl⟩ := hp
    show F 7 36 ([oC r 8 [.ref R, .int (nI (sK t ln sp 1 + nuD t ln (sK t ln sp 1))), .int it, .int (zB ab), .ref x], oC a1_ 12 [.int (0 + 1), .ref a3_, .int (nI 1)], aC D 3 a3_ (qA 10 (va_up (fun _ => none) 0 (some a2_)))]) ([oC a4_ 19 [.int (nI (nuN t ln (sK t ln sp 1)))], oC a2_ 19 [.int (nI (nuN t ln sp))], oC x 1 [x0, x1, x2, x3, .ref tx, .int (nI ln), x6], aC D 2 tx (iA 80 t)]) 45 [.ref a4_, .ref a1_] [(3, .int (nI (0 + 1))), (2, .ref a1_), (0, .ref r), (1, .int (nI 2))]
    refine f_ups hF [2] ([aC D 3 a3_ (qA 10 (va_up (fun _ => none) 0 (some a2_))), oC r 8 [.ref R, .int (nI (sK t ln sp 1 + nuD t ln (sK t ln sp 1))), .int it, .int (zB ab), .ref x], oC a1_ 12 [.int (0 + 1), .ref a3_, .int (nI 1)]]) rfl ?_
    refine f_ups hF [2] ([oC a1_ 12 [.int (0 + 1), .ref a3_, .int (nI 1)], aC D 3 a3_ (qA 10 (va_up (fun _ => none) 0 (some a2_))), oC r 8 [.ref R, .int (nI (sK t ln sp 1 + nuD t ln (sK t ln sp 1))), .int it, .int (zB ab), .ref x]]) rfl ?_
    refine f_callV 48 hF (fc_J8_add_n (KS := KS) (Hb := Hb) D l a1_ a3_ 1 a4_ (0 + 1) (va_up (fun _ => none) 0 (some a2_)) (by omega) [] [oC a4_ 19 [.int (nI (nuN t ln (sK t ln sp 1)))]] (fun H h => anyK.ofob (h _ List.mem_cons_self) rfl nw_q3968)) (wr := ([oC r 8 [.ref R, .int (nI (sK t ln sp 1 + nuD t ln (sK t ln sp 1))), .int it, .int (zB ab), .ref x]])) rfl (imk [0] rfl) lk_X9_81 1 yk_J8_add rfl ⟨by decide, by decide⟩ (fun _ z => ((z.o 0 rfl).fld 0 rfl)) rfl rfl (Nat.le_of_ble_eq_true rfl) dX9_numbers_45 ⟨Nat.le_of_ble_eq_true rfl, Nat.le_of_ble_eq_true rfl⟩ rfl (fun r ws_ im' hp => ?_)
    obtain ⟨rfl, rfl, rfl⟩ := hp
    show F 7 36 ([oC a1_ 12 [.int ((0 + 1) + 1), .ref a3_, .int (nI 2)], aC D 3 a3_ (qA 10 (va_up (va_up (fun _ => none) 0 (some a2_)) 1 (some a4_))), oC r 8 [.ref R, .int (nI (sK t ln sp 1 + nuD t ln (sK t ln sp 1))), .int it, .int (zB ab), .ref x]]) ([oC a4_ 19 [.int (nI (nuN t ln (sK t ln sp 1)))], oC a2_ 19 [.int (nI (nuN t ln sp))], oC x 1 [x0, x1, x2, x3, .ref tx, .int (nI ln), x6], aC D 2 tx (iA 80 t)]) 48 [.int 1] [(3, .int (nI (0 + 1))), (2, .ref a1_), (0, .ref r), (1, .int (nI 2))]
    refine r_pop 49 (hF.pu _ _ _ _) dX9_numbers_48 rfl rfl ?_
    refine r_iinc 52 (nI (1 + 1)) 0 [(3, .int (nI (1 + 1))), (2, .ref a1_), (0, .ref r), (1, .int (nI 2))] (hF.pu _ _ _ _) dX9_numbers_49 rfl (nI_1 1) (by decide) rfl rfl ?_
    refine r_goto 10 (hF.pu _ _ _ _) dX9_numbers_52 (by decide) ?_
    refine r_iload_n 11 0 (hF.pu _ _ _ _) dX9_numbers_10 rfl rfl ?_
    refine r_iload_n 12 3 (hF.pu _ _ _ _) dX9_numbers_11 rfl rfl ?_
    refine r_icmp_geN 2 2 15 55 (hF.pu _ _ _ _) dX9_numbers_12 (by omega) (by omega) (by decide) (fun c12 => ?_) rfl (fun c12 => absurd c12 (by decide))
    refine r_aload_n 56 1 (hF.pu _ _ _ _) dX9_numbers_55 rfl rfl ?_
    refine f_callS 59 hF (fc_J41_unmodifiableList (KS := KS) (Hb := Hb) D l a1_ a3_ 2 ((0 + 1) + 1)) (wr := ([aC D 3 a3_ (qA 10 (va_up (va_up (fun _ => none) 0 (some a2_)) 1 (some a4_))), oC r 8 [.ref R, .int (nI (sK t ln sp 1 + nuD t ln (sK t ln sp 1))), .int it, .int (zB ab), .ref x]])) rfl (imk [] rfl) lk_X9_85 1 yk_J41_unmodifiableList rfl ⟨by decide, by decide⟩ rfl (Nat.le_of_ble_eq_true rfl) dX9_numbers_56 ⟨Nat.le_of_ble_eq_true rfl, Nat.le_of_ble_eq_true rfl⟩ rfl (fun r ws_ im' hp => ?_)
    obtain ⟨a5_, rfl, rfl, rfl⟩ := hp
    show F 8 38 ([oC a5_ 21 [.ref a1_, .ref a1_], oC a1_ 12 [.int ((0 + 1) + 1), .ref a3_, .int (nI 2)], aC D 3 a3_ (qA 10 (va_up (va_up (fun _ => none) 0 (some a2_)) 1 (some a4_))), oC r 8 [.ref R, .int (nI (sK t ln sp 1 + nuD t ln (sK t ln sp 1))), .int it, .int (zB ab), .ref x]]) ([oC a4_ 19 [.int (nI (nuN t ln (sK t ln sp 1)))], oC a2_ 19 [.int (nI (nuN t ln sp))], oC x 1 [x0, x1, x2, x3, .ref tx, .int (nI ln), x6], aC D 2 tx (iA 80 t)]) 59 [.ref a5_] [(3, .int (nI (1 + 1))), (2, .ref a1_), (0, .ref r), (1, .int (nI 2))]
    refine f_ups hF [2] ([aC D 3 a3_ (qA 10 (va_up (va_up (fun _ => none) 0 (some a2_)) 1 (some a4_))), oC a5_ 21 [.ref a1_, .ref a1_], oC a1_ 12 [.int ((0 + 1) + 1), .ref a3_, .int (nI 2)], oC r 8 [.ref R, .int (nI (sK t ln sp 1 + nuD t ln (sK t ln sp 1))), .int it, .int (zB ab), .ref x]]) rfl ?_
    refine f_frz hF ?_
    refine f_ups hF [1] ([oC a1_ 12 [.int ((0 + 1) + 1), .ref a3_, .int (nI 2)], oC a5_ 21 [.ref a1_, .ref a1_], oC r 8 [.ref R, .int (nI (sK t ln sp 1 + nuD t ln (sK t ln sp 1))), .int it, .int (zB ab), .ref x]]) rfl ?_
    refine f_frz hF ?_
    refine f_frz hF ?_
    refine f_imsub hF [oC a5_ 21 [.ref a1_, .ref a1_], oC a1_ 12 [.int ((0 + 1) + 1), .ref a3_, .int (nI 2)], aC D 3 a3_ (qA 10 (va_up (va_up (fun _ => none) 0 (some a2_)) 1 (some a4_))), oC a2_ 19 [.int (nI (nuN t ln sp))], oC a4_ 19 [.int (nI (nuN t ln (sK t ln sp 1)))]] (imk [0, 1, 2, 4, 3] rfl) ?_
    exact FR.a hR (Or.inl ⟨_, rfl⟩) dX9_numbers_59 (Nat.le_of_ble_eq_true rfl) (Nat.le_of_ble_eq_true rfl) ⟨_, _, _, _, _, rfl, rfl, rfl, hNR⟩
  refine r_icmp_ne 29 33 (hF.pu _ _ _ _) dX9_numbers_26 (by decide) (fun c26 => ?_) rfl (fun c26 => ?_)
  · refine r_iconst 34 0 (hF.pu _ _ _ _) dX9_numbers_33 (by decide) rfl ?_
    refine r_eqi (zB (decide (heC t ln (sp + nuD t ln sp) = 44))) (by simp [*, zB]) ?_
    exact hj_26
  · refine r_iconst 30 1 (hF.pu _ _ _ _) dX9_numbers_29 (by decide) rfl ?_
    refine r_goto 34 (hF.pu _ _ _ _) dX9_numbers_30 (by decide) ?_
    refine r_eqi (zB (decide (heC t ln (sp + nuD t ln sp) = 44))) (by simp [*, zB]) ?_
    exact hj_26
set_option maxHeartbeats 4000000 in
theorem fc_X9_numbers_3 (D : DD) (l : Launch) (hl : l.stackTraces = false) {KS : Nat → Prop} {Hb : Heap} (r x R tx sp : Nat) (it : Int32) (ab : Bool) (x0 x1 x2 x3 x6 : Value) (t : Nat → Int32) (ln : Nat) (hln : ln ≤ 80) (hch : ∀ i, i < ln → inB (t i) 33 126 = true) (hsp : sp ≤ ln) : Gc D l yX9_numbers cX9_numbers 4 (Option.some (ClassFile.FieldType.object "java/util/List")) 6 11 53 132 KS Hb [.ref r, .int (nI 3)] ([oC r 8 [.ref R, .int (nI sp), .int it, .int (zB ab), .ref x]]) ([oC x 1 [x0, x1, x2, x3, .ref tx, .int (nI ln), x6], aC D 2 tx (iA 80 t)]) (fun r_ w i => ∃ u l_ e_ i0 i1 i2, r_ = some (.ref u) ∧ w = [oC r 8 [.ref R, .int (nI (sK t ln sp 2 + nuD t ln (sK t ln sp 2))), .int it, .int (zB ab), .ref x]] ∧ i = [oC u 21 [.ref l_, .ref l_], oC l_ 12 [.int (((0 + 1) + 1) + 1), .ref e_, .int (nI 3)], aC D 3 e_ (qA 10 (va_up (va_up (va_up (fun _ => none) 0 (some i0)) 1 (some i1)) 2 (some i2))), oC i0 19 [.int (nI (nuN t ln sp))], oC i1 19 [.int (nI (nuN t ln (sK t ln sp 1)))], oC i2 19 [.int (nI (nuN t ln (sK t ln sp 2)))]] ∧ nbR t ln 3 sp = (true, sK t ln sp 2 + nuD t ln (sK t ln sp 2))) (pxF ((nbR t ln 3 sp).1 = false) (nbR t ln 3 sp).2) := by
  refine Gc.of hl (by decide) (Nat.le_of_ble_eq_true rfl) (fun s F X hG hR hO => ?_)
  have hF := hG.f
  show F 0 0 ([oC r 8 [.ref R, .int (nI sp), .int it, .int (zB ab), .ref x]]) ([oC x 1 [x0, x1, x2, x3, .ref tx, .int (nI ln), x6], aC D 2 tx (iA 80 t)]) 0 [] [(0, .ref r), (1, .int (nI 3))]
  refine f_new 3 hF (ci := 12) [.int 0, .null, .int 0] okJ8 rfl q2162 q241 q114 dvJ8 ⟨Nat.le_of_ble_eq_true rfl, Nat.le_of_ble_eq_true rfl⟩ dX9_numbers_0 rfl (fun a1_ => ?_)
  refine r_dup 4 (hF.pu _ _ _ _) dX9_numbers_3 rfl rfl ?_
  refine f_callI 7 hF (fc_J8_init_J8 (KS := KS) (Hb := Hb) D l a1_) (wr := ([oC r 8 [.ref R, .int (nI sp), .int it, .int (zB ab), .ref x]])) rfl (imk [] rfl) q244 q114 q2163 q243 rfl 0 yk_J8_init rfl ⟨by decide, by decide⟩ rfl (Nat.le_of_ble_eq_true rfl) dX9_numbers_4 ⟨Nat.le_of_ble_eq_true rfl, Nat.le_of_ble_eq_true rfl⟩ rfl (fun r ws_ im' hp => ?_)
  obtain ⟨rfl, rfl, rfl⟩ := hp
  show F 1 3 ([oC a1_ 12 [.int 0, .ref (D.2.2.1 1), .int 0], oC r 8 [.ref R, .int (nI sp), .int it, .int (zB ab), .ref x]]) ([oC x 1 [x0, x1, x2, x3, .ref tx, .int (nI ln), x6], aC D 2 tx (iA 80 t)]) 7 [.ref a1_] [(0, .ref r), (1, .int (nI 3))]
  refine r_astore_n 8 [(2, .ref a1_), (0, .ref r), (1, .int (nI 3))] (hF.pu _ _ _ _) dX9_numbers_7 rfl (by decide) rfl rfl ?_
  refine r_iconst 9 0 (hF.pu _ _ _ _) dX9_numbers_8 (by decide) rfl ?_
  refine r_istore_n 10 [(3, .int 0), (2, .ref a1_), (0, .ref r), (1, .int (nI 3))] (hF.pu _ _ _ _) dX9_numbers_9 rfl (by decide) rfl rfl ?_
  refine r_iload_n 11 0 (hF.pu _ _ _ _) dX9_numbers_10 rfl rfl ?_
  refine r_iload_n 12 3 (hF.pu _ _ _ _) dX9_numbers_11 rfl rfl ?_
  refine r_icmp_geN 0 3 15 55 (hF.pu _ _ _ _) dX9_numbers_12 (by omega) (by omega) (by decide) (fun c12 => absurd c12 (by decide)) rfl (fun c12 => ?_)
  refine r_iload_n 16 0 (hF.pu _ _ _ _) dX9_numbers_15 rfl rfl ?_
  refine r_if_le 19 37 (hF.pu _ _ _ _) dX9_numbers_16 (by decide) (fun _ => ?_) rfl (fun c => absurd (by decide) c)
  refine r_aload_n 38 1 (hF.pu _ _ _ _) dX9_numbers_37 rfl rfl ?_
  refine r_aload_n 39 2 (hF.pu _ _ _ _) dX9_numbers_38 rfl rfl ?_
  refine f_ups hF [1] ([oC r 8 [.ref R, .int (nI sp), .int it, .int (zB ab), .ref x], oC a1_ 12 [.int 0, .ref (D.2.2.1 1), .int 0]]) rfl ?_
  refine g_callV 42 hG (fc_X9_number (KS := KS) (Hb := Hb) D l hl r x R tx sp it ab x0 x1 x2 x3 x6 t ln hln hch (by omega)) (wr := ([oC a1_ 12 [.int 0, .ref (D.2.2.1 1), .int 0]])) rfl (imk [0, 1] rfl) lk_X9_71 0 yk_X9_number rfl ⟨by decide, by decide⟩ (fun _ z => ((z.o 0 rfl).fld 0 rfl)) rfl rfl (Nat.le_of_ble_eq_true rfl) dX9_numbers_39 ⟨Nat.le_of_ble_eq_true rfl, Nat.le_of_ble_eq_true rfl⟩ rfl (fun E a ws' im' hp hx => by obtain ⟨hb, rfl, rfl, rfl⟩ := hp; exact g_out hO 0 rfl (Nat.le_of_ble_eq_true rfl) (Nat.le_of_ble_eq_true rfl) (pr_f (nb_f hb) rfl)) (fun r ws_ im' hp => ?_)
  obtain ⟨rfl, rfl, rfl, hp39⟩ := hp
  show F 2 10 ([oC r 8 [.ref R, .int (nI (sp + nuD t ln sp)), .int it, .int (zB ab), .ref x], oC a1_ 12 [.int 0, .ref (D.2.2.1 1), .int 0]]) ([oC x 1 [x0, x1, x2, x3, .ref tx, .int (nI ln), x6], aC D 2 tx (iA 80 t)]) 42 [.int (nuA t sp (nuD t ln sp)), .ref a1_] [(3, .int 0), (2, .ref a1_), (0, .ref r), (1, .int (nI 3))]
  have hNR := nb_0 (m := 3) hp39
  have hle0 := (nuC_le (t := t) (ln := ln) 4 sp (by omega)).1
  have hn0 : nuN t ln sp ≤ 9999 := (nuN_of (by omega)).2
  refine r_eqi (nI (nuN t ln sp)) (nuN_of (by omega)).1 ?_
  refine f_callS 45 hF (fc_J28_valueOf (KS := KS) (Hb := Hb) D l (nuN t ln sp) (by assumption)) (wr := ([oC r 8 [.ref R, .int (nI (sp + nuD t ln sp)), .int it, .int (zB ab), .ref x], oC a1_ 12 [.int 0, .ref (D.2.2.1 1), .int 0]])) rfl (imk [] rfl) lk_X9_75 1 yk_J28_valueOf rfl ⟨by decide, by decide⟩ rfl (Nat.le_of_ble_eq_true rfl) dX9_numbers_42 ⟨Nat.le_of_ble_eq_true rfl, Nat.le_of_ble_eq_true rfl⟩ rfl (fun r ws_ im' hp => ?_)
  obtain ⟨a2_, rfl, rfl, rfl⟩ := hp
  show F 3 11 ([oC r 8 [.ref R, .int (nI (sp + nuD t ln sp)), .int it, .int (zB ab), .ref x], oC a1_ 12 [.int 0, .ref (D.2.2.1 1), .int 0]]) ([oC a2_ 19 [.int (nI (nuN t ln sp))], oC x 1 [x0, x1, x2, x3, .ref tx, .int (nI ln), x6], aC D 2 tx (iA 80 t)]) 45 [.ref a2_, .ref a1_] [(3, .int 0), (2, .ref a1_), (0, .ref r), (1, .int (nI 3))]
  refine f_ups hF [1] ([oC a1_ 12 [.int 0, .ref (D.2.2.1 1), .int 0], oC r 8 [.ref R, .int (nI (sp + nuD t ln sp)), .int it, .int (zB ab), .ref x]]) rfl ?_
  refine f_callV 48 hF (fc_J8_add_e (KS := KS) (Hb := Hb) D l a1_ a2_ 0 [] [oC a2_ 19 [.int (nI (nuN t ln sp))]] (fun H h => anyK.ofob (h _ List.mem_cons_self) rfl nw_q3968)) (wr := ([oC r 8 [.ref R, .int (nI (sp + nuD t ln sp)), .int it, .int (zB ab), .ref x]])) rfl (imk [0] rfl) lk_X9_81 1 yk_J8_add rfl ⟨by decide, by decide⟩ (fun _ z => ((z.o 0 rfl).fld 0 rfl)) rfl rfl (Nat.le_of_ble_eq_true rfl) dX9_numbers_45 ⟨Nat.le_of_ble_eq_true rfl, Nat.le_of_ble_eq_true rfl⟩ rfl (fun r ws_ im' hp => ?_)
  obtain ⟨a3_, rfl, rfl, rfl⟩ := hp
  show F 4 21 ([oC a1_ 12 [.int (0 + 1), .ref a3_, .int (nI 1)], aC D 3 a3_ (qA 10 (va_up (fun _ => none) 0 (some a2_))), oC r 8 [.ref R, .int (nI (sp + nuD t ln sp)), .int it, .int (zB ab), .ref x]]) ([oC a2_ 19 [.int (nI (nuN t ln sp))], oC x 1 [x0, x1, x2, x3, .ref tx, .int (nI ln), x6], aC D 2 tx (iA 80 t)]) 48 [.int 1] [(3, .int 0), (2, .ref a1_), (0, .ref r), (1, .int (nI 3))]
  refine r_pop 49 (hF.pu _ _ _ _) dX9_numbers_48 rfl rfl ?_
  refine r_iinc 52 (nI (0 + 1)) 0 [(3, .int (nI (0 + 1))), (2, .ref a1_), (0, .ref r), (1, .int (nI 3))] (hF.pu _ _ _ _) dX9_numbers_49 rfl (nI_1 0) (by decide) rfl rfl ?_
  refine r_goto 10 (hF.pu _ _ _ _) dX9_numbers_52 (by decide) ?_
  refine r_iload_n 11 0 (hF.pu _ _ _ _) dX9_numbers_10 rfl rfl ?_
  refine r_iload_n 12 3 (hF.pu _ _ _ _) dX9_numbers_11 rfl rfl ?_
  refine r_icmp_geN 1 3 15 55 (hF.pu _ _ _ _) dX9_numbers_12 (by omega) (by omega) (by decide) (fun c12 => absurd c12 (by decide)) rfl (fun c12 => ?_)
  refine r_iload_n 16 0 (hF.pu _ _ _ _) dX9_numbers_15 rfl rfl ?_
  refine r_if_le 19 37 (hF.pu _ _ _ _) dX9_numbers_16 (by decide) (fun c => absurd c (by decide)) rfl (fun _ => ?_)
  refine r_aload_n 20 2 (hF.pu _ _ _ _) dX9_numbers_19 rfl rfl ?_
  refine r_aload_n 21 2 (hF.pu _ _ _ _) dX9_numbers_20 rfl rfl ?_
  refine f_callp 24 hF (fun _ z => cp_X9_here D l r x tx (sp + nuD t ln sp) t ln hln hch (by omega) ((z.o 2 rfl).fld 1 rfl) ((z.o 2 rfl).fld 4 rfl) ((z.mo 1 rfl).fld 4 rfl) ((z.mo 1 rfl).fld 5 rfl) (z.ma 2 rfl)) lk_X9_52 0 yk_X9_here rfl ⟨by decide, by decide⟩ (fun _ z => ((z.o 2 rfl).fld 0 rfl)) rfl rfl (Nat.le_of_ble_eq_true rfl) dX9_numbers_21 ⟨Nat.le_of_ble_eq_true rfl, Nat.le_of_ble_eq_true rfl⟩ rfl ?_
  refine r_bipush 26 44 (hF.pu _ _ _ _) dX9_numbers_24 (by decide) rfl ?_
  have hj_26 : F 4 21 ([oC a1_ 12 [.int (0 + 1), .ref a3_, .int (nI 1)], aC D 3 a3_ (qA 10 (va_up (fun _ => none) 0 (some a2_))), oC r 8 [.ref R, .int (nI (sp + nuD t ln sp)), .int it, .int (zB ab), .ref x]]) ([oC a2_ 19 [.int (nI (nuN t ln sp))], oC x 1 [x0, x1, x2, x3, .ref tx, .int (nI ln), x6], aC D 2 tx (iA 80 t)]) 34 [.int (zB (decide (heC t ln (sp + nuD t ln sp) = 44))), .ref r] [(3, .int (nI (0 + 1))), (2, .ref a1_), (0, .ref r), (1, .int (nI 3))] := by
    refine f_ups hF [2] ([oC r 8 [.ref R, .int (nI (sp + nuD t ln sp)), .int it, .int (zB ab), .ref x], oC a1_ 12 [.int (0 + 1), .ref a3_, .int (nI 1)], aC D 3 a3_ (qA 10 (va_up (fun _ => none) 0 (some a2_)))]) rfl ?_
    refine g_callV 37 hG (fc_X9_pass (KS := KS) (Hb := Hb) D l hl r x R (sp + nuD t ln sp) it ab (decide (heC t ln (sp + nuD t ln sp) = 44))) (wr := ([oC a1_ 12 [.int (0 + 1), .ref a3_, .int (nI 1)], aC D 3 a3_ (qA 10 (va_up (fun _ => none) 0 (some a2_)))])) rfl (imk [] rfl) lk_X9_64 1 yk_X9_pass rfl ⟨by decide, by decide⟩ (fun _ z => ((z.o 0 rfl).fld 0 rfl)) rfl rfl (Nat.le_of_ble_eq_true rfl) dX9_numbers_34 ⟨Nat.le_of_ble_eq_true rfl, Nat.le_of_ble_eq_true rfl⟩ rfl (fun E a ws' im' hp hx => by obtain ⟨hb, rfl, rfl, rfl⟩ := hp; exact g_out hO 0 rfl (Nat.le_of_ble_eq_true rfl) (Nat.le_of_ble_eq_true rfl) (pr_f (hNR.trans (cm_c (of_decide_eq_false hb))) rfl)) (fun r ws_ im' hp => ?_)
    obtain ⟨rfl, rfl, rfl, hp34⟩ := hp
    show F 5 28 ([oC r 8 [.ref R, .int (nI (sp + nuD t ln sp + 1)), .int it, .int (zB ab), .ref x], oC a1_ 12 [.int (0 + 1), .ref a3_, .int (nI 1)], aC D 3 a3_ (qA 10 (va_up (fun _ => none) 0 (some a2_)))]) ([oC a2_ 19 [.int (nI (nuN t ln sp))], oC x 1 [x0, x1, x2, x3, .ref tx, .int (nI ln), x6], aC D 2 tx (iA 80 t)]) 37 [] [(3, .int (nI (0 + 1))), (2, .ref a1_), (0, .ref r), (1, .int (nI 3))]
    have hsl1 : sK t ln sp 1 ≤ ln := heC_p (by decide) (of_decide_eq_true hp34)
    show F 5 28 ([oC r 8 [.ref R, .int (nI (sK t ln sp 1)), .int it, .int (zB ab), .ref x], oC a1_ 12 [.int (0 + 1), .ref a3_, .int (nI 1)], aC D 3 a3_ (qA 10 (va_up (fun _ => none) 0 (some a2_)))]) ([oC a2_ 19 [.int (nI (nuN t ln sp))], oC x 1 [x0, x1, x2, x3, .ref tx, .int (nI ln), x6], aC D 2 tx (iA 80 t)]) 37 [] [(3, .int (nI (0 + 1))), (2, .ref a1_), (0, .ref r), (1, .int (nI 3))]
    refine r_aload_n 38 1 (hF.pu _ _ _ _) dX9_numbers_37 rfl rfl ?_
    refine r_aload_n 39 2 (hF.pu _ _ _ _) dX9_numbers_38 rfl rfl ?_
    refine g_callV 42 hG (fc_X9_number (KS := KS) (Hb := Hb) D l hl r x R tx (sK t ln sp 1) it ab x0 x1 x2 x3 x6 t ln hln hch (by omega)) (wr := ([oC a1_ 12 [.int (0 + 1), .ref a3_, .int (nI 1)], aC D 3 a3_ (qA 10 (va_up (fun _ => none) 0 (some a2_)))])) rfl (imk [1, 2] rfl) lk_X9_71 0 yk_X9_number rfl ⟨by decide, by decide⟩ (fun _ z => ((z.o 0 rfl).fld 0 rfl)) rfl rfl (Nat.le_of_ble_eq_true rfl) dX9_numbers_39 ⟨Nat.le_of_ble_eq_true rfl, Nat.le_of_ble_eq_true rfl⟩ rfl (fun E a ws' im' hp hx => by obtain ⟨hb, rfl, rfl, rfl⟩ := hp; exact g_out hO 0 rfl (Nat.le_of_ble_eq_true rfl) (Nat.le_of_ble_eq_true rfl) (pr_f (hNR.trans (cm_f (of_decide_eq_true hp34) hb)) rfl)) (fun r ws_ im' hp => ?_)
    obtain ⟨rfl, rfl, rfl, hp39⟩ := hp
    show F 6 35 ([oC r 8 [.ref R, .int (nI (sK t ln sp 1 + nuD t ln (sK t ln sp 1))), .int it, .int (zB ab), .ref x], oC a1_ 12 [.int (0 + 1), .ref a3_, .int (nI 1)], aC D 3 a3_ (qA 10 (va_up (fun _ => none) 0 (some a2_)))]) ([oC a2_ 19 [.int (nI (nuN t ln sp))], oC x 1 [x0, x1, x2, x3, .ref tx, .int (nI ln), x6], aC D 2 tx (iA 80 t)]) 42 [.int (nuA t (sK t ln sp 1) (nuD t ln (sK t ln sp 1))), .ref a1_] [(3, .int (nI (0 + 1))), (2, .ref a1_), (0, .ref r), (1, .int (nI 3))]
    have hNR := hNR.trans (cm_s (of_decide_eq_true hp34) hp39)
    have hle1 := (nuC_le (t := t) (ln := ln) 4 (sK t ln sp 1) (by omega)).1
    have hn1 : nuN t ln (sK t ln sp 1) ≤ 9999 := (nuN_of (by omega)).2
    refine r_eqi (nI (nuN t ln (sK t ln sp 1))) (nuN_of (by omega)).1 ?_
    refine f_callS 45 hF (fc_J28_valueOf (KS := KS) (Hb := Hb) D l (nuN t ln (sK t ln sp 1)) (by assumption)) (wr := ([oC r 8 [.ref R, .int (nI (sK t ln sp 1 + nuD t ln (sK t ln sp 1))), .int it, .int (zB ab), .ref x], oC a1_ 12 [.int (0 + 1), .ref a3_, .int (nI 1)], aC D 3 a3_ (qA 10 (va_up (fun _ => none) 0 (some a2_)))])) rfl (imk [] rfl) lk_X9_75 1 yk_J28_valueOf rfl ⟨by decide, by decide⟩ rfl (Nat.le_of_ble_eq_true rfl) dX9_numbers_42 ⟨Nat.le_of_ble_eq_true rfl, Nat.le_of_ble_eq_true rfl⟩ rfl (fun r ws_ im' hp => ?_)
    obtain ⟨a4_, rfl, rfl, rfl⟩ := hp
    show F 7 36 ([oC r 8 [.ref R, .int (nI (sK t ln sp 1 + nuD t ln (sK t ln sp 1))), .int it, .int (zB ab), .ref x], oC a1_ 12 [.int (0 + 1), .ref a3_, .int (nI 1)], aC D 3 a3_ (qA 10 (va_up (fun _ => none) 0 (some a2_)))]) ([oC a4_ 19 [.int (nI (nuN t ln (sK t ln sp 1)))], oC a2_ 19 [.int (nI (nuN t ln sp))], oC x 1 [x0, x1, x2, x3, .ref tx, .int (nI ln), x6], aC D 2 tx (iA 80 t)]) 45 [.ref a4_, .ref a1_] [(3, .int (nI (0 + 1))), (2, .ref a1_), (0, .ref r), (1, .int (nI 3))]
    refine f_ups hF [2] ([aC D 3 a3_ (qA 10 (va_up (fun _ => none) 0 (some a2_))), oC r 8 [.ref R, .int (nI (sK t ln sp 1 + nuD t ln (sK t ln sp 1))), .int it, .int (zB ab), .ref x], oC a1_ 12 [.int (0 + 1), .ref a3_, .int (nI 1)]]) rfl ?_
    refine f_ups hF [2] ([oC a1_ 12 [.int (0 + 1), .ref a3_, .int (nI 1)], aC D 3 a3_ (qA 10 (va_up (fun _ => none) 0 (some a2_))), oC r 8 [.ref R, .int (nI (sK t ln sp 1 + nuD t ln (sK t ln sp 1))), .int it, .int (zB ab), .ref x]]) rfl ?_
    refine f_callV 48 hF (fc_J8_add_n (KS := KS) (Hb := Hb) D l a1_ a3_ 1 a4_ (0 + 1) (va_up (fun _ => none) 0 (some a2_)) (by omega) [] [oC a4_ 19 [.int (nI (nuN t ln (sK t ln sp 1)))]] (fun H h => anyK.ofob (h _ List.mem_cons_self) rfl nw_q3968)) (wr := ([oC r 8 [.ref R, .int (nI (sK t ln sp 1 + nuD t ln (sK t ln sp 1))), .int it, .int (zB ab), .ref x]])) rfl (imk [0] rfl) lk_X9_81 1 yk_J8_add rfl ⟨by decide, by decide⟩ (fun _ z => ((z.o 0 rfl).fld 0 rfl)) rfl rfl (Nat.le_of_ble_eq_true rfl) dX9_numbers_45 ⟨Nat.le_of_ble_eq_true rfl, Nat.le_of_ble_eq_true rfl⟩ rfl (fun r ws_ im' hp => ?_)
    obtain ⟨rfl, rfl, rfl⟩ := hp
    show F 7 36 ([oC a1_ 12 [.int ((0 + 1) + 1), .ref a3_, .int (nI 2)], aC D 3 a3_ (qA 10 (va_up (va_up (fun _ => none) 0 (some a2_)) 1 (some a4_))), oC r 8 [.ref R, .int (nI (sK t ln sp 1 + nuD t ln (sK t ln sp 1))), .int it, .int (zB ab), .ref x]]) ([oC a4_ 19 [.int (nI (nuN t ln (sK t ln sp 1)))], oC a2_ 19 [.int (nI (nuN t ln sp))], oC x 1 [x0, x1, x2, x3, .ref tx, .int (nI ln), x6], aC D 2 tx (iA 80 t)]) 48 [.int 1] [(3, .int (nI (0 + 1))), (2, .ref a1_), (0, .ref r), (1, .int (nI 3))]
    refine r_pop 49 (hF.pu _ _ _ _) dX9_numbers_48 rfl rfl ?_
    refine r_iinc 52 (nI (1 + 1)) 0 [(3, .int (nI (1 + 1))), (2, .ref a1_), (0, .ref r), (1, .int (nI 3))] (hF.pu _ _ _ _) dX9_numbers_49 rfl (nI_1 1) (by decide) rfl rfl ?_
    refine r_goto 10 (hF.pu _ _ _ _) dX9_numbers_52 (by decide) ?_
    refine r_iload_n 11 0 (hF.pu _ _ _ _) dX9_numbers_10 rfl rfl ?_
    refine r_iload_n 12 3 (hF.pu _ _ _ _) dX9_numbers_11 rfl rfl ?_
    refine r_icmp_geN 2 3 15 55 (hF.pu _ _ _ _) dX9_numbers_12 (by omega) (by omega) (by decide) (fun c12 => absurd c12 (by decide)) rfl (fun c12 => ?_)
    refine r_iload_n 16 0 (hF.pu _ _ _ _) dX9_numbers_15 rfl rfl ?_
    refine r_if_le 19 37 (hF.pu _ _ _ _) dX9_numbers_16 (by decide) (fun c => absurd c (by decide)) rfl (fun _ => ?_)
    refine r_aload_n 20 2 (hF.pu _ _ _ _) dX9_numbers_19 rfl rfl ?_
    refine r_aload_n 21 2 (hF.pu _ _ _ _) dX9_numbers_20 rfl rfl ?_
    refine f_callp 24 hF (fun _ z => cp_X9_here D l r x tx (sK t ln sp 1 + nuD t ln (sK t ln sp 1)) t ln hln hch (by omega) ((z.o 2 rfl).fld 1 rfl) ((z.o 2 rfl).fld 4 rfl) ((z.mo 2 rfl).fld 4 rfl) ((z.mo 2 rfl).fld 5 rfl) (z.ma 3 rfl)) lk_X9_52 0 yk_X9_here rfl ⟨by decide, by decide⟩ (fun _ z => ((z.o 2 rfl).fld 0 rfl)) rfl rfl (Nat.le_of_ble_eq_true rfl) dX9_numbers_21 ⟨Nat.le_of_ble_eq_true rfl, Nat.le_of_ble_eq_true rfl⟩ rfl ?_
    refine r_bipush 26 44 (hF.pu _ _ _ _) dX9_numbers_24 (by decide) rfl ?_
    have hj_26 : F 7 36 ([oC a1_ 12 [.int ((0 + 1) + 1), .ref a3_, .int (nI 2)], aC D 3 a3_ (qA 10 (va_up (va_up (fun _ => none) 0 (some a2_)) 1 (some a4_))), oC r 8 [.ref R, .int (nI (sK t ln sp 1 + nuD t ln (sK t ln sp 1))), .int it, .int (zB ab), .ref x]]) ([oC a4_ 19 [.int (nI (nuN t ln (sK t ln sp 1)))], oC a2_ 19 [.int (nI (nuN t ln sp))], oC x 1 [x0, x1, x2, x3, .ref tx, .int (nI ln), x6], aC D 2 tx (iA 80 t)]) 34 [.int (zB (decide (heC t ln (sK t ln sp 1 + nuD t ln (sK t ln sp 1)) = 44))), .ref r] [(3, .int (nI (1 + 1))), (2, .ref a1_), (0, .ref r), (1, .int (nI 3))] := by
      refine f_ups hF [2] ([oC r 8 [.ref R, .int (nI (sK t ln sp 1 + nuD t ln (sK t ln sp 1))), .int it, .int (zB ab), .ref x], oC a1_ 12 [.int ((0 + 1) + 1), .ref a3_, .int (nI 2)], aC D 3 a3_ (qA 10 (va_up (va_up (fun _ => none) 0 (some a2_)) 1 (some a4_)))]) rfl ?_
      refine g_callV 37 hG (fc_X9_pass (KS := KS) (Hb := Hb) D l hl r x R (sK t ln sp 1 + nuD t ln (sK t ln sp 1)) it ab (decide (heC t ln (sK t ln sp 1 + nuD t ln (sK t ln sp 1)) = 44))) (wr := ([oC a1_ 12 [.int ((0 + 1) + 1), .ref a3_, .int (nI 2)], aC D 3 a3_ (qA 10 (va_up (va_up (fun _ => none) 0 (some a2_)) 1 (some a4_)))])) rfl (imk [] rfl) lk_X9_64 1 yk_X9_pass rfl ⟨by decide, by decide⟩ (fun _ z => ((z.o 0 rfl).fld 0 rfl)) rfl rfl (Nat.le_of_ble_eq_true rfl) dX9_numbers_34 ⟨Nat.le_of_ble_eq_true rfl, Nat.le_of_ble_eq_true rfl⟩ rfl (fun E a ws' im' hp hx => by obtain ⟨hb, rfl, rfl, rfl⟩ := hp; exact g_out hO 0 rfl (Nat.le_of_ble_eq_true rfl) (Nat.le_of_ble_eq_true rfl) (pr_f (hNR.trans (cm_c (of_decide_eq_false hb))) rfl)) (fun r ws_ im' hp => ?_)
      obtain ⟨rfl, rfl, rfl, hp34⟩ := hp
      show F 8 43 ([oC r 8 [.ref R, .int (nI (sK t ln sp 1 + nuD t ln (sK t ln sp 1) + 1)), .int it, .int (zB ab), .ref x], oC a1_ 12 [.int ((0 + 1) + 1), .ref a3_, .int (nI 2)], aC D 3 a3_ (qA 10 (va_up (va_up (fun _ => none) 0 (some a2_)) 1 (some a4_)))]) ([oC a4_ 19 [.int (nI (nuN t ln (sK t ln sp 1)))], oC a2_ 19 [.int (nI (nuN t ln sp))], oC x 1 [x0, x1, x2, x3, .ref tx, .int (nI ln), x6], aC D 2 tx (iA 80 t)]) 37 [] [(3, .int (nI (1 + 1))), (2, .ref a1_), (0, .ref r), (1, .int (nI 3))]
      have hsl2 : sK t ln sp 2 ≤ ln := heC_p (by decide) (of_decide_eq_true hp34)
      show F 8 43 ([oC r 8 [.ref R, .int (nI (sK t ln sp 2)), .int it, .int (zB ab), .ref x], oC a1_ 12 [.int ((0 + 1) + 1), .ref a3_, .int (nI 2)], aC D 3 a3_ (qA 10 (va_up (va_up (fun _ => none) 0 (some a2_)) 1 (some a4_)))]) ([oC a4_ 19 [.int (nI (nuN t ln (sK t ln sp 1)))], oC a2_ 19 [.int (nI (nuN t ln sp))], oC x 1 [x0, x1, x2, x3, .ref tx, .int (nI ln), x6], aC D 2 tx (iA 80 t)]) 37 [] [(3, .int (nI (1 + 1))), (2, .ref a1_), (0, .ref r), (1, .int (nI 3))]
      refine r_aload_n 38 1 (hF.pu _ _ _ _) dX9_numbers_37 rfl rfl ?_
      refine r_aload_n 39 2 (hF.pu _ _ _ _) dX9_numbers_38 rfl rfl ?_
      refine g_callV 42 hG (fc_X9_number (KS := KS) (Hb := Hb) D l hl r x R tx (sK t ln sp 2) it ab x0 x1 x2 x3 x6 t ln hln hch (by omega)) (wr := ([oC a1_ 12 [.int ((0 + 1) + 1), .ref a3_, .int (nI 2)], aC D 3 a3_ (qA 10 (va_up (va_up (fun _ => none) 0 (some a2_)) 1 (some a4_)))])) rfl (imk [2, 3] rfl) lk_X9_71 0 yk_X9_number rfl ⟨by decide, by decide⟩ (fun _ z => ((z.o 0 rfl).fld 0 rfl)) rfl rfl (Nat.le_of_ble_eq_true rfl) dX9_numbers_39 ⟨Nat.le_of_ble_eq_true rfl, Nat.le_of_ble_eq_true rfl⟩ rfl (fun E a ws' im' hp hx => by obtain ⟨hb, rfl, rfl, rfl⟩ := hp; exact g_out hO 0 rfl (Nat.le_of_ble_eq_true rfl) (Nat.le_of_ble_eq_true rfl) (pr_f (hNR.trans (cm_f (of_decide_eq_true hp34) hb)) rfl)) (fun r ws_ im' hp => ?_)
      obtain ⟨rfl, rfl, rfl, hp39⟩ := hp
      show F 9 50 ([oC r 8 [.ref R, .int (nI (sK t ln sp 2 + nuD t ln (sK t ln sp 2))), .int it, .int (zB ab), .ref x], oC a1_ 12 [.int ((0 + 1) + 1), .ref a3_, .int (nI 2)], aC D 3 a3_ (qA 10 (va_up (va_up (fun _ => none) 0 (some a2_)) 1 (some a4_)))]) ([oC a4_ 19 [.int (nI (nuN t ln (sK t ln sp 1)))], oC a2_ 19 [.int (nI (nuN t ln sp))], oC x 1 [x0, x1, x2, x3, .ref tx, .int (nI ln), x6], aC D 2 tx (iA 80 t)]) 42 [.int (nuA t (sK t ln sp 2) (nuD t ln (sK t ln sp 2))), .ref a1_] [(3, .int (nI (1 + 1))), (2, .ref a1_), (0, .ref r), (1, .int (nI 3))]
      have hNR := hNR.trans (cm_s (of_decide_eq_true hp34) hp39)
      have hle2 := (nuC_le (t := t) (ln := ln) 4 (sK t ln sp 2) (by omega)).1
      have hn2 : nuN t ln (sK t ln sp 2) ≤ 9999 := (nuN_of (by omega)).2
      refine r_eqi (nI (nuN t ln (sK t ln sp 2))) (nuN_of (by omega)).1 ?_
      refine f_callS 45 hF (fc_J28_valueOf (KS := KS) (Hb := Hb) D l (nuN t ln (sK t ln sp 2)) (by assumption)) (wr := ([oC r 8 [.ref R, .int (nI (sK t ln sp 2 + nuD t ln (sK t ln sp 2))), .int it, .int (zB ab), .ref x], oC a1_ 12 [.int ((0 + 1) + 1), .ref a3_, .int (nI 2)], aC D 3 a3_ (qA 10 (va_up (va_up (fun _ => none) 0 (some a2_)) 1 (some a4_)))])) rfl (imk [] rfl) lk_X9_75 1 yk_J28_valueOf rfl ⟨by decide, by decide⟩ rfl (Nat.le_of_ble_eq_true rfl) dX9_numbers_42 ⟨Nat.le_of_ble_eq_true rfl, Nat.le_of_ble_eq_true rfl⟩ rfl (fun r ws_ im' hp => ?_)
      obtain ⟨a5_, rfl, rfl, rfl⟩ := hp
      show F 10 51 ([oC r 8 [.ref R, .int (nI (sK t ln sp 2 + nuD t ln (sK t ln sp 2))), .int it, .int (zB ab), .ref x], oC a1_ 12 [.int ((0 + 1) + 1), .ref a3_, .int (nI 2)], aC D 3 a3_ (qA 10 (va_up (va_up (fun _ => none) 0 (some a2_)) 1 (some a4_)))]) ([oC a5_ 19 [.int (nI (nuN t ln (sK t ln sp 2)))], oC a4_ 19 [.int (nI (nuN t ln (sK t ln sp 1)))], oC a2_ 19 [.int (nI (nuN t ln sp))], oC x 1 [x0, x1, x2, x3, .ref tx, .int (nI ln), x6], aC D 2 tx (iA 80 t)]) 45 [.ref a5_, .ref a1_] [(3, .int (nI (1 + 1))), (2, .ref a1_), (0, .ref r), (1, .int (nI 3))]
      refine f_ups hF [2] ([aC D 3 a3_ (qA 10 (va_up (va_up (fun _ => none) 0 (some a2_)) 1 (some a4_))), oC r 8 [.ref R, .int (nI (sK t ln sp 2 + nuD t ln (sK t ln sp 2))), .int it, .int (zB ab), .ref x], oC a1_ 12 [.int ((0 + 1) + 1), .ref a3_, .int (nI 2)]]) rfl ?_
      refine f_ups hF [2] ([oC a1_ 12 [.int ((0 + 1) + 1), .ref a3_, .int (nI 2)], aC D 3 a3_ (qA 10 (va_up (va_up (fun _ => none) 0 (some a2_)) 1 (some a4_))), oC r 8 [.ref R, .int (nI (sK t ln sp 2 + nuD t ln (sK t ln sp 2))), .int it, .int (zB ab), .ref x]]) rfl ?_
      refine f_callV 48 hF (fc_J8_add_n (KS := KS) (Hb := Hb) D l a1_ a3_ 2 a5_ ((0 + 1) + 1) (va_up (va_up (fun _ => none) 0 (some a2_)) 1 (some a4_)) (by omega) [] [oC a5_ 19 [.int (nI (nuN t ln (sK t ln sp 2)))]] (fun H h => anyK.ofob (h _ List.mem_cons_self) rfl nw_q3968)) (wr := ([oC r 8 [.ref R, .int (nI (sK t ln sp 2 + nuD t ln (sK t ln sp 2))), .int it, .int (zB ab), .ref x]])) rfl (imk [0] rfl) lk_X9_81 1 yk_J8_add rfl ⟨by decide, by decide⟩ (fun _ z => ((z.o 0 rfl).fld 0 rfl)) rfl rfl (Nat.le_of_ble_eq_true rfl) dX9_numbers_45 ⟨Nat.le_of_ble_eq_true rfl, Nat.le_of_ble_eq_true rfl⟩ rfl (fun r ws_ im' hp => ?_)
      obtain ⟨rfl, rfl, rfl⟩ := hp
      show F 10 51 ([oC a1_ 12 [.int (((0 + 1) + 1) + 1), .ref a3_, .int (nI 3)], aC D 3 a3_ (qA 10 (va_up (va_up (va_up (fun _ => none) 0 (some a2_)) 1 (some a4_)) 2 (some a5_))), oC r 8 [.ref R, .int (nI (sK t ln sp 2 + nuD t ln (sK t ln sp 2))), .int it, .int (zB ab), .ref x]]) ([oC a5_ 19 [.int (nI (nuN t ln (sK t ln sp 2)))], oC a4_ 19 [.int (nI (nuN t ln (sK t ln sp 1)))], oC a2_ 19 [.int (nI (nuN t ln sp))], oC x 1 [x0, x1, x2, x3, .ref tx, .int (nI ln), x6], aC D 2 tx (iA 80 t)]) 48 [.int 1] [(3, .int (nI (1 + 1))), (2, .ref a1_), (0, .ref r), (1, .int (nI 3))]
      refine r_pop 49 (hF.pu _ _ _ _) dX9_numbers_48 rfl rfl ?_
      refine r_iinc 52 (nI (2 + 1)) 0 [(3, .int (nI (2 + 1))), (2, .ref a1_), (0, .ref r), (1, .int (nI 3))] (hF.pu _ _ _ _) dX9_numbers_49 rfl (nI_1 2) (by decide) rfl rfl ?_
      refine r_goto 10 (hF.pu _ _ _ _) dX9_numbers_52 (by decide) ?_
      refine r_iload_n 11 0 (hF.pu _ _ _ _) dX9_numbers_10 rfl rfl ?_
      refine r_iload_n 12 3 (hF.pu _ _ _ _) dX9_numbers_11 rfl rfl ?_
      refine r_icmp_geN 3 3 15 55 (hF.pu _ _ _ _) dX9_numbers_12 (by omega) (by omega) (by decide) (fun c12 => ?_) rfl (fun c12 => absurd c12 (by decide))
      refine r_aload_n 56 1 (hF.pu _ _ _ _) dX9_numbers_55 rfl rfl ?_
      refine f_callS 59 hF (fc_J41_unmodifiableList (KS := KS) (Hb := Hb) D l a1_ a3_ 3 (((0 + 1) + 1) + 1)) (wr := ([aC D 3 a3_ (qA 10 (va_up (va_up (va_up (fun _ => none) 0 (some a2_)) 1 (some a4_)) 2 (some a5_))), oC r 8 [.ref R, .int (nI (sK t ln sp 2 + nuD t ln (sK t ln sp 2))), .int it, .int (zB ab), .ref x]])) rfl (imk [] rfl) lk_X9_85 1 yk_J41_unmodifiableList rfl ⟨by decide, by decide⟩ rfl (Nat.le_of_ble_eq_true rfl) dX9_numbers_56 ⟨Nat.le_of_ble_eq_true rfl, Nat.le_of_ble_eq_true rfl⟩ rfl (fun r ws_ im' hp => ?_)
      obtain ⟨a6_, rfl, rfl, rfl⟩ := hp
      show F 11 53 ([oC a6_ 21 [.ref a1_, .ref a1_], oC a1_ 12 [.int (((0 + 1) + 1) + 1), .ref a3_, .int (nI 3)], aC D 3 a3_ (qA 10 (va_up (va_up (va_up (fun _ => none) 0 (some a2_)) 1 (some a4_)) 2 (some a5_))), oC r 8 [.ref R, .int (nI (sK t ln sp 2 + nuD t ln (sK t ln sp 2))), .int it, .int (zB ab), .ref x]]) ([oC a5_ 19 [.int (nI (nuN t ln (sK t ln sp 2)))], oC a4_ 19 [.int (nI (nuN t ln (sK t ln sp 1)))], oC a2_ 19 [.int (nI (nuN t ln sp))], oC x 1 [x0, x1, x2, x3, .ref tx, .int (nI ln), x6], aC D 2 tx (iA 80 t)]) 59 [.ref a6_] [(3, .int (nI (2 + 1))), (2, .ref a1_), (0, .ref r), (1, .int (nI 3))]
      refine f_ups hF [2] ([aC D 3 a3_ (qA 10 (va_up (va_up (va_up (fun _ => none) 0 (some a2_)) 1 (some a4_)) 2 (some a5_))), oC a6_ 21 [.ref a1_, .ref a1_], oC a1_ 12 [.int (((0 + 1) + 1) + 1), .ref a3_, .int (nI 3)], oC r 8 [.ref R, .int (nI (sK t ln sp 2 + nuD t ln (sK t ln sp 2))), .int it, .int (zB ab), .ref x]]) rfl ?_
      refine f_frz hF ?_
      refine f_ups hF [1] ([oC a1_ 12 [.int (((0 + 1) + 1) + 1), .ref a3_, .int (nI 3)], oC a6_ 21 [.ref a1_, .ref a1_], oC r 8 [.ref R, .int (nI (sK t ln sp 2 + nuD t ln (sK t ln sp 2))), .int it, .int (zB ab), .ref x]]) rfl ?_
      refine f_frz hF ?_
      refine f_frz hF ?_
      refine f_imsub hF [oC a6_ 21 [.ref a1_, .ref a1_], oC a1_ 12 [.int (((0 + 1) + 1) + 1), .ref a3_, .int (nI 3)], aC D 3 a3_ (qA 10 (va_up (va_up (va_up (fun _ => none) 0 (some a2_)) 1 (some a4_)) 2 (some a5_))), oC a2_ 19 [.int (nI (nuN t ln sp))], oC a4_ 19 [.int (nI (nuN t ln (sK t ln sp 1)))], oC a5_ 19 [.int (nI (nuN t ln (sK t ln sp 2)))]] (imk [0, 1, 2, 5, 4, 3] rfl) ?_
      exact FR.a hR (Or.inl ⟨_, rfl⟩) dX9_numbers_59 (Nat.le_of_ble_eq_true rfl) (Nat.le_of_ble_eq_true rfl) ⟨_, _, _, _, _, _, rfl, rfl, rfl, hNR⟩
    refine r_icmp_ne 29 33 (hF.pu _ _ _ _) dX9_numbers_26 (by decide) (fun c26 => ?_) rfl (fun c26 => ?_)
    · refine r_iconst 34 0 (hF.pu _ _ _ _) dX9_numbers_33 (by decide) rfl ?_
      refine r_eqi (zB (decide (heC t ln (sK t ln sp 1 + nuD t ln (sK t ln sp 1)) = 44))) (by simp [*, zB]) ?_
      exact hj_26
    · refine r_iconst 30 1 (hF.pu _ _ _ _) dX9_numbers_29 (by decide) rfl ?_
      refine r_goto 34 (hF.pu _ _ _ _) dX9_numbers_30 (by decide) ?_
      refine r_eqi (zB (decide (heC t ln (sK t ln sp 1 + nuD t ln (sK t ln sp 1)) = 44))) (by simp [*, zB]) ?_
      exact hj_26
  refine r_icmp_ne 29 33 (hF.pu _ _ _ _) dX9_numbers_26 (by decide) (fun c26 => ?_) rfl (fun c26 => ?_)
  · refine r_iconst 34 0 (hF.pu _ _ _ _) dX9_numbers_33 (by decide) rfl ?_
    refine r_eqi (zB (decide (heC t ln (sp + nuD t ln sp) = 44))) (by simp [*, zB]) ?_
    exact hj_26
  · refine r_iconst 30 1 (hF.pu _ _ _ _) dX9_numbers_29 (by decide) rfl ?_
    refine r_goto 34 (hF.pu _ _ _ _) dX9_numbers_30 (by decide) ?_
    refine r_eqi (zB (decide (heC t ln (sp + nuD t ln sp) = 44))) (by simp [*, zB]) ?_
    exact hj_26
set_option maxHeartbeats 4000000 in
theorem fc_X9_numbers_4 (D : DD) (l : Launch) (hl : l.stackTraces = false) {KS : Nat → Prop} {Hb : Heap} (r x R tx sp : Nat) (it : Int32) (ab : Bool) (x0 x1 x2 x3 x6 : Value) (t : Nat → Int32) (ln : Nat) (hln : ln ≤ 80) (hch : ∀ i, i < ln → inB (t i) 33 126 = true) (hsp : sp ≤ ln) : Gc D l yX9_numbers cX9_numbers 4 (Option.some (ClassFile.FieldType.object "java/util/List")) 6 14 68 132 KS Hb [.ref r, .int (nI 4)] ([oC r 8 [.ref R, .int (nI sp), .int it, .int (zB ab), .ref x]]) ([oC x 1 [x0, x1, x2, x3, .ref tx, .int (nI ln), x6], aC D 2 tx (iA 80 t)]) (fun r_ w i => ∃ u l_ e_ i0 i1 i2 i3, r_ = some (.ref u) ∧ w = [oC r 8 [.ref R, .int (nI (sK t ln sp 3 + nuD t ln (sK t ln sp 3))), .int it, .int (zB ab), .ref x]] ∧ i = [oC u 21 [.ref l_, .ref l_], oC l_ 12 [.int ((((0 + 1) + 1) + 1) + 1), .ref e_, .int (nI 4)], aC D 3 e_ (qA 10 (va_up (va_up (va_up (va_up (fun _ => none) 0 (some i0)) 1 (some i1)) 2 (some i2)) 3 (some i3))), oC i0 19 [.int (nI (nuN t ln sp))], oC i1 19 [.int (nI (nuN t ln (sK t ln sp 1)))], oC i2 19 [.int (nI (nuN t ln (sK t ln sp 2)))], oC i3 19 [.int (nI (nuN t ln (sK t ln sp 3)))]] ∧ nbR t ln 4 sp = (true, sK t ln sp 3 + nuD t ln (sK t ln sp 3))) (pxF ((nbR t ln 4 sp).1 = false) (nbR t ln 4 sp).2) := by
  refine Gc.of hl (by decide) (Nat.le_of_ble_eq_true rfl) (fun s F X hG hR hO => ?_)
  have hF := hG.f
  show F 0 0 ([oC r 8 [.ref R, .int (nI sp), .int it, .int (zB ab), .ref x]]) ([oC x 1 [x0, x1, x2, x3, .ref tx, .int (nI ln), x6], aC D 2 tx (iA 80 t)]) 0 [] [(0, .ref r), (1, .int (nI 4))]
  refine f_new 3 hF (ci := 12) [.int 0, .null, .int 0] okJ8 rfl q2162 q241 q114 dvJ8 ⟨Nat.le_of_ble_eq_true rfl, Nat.le_of_ble_eq_true rfl⟩ dX9_numbers_0 rfl (fun a1_ => ?_)
  refine r_dup 4 (hF.pu _ _ _ _) dX9_numbers_3 rfl rfl ?_
  refine f_callI 7 hF (fc_J8_init_J8 (KS := KS) (Hb := Hb) D l a1_) (wr := ([oC r 8 [.ref R, .int (nI sp), .int it, .int (zB ab), .ref x]])) rfl (imk [] rfl) q244 q114 q2163 q243 rfl 0 yk_J8_init rfl ⟨by decide, by decide⟩ rfl (Nat.le_of_ble_eq_true rfl) dX9_numbers_4 ⟨Nat.le_of_ble_eq_true rfl, Nat.le_of_ble_eq_true rfl⟩ rfl (fun r ws_ im' hp => ?_)
  obtain ⟨rfl, rfl, rfl⟩ := hp
  show F 1 3 ([oC a1_ 12 [.int 0, .ref (D.2.2.1 1), .int 0], oC r 8 [.ref R, .int (nI sp), .int it, .int (zB ab), .ref x]]) ([oC x 1 [x0, x1, x2, x3, .ref tx, .int (nI ln), x6], aC D 2 tx (iA 80 t)]) 7 [.ref a1_] [(0, .ref r), (1, .int (nI 4))]
  refine r_astore_n 8 [(2, .ref a1_), (0, .ref r), (1, .int (nI 4))] (hF.pu _ _ _ _) dX9_numbers_7 rfl (by decide) rfl rfl ?_
  refine r_iconst 9 0 (hF.pu _ _ _ _) dX9_numbers_8 (by decide) rfl ?_
  refine r_istore_n 10 [(3, .int 0), (2, .ref a1_), (0, .ref r), (1, .int (nI 4))] (hF.pu _ _ _ _) dX9_numbers_9 rfl (by decide) rfl rfl ?_
  refine r_iload_n 11 0 (hF.pu _ _ _ _) dX9_numbers_10 rfl rfl ?_
  refine r_iload_n 12 3 (hF.pu _ _ _ _) dX9_numbers_11 rfl rfl ?_
  refine r_icmp_geN 0 4 15 55 (hF.pu _ _ _ _) dX9_numbers_12 (by omega) (by omega) (by decide) (fun c12 => absurd c12 (by decide)) rfl (fun c12 => ?_)
  refine r_iload_n 16 0 (hF.pu _ _ _ _) dX9_numbers_15 rfl rfl ?_
  refine r_if_le 19 37 (hF.pu _ _ _ _) dX9_numbers_16 (by decide) (fun _ => ?_) rfl (fun c => absurd (by decide) c)
  refine r_aload_n 38 1 (hF.pu _ _ _ _) dX9_numbers_37 rfl rfl ?_
  refine r_aload_n 39 2 (hF.pu _ _ _ _) dX9_numbers_38 rfl rfl ?_
  refine f_ups hF [1] ([oC r 8 [.ref R, .int (nI sp), .int it, .int (zB ab), .ref x], oC a1_ 12 [.int 0, .ref (D.2.2.1 1), .int 0]]) rfl ?_
  refine g_callV 42 hG (fc_X9_number (KS := KS) (Hb := Hb) D l hl r x R tx sp it ab x0 x1 x2 x3 x6 t ln hln hch (by omega)) (wr := ([oC a1_ 12 [.int 0, .ref (D.2.2.1 1), .int 0]])) rfl (imk [0, 1] rfl) lk_X9_71 0 yk_X9_number rfl ⟨by decide, by decide⟩ (fun _ z => ((z.o 0 rfl).fld 0 rfl)) rfl rfl (Nat.le_of_ble_eq_true rfl) dX9_numbers_39 ⟨Nat.le_of_ble_eq_true rfl, Nat.le_of_ble_eq_true rfl⟩ rfl (fun E a ws' im' hp hx => by obtain ⟨hb, rfl, rfl, rfl⟩ := hp; exact g_out hO 0 rfl (Nat.le_of_ble_eq_true rfl) (Nat.le_of_ble_eq_true rfl) (pr_f (nb_f hb) rfl)) (fun r ws_ im' hp => ?_)
  obtain ⟨rfl, rfl, rfl, hp39⟩ := hp
  show F 2 10 ([oC r 8 [.ref R, .int (nI (sp + nuD t ln sp)), .int it, .int (zB ab), .ref x], oC a1_ 12 [.int 0, .ref (D.2.2.1 1), .int 0]]) ([oC x 1 [x0, x1, x2, x3, .ref tx, .int (nI ln), x6], aC D 2 tx (iA 80 t)]) 42 [.int (nuA t sp (nuD t ln sp)), .ref a1_] [(3, .int 0), (2, .ref a1_), (0, .ref r), (1, .int (nI 4))]
  have hNR := nb_0 (m := 4) hp39
  have hle0 := (nuC_le (t := t) (ln := ln) 4 sp (by omega)).1
  have hn0 : nuN t ln sp ≤ 9999 := (nuN_of (by omega)).2
  refine r_eqi (nI (nuN t ln sp)) (nuN_of (by omega)).1 ?_
  refine f_callS 45 hF (fc_J28_valueOf (KS := KS) (Hb := Hb) D l (nuN t ln sp) (by assumption)) (wr := ([oC r 8 [.ref R, .int (nI (sp + nuD t ln sp)), .int it, .int (zB ab), .ref x], oC a1_ 12 [.int 0, .ref (D.2.2.1 1), .int 0]])) rfl (imk [] rfl) lk_X9_75 1 yk_J28_valueOf rfl ⟨by decide, by decide⟩ rfl (Nat.le_of_ble_eq_true rfl) dX9_numbers_42 ⟨Nat.le_of_ble_eq_true rfl, Nat.le_of_ble_eq_true rfl⟩ rfl (fun r ws_ im' hp => ?_)
  obtain ⟨a2_, rfl, rfl, rfl⟩ := hp
  show F 3 11 ([oC r 8 [.ref R, .int (nI (sp + nuD t ln sp)), .int it, .int (zB ab), .ref x], oC a1_ 12 [.int 0, .ref (D.2.2.1 1), .int 0]]) ([oC a2_ 19 [.int (nI (nuN t ln sp))], oC x 1 [x0, x1, x2, x3, .ref tx, .int (nI ln), x6], aC D 2 tx (iA 80 t)]) 45 [.ref a2_, .ref a1_] [(3, .int 0), (2, .ref a1_), (0, .ref r), (1, .int (nI 4))]
  refine f_ups hF [1] ([oC a1_ 12 [.int 0, .ref (D.2.2.1 1), .int 0], oC r 8 [.ref R, .int (nI (sp + nuD t ln sp)), .int it, .int (zB ab), .ref x]]) rfl ?_
  refine f_callV 48 hF (fc_J8_add_e (KS := KS) (Hb := Hb) D l a1_ a2_ 0 [] [oC a2_ 19 [.int (nI (nuN t ln sp))]] (fun H h => anyK.ofob (h _ List.mem_cons_self) rfl nw_q3968)) (wr := ([oC r 8 [.ref R, .int (nI (sp + nuD t ln sp)), .int it, .int (zB ab), .ref x]])) rfl (imk [0] rfl) lk_X9_81 1 yk_J8_add rfl ⟨by decide, by decide⟩ (fun _ z => ((z.o 0 rfl).fld 0 rfl)) rfl rfl (Nat.le_of_ble_eq_true rfl) dX9_numbers_45 ⟨Nat.le_of_ble_eq_true rfl, Nat.le_of_ble_eq_true rfl⟩ rfl (fun r ws_ im' hp => ?_)
  obtain ⟨a3_, rfl, rfl, rfl⟩ := hp
  show F 4 21 ([oC a1_ 12 [.int (0 + 1), .ref a3_, .int (nI 1)], aC D 3 a3_ (qA 10 (va_up (fun _ => none) 0 (some a2_))), oC r 8 [.ref R, .int (nI (sp + nuD t ln sp)), .int it, .int (zB ab), .ref x]]) ([oC a2_ 19 [.int (nI (nuN t ln sp))], oC x 1 [x0, x1, x2, x3, .ref tx, .int (nI ln), x6], aC D 2 tx (iA 80 t)]) 48 [.int 1] [(3, .int 0), (2, .ref a1_), (0, .ref r), (1, .int (nI 4))]
  refine r_pop 49 (hF.pu _ _ _ _) dX9_numbers_48 rfl rfl ?_
  refine r_iinc 52 (nI (0 + 1)) 0 [(3, .int (nI (0 + 1))), (2, .ref a1_), (0, .ref r), (1, .int (nI 4))] (hF.pu _ _ _ _) dX9_numbers_49 rfl (nI_1 0) (by decide) rfl rfl ?_
  refine r_goto 10 (hF.pu _ _ _ _) dX9_numbers_52 (by decide) ?_
  refine r_iload_n 11 0 (hF.pu _ _ _ _) dX9_numbers_10 rfl rfl ?_
  refine r_iload_n 12 3 (hF.pu _ _ _ _) dX9_numbers_11 rfl rfl ?_
  refine r_icmp_geN 1 4 15 55 (hF.pu _ _ _ _) dX9_numbers_12 (by omega) (by omega) (by decide) (fun c12 => absurd c12 (by decide)) rfl (fun c12 => ?_)
  refine r_iload_n 16 0 (hF.pu _ _ _ _) dX9_numbers_15 rfl rfl ?_
  refine r_if_le 19 37 (hF.pu _ _ _ _) dX9_numbers_16 (by decide) (fun c => absurd c (by decide)) rfl (fun _ => ?_)
  refine r_aload_n 20 2 (hF.pu _ _ _ _) dX9_numbers_19 rfl rfl ?_
  refine r_aload_n 21 2 (hF.pu _ _ _ _) dX9_numbers_20 rfl rfl ?_
  refine f_callp 24 hF (fun _ z => cp_X9_here D l r x tx (sp + nuD t ln sp) t ln hln hch (by omega) ((z.o 2 rfl).fld 1 rfl) ((z.o 2 rfl).fld 4 rfl) ((z.mo 1 rfl).fld 4 rfl) ((z.mo 1 rfl).fld 5 rfl) (z.ma 2 rfl)) lk_X9_52 0 yk_X9_here rfl ⟨by decide, by decide⟩ (fun _ z => ((z.o 2 rfl).fld 0 rfl)) rfl rfl (Nat.le_of_ble_eq_true rfl) dX9_numbers_21 ⟨Nat.le_of_ble_eq_true rfl, Nat.le_of_ble_eq_true rfl⟩ rfl ?_
  refine r_bipush 26 44 (hF.pu _ _ _ _) dX9_numbers_24 (by decide) rfl ?_
  have hj_26 : F 4 21 ([oC a1_ 12 [.int (0 + 1), .ref a3_, .int (nI 1)], aC D 3 a3_ (qA 10 (va_up (fun _ => none) 0 (some a2_))), oC r 8 [.ref R, .int (nI (sp + nuD t ln sp)), .int it, .int (zB ab), .ref x]]) ([oC a2_ 19 [.int (nI (nuN t ln sp))], oC x 1 [x0, x1, x2, x3, .ref tx, .int (nI ln), x6], aC D 2 tx (iA 80 t)]) 34 [.int (zB (decide (heC t ln (sp + nuD t ln sp) = 44))), .ref r] [(3, .int (nI (0 + 1))), (2, .ref a1_), (0, .ref r), (1, .int (nI 4))] := by
    refine f_ups hF [2] ([oC r 8 [.ref R, .int (nI (sp + nuD t ln sp)), .int it, .int (zB ab), .ref x], oC a1_ 12 [.int (0 + 1), .ref a3_, .int (nI 1)], aC D 3 a3_ (qA 10 (va_up (fun _ => none) 0 (some a2_)))]) rfl ?_
    refine g_callV 37 hG (fc_X9_pass (KS := KS) (Hb := Hb) D l hl r x R (sp + nuD t ln sp) it ab (decide (heC t ln (sp + nuD t ln sp) = 44))) (wr := ([oC a1_ 12 [.int (0 + 1), .ref a3_, .int (nI 1)], aC D 3 a3_ (qA 10 (va_up (fun _ => none) 0 (some a2_)))])) rfl (imk [] rfl) lk_X9_64 1 yk_X9_pass rfl ⟨by decide, by decide⟩ (fun _ z => ((z.o 0 rfl).fld 0 rfl)) rfl rfl (Nat.le_of_ble_eq_true rfl) dX9_numbers_34 ⟨Nat.le_of_ble_eq_true rfl, Nat.le_of_ble_eq_true rfl⟩ rfl (fun E a ws' im' hp hx => by obtain ⟨hb, rfl, rfl, rfl⟩ := hp; exact g_out hO 0 rfl (Nat.le_of_ble_eq_true rfl) (Nat.le_of_ble_eq_true rfl) (pr_f (hNR.trans (cm_c (of_decide_eq_false hb))) rfl)) (fun r ws_ im' hp => ?_)
    obtain ⟨rfl, rfl, rfl, hp34⟩ := hp
    show F 5 28 ([oC r 8 [.ref R, .int (nI (sp + nuD t ln sp + 1)), .int it, .int (zB ab), .ref x], oC a1_ 12 [.int (0 + 1), .ref a3_, .int (nI 1)], aC D 3 a3_ (qA 10 (va_up (fun _ => none) 0 (some a2_)))]) ([oC a2_ 19 [.int (nI (nuN t ln sp))], oC x 1 [x0, x1, x2, x3, .ref tx, .int (nI ln), x6], aC D 2 tx (iA 80 t)]) 37 [] [(3, .int (nI (0 + 1))), (2, .ref a1_), (0, .ref r), (1, .int (nI 4))]
    have hsl1 : sK t ln sp 1 ≤ ln := heC_p (by decide) (of_decide_eq_true hp34)
    show F 5 28 ([oC r 8 [.ref R, .int (nI (sK t ln sp 1)), .int it, .int (zB ab), .ref x], oC a1_ 12 [.int (0 + 1), .ref a3_, .int (nI 1)], aC D 3 a3_ (qA 10 (va_up (fun _ => none) 0 (some a2_)))]) ([oC a2_ 19 [.int (nI (nuN t ln sp))], oC x 1 [x0, x1, x2, x3, .ref tx, .int (nI ln), x6], aC D 2 tx (iA 80 t)]) 37 [] [(3, .int (nI (0 + 1))), (2, .ref a1_), (0, .ref r), (1, .int (nI 4))]
    refine r_aload_n 38 1 (hF.pu _ _ _ _) dX9_numbers_37 rfl rfl ?_
    refine r_aload_n 39 2 (hF.pu _ _ _ _) dX9_numbers_38 rfl rfl ?_
    refine g_callV 42 hG (fc_X9_number (KS := KS) (Hb := Hb) D l hl r x R tx (sK t ln sp 1) it ab x0 x1 x2 x3 x6 t ln hln hch (by omega)) (wr := ([oC a1_ 12 [.int (0 + 1), .ref a3_, .int (nI 1)], aC D 3 a3_ (qA 10 (va_up (fun _ => none) 0 (some a2_)))])) rfl (imk [1, 2] rfl) lk_X9_71 0 yk_X9_number rfl ⟨by decide, by decide⟩ (fun _ z => ((z.o 0 rfl).fld 0 rfl)) rfl rfl (Nat.le_of_ble_eq_true rfl) dX9_numbers_39 ⟨Nat.le_of_ble_eq_true rfl, Nat.le_of_ble_eq_true rfl⟩ rfl (fun E a ws' im' hp hx => by obtain ⟨hb, rfl, rfl, rfl⟩ := hp; exact g_out hO 0 rfl (Nat.le_of_ble_eq_true rfl) (Nat.le_of_ble_eq_true rfl) (pr_f (hNR.trans (cm_f (of_decide_eq_true hp34) hb)) rfl)) (fun r ws_ im' hp => ?_)
    obtain ⟨rfl, rfl, rfl, hp39⟩ := hp
    show F 6 35 ([oC r 8 [.ref R, .int (nI (sK t ln sp 1 + nuD t ln (sK t ln sp 1))), .int it, .int (zB ab), .ref x], oC a1_ 12 [.int (0 + 1), .ref a3_, .int (nI 1)], aC D 3 a3_ (qA 10 (va_up (fun _ => none) 0 (some a2_)))]) ([oC a2_ 19 [.int (nI (nuN t ln sp))], oC x 1 [x0, x1, x2, x3, .ref tx, .int (nI ln), x6], aC D 2 tx (iA 80 t)]) 42 [.int (nuA t (sK t ln sp 1) (nuD t ln (sK t ln sp 1))), .ref a1_] [(3, .int (nI (0 + 1))), (2, .ref a1_), (0, .ref r), (1, .int (nI 4))]
    have hNR := hNR.trans (cm_s (of_decide_eq_true hp34) hp39)
    have hle1 := (nuC_le (t := t) (ln := ln) 4 (sK t ln sp 1) (by omega)).1
    have hn1 : nuN t ln (sK t ln sp 1) ≤ 9999 := (nuN_of (by omega)).2
    refine r_eqi (nI (nuN t ln (sK t ln sp 1))) (nuN_of (by omega)).1 ?_
    refine f_callS 45 hF (fc_J28_valueOf (KS := KS) (Hb := Hb) D l (nuN t ln (sK t ln sp 1)) (by assumption)) (wr := ([oC r 8 [.ref R, .int (nI (sK t ln sp 1 + nuD t ln (sK t ln sp 1))), .int it, .int (zB ab), .ref x], oC a1_ 12 [.int (0 + 1), .ref a3_, .int (nI 1)], aC D 3 a3_ (qA 10 (va_up (fun _ => none) 0 (some a2_)))])) rfl (imk [] rfl) lk_X9_75 1 yk_J28_valueOf rfl ⟨by decide, by decide⟩ rfl (Nat.le_of_ble_eq_true rfl) dX9_numbers_42 ⟨Nat.le_of_ble_eq_true rfl, Nat.le_of_ble_eq_true rfl⟩ rfl (fun r ws_ im' hp => ?_)
    obtain ⟨a4_, rfl, rfl, rfl⟩ := hp
    show F 7 36 ([oC r 8 [.ref R, .int (nI (sK t ln sp 1 + nuD t ln (sK t ln sp 1))), .int it, .int (zB ab), .ref x], oC a1_ 12 [.int (0 + 1), .ref a3_, .int (nI 1)], aC D 3 a3_ (qA 10 (va_up (fun _ => none) 0 (some a2_)))]) ([oC a4_ 19 [.int (nI (nuN t ln (sK t ln sp 1)))], oC a2_ 19 [.int (nI (nuN t ln sp))], oC x 1 [x0, x1, x2, x3, .ref tx, .int (nI ln), x6], aC D 2 tx (iA 80 t)]) 45 [.ref a4_, .ref a1_] [(3, .int (nI (0 + 1))), (2, .ref a1_), (0, .ref r), (1, .int (nI 4))]
    refine f_ups hF [2] ([aC D 3 a3_ (qA 10 (va_up (fun _ => none) 0 (some a2_))), oC r 8 [.ref R, .int (nI (sK t ln sp 1 + nuD t ln (sK t ln sp 1))), .int it, .int (zB ab), .ref x], oC a1_ 12 [.int (0 + 1), .ref a3_, .int (nI 1)]]) rfl ?_
    refine f_ups hF [2] ([oC a1_ 12 [.int (0 + 1), .ref a3_, .int (nI 1)], aC D 3 a3_ (qA 10 (va_up (fun _ => none) 0 (some a2_))), oC r 8 [.ref R, .int (nI (sK t ln sp 1 + nuD t ln (sK t ln sp 1))), .int it, .int (zB ab), .ref x]]) rfl ?_
    refine f_callV 48 hF (fc_J8_add_n (KS := KS) (Hb := Hb) D l a1_ a3_ 1 a4_ (0 + 1) (va_up (fun _ => none) 0 (some a2_)) (by omega) [] [oC a4_ 19 [.int (nI (nuN t ln (sK t ln sp 1)))]] (fun H h => anyK.ofob (h _ List.mem_cons_self) rfl nw_q3968)) (wr := ([oC r 8 [.ref R, .int (nI (sK t ln sp 1 + nuD t ln (sK t ln sp 1))), .int it, .int (zB ab), .ref x]])) rfl (imk [0] rfl) lk_X9_81 1 yk_J8_add rfl ⟨by decide, by decide⟩ (fun _ z => ((z.o 0 rfl).fld 0 rfl)) rfl rfl (Nat.le_of_ble_eq_true rfl) dX9_numbers_45 ⟨Nat.le_of_ble_eq_true rfl, Nat.le_of_ble_eq_true rfl⟩ rfl (fun r ws_ im' hp => ?_)
    obtain ⟨rfl, rfl, rfl⟩ := hp
    show F 7 36 ([oC a1_ 12 [.int ((0 + 1) + 1), .ref a3_, .int (nI 2)], aC D 3 a3_ (qA 10 (va_up (va_up (fun _ => none) 0 (some a2_)) 1 (some a4_))), oC r 8 [.ref R, .int (nI (sK t ln sp 1 + nuD t ln (sK t ln sp 1))), .int it, .int (zB ab), .ref x]]) ([oC a4_ 19 [.int (nI (nuN t ln (sK t ln sp 1)))], oC a2_ 19 [.int (nI (nuN t ln sp))], oC x 1 [x0, x1, x2, x3, .ref tx, .int (nI ln), x6], aC D 2 tx (iA 80 t)]) 48 [.int 1] [(3, .int (nI (0 + 1))), (2, .ref a1_), (0, .ref r), (1, .int (nI 4))]
    refine r_pop 49 (hF.pu _ _ _ _) dX9_numbers_48 rfl rfl ?_
    refine r_iinc 52 (nI (1 + 1)) 0 [(3, .int (nI (1 + 1))), (2, .ref a1_), (0, .ref r), (1, .int (nI 4))] (hF.pu _ _ _ _) dX9_numbers_49 rfl (nI_1 1) (by decide) rfl rfl ?_
    refine r_goto 10 (hF.pu _ _ _ _) dX9_numbers_52 (by decide) ?_
    refine r_iload_n 11 0 (hF.pu _ _ _ _) dX9_numbers_10 rfl rfl ?_
    refine r_iload_n 12 3 (hF.pu _ _ _ _) dX9_numbers_11 rfl rfl ?_
    refine r_icmp_geN 2 4 15 55 (hF.pu _ _ _ _) dX9_numbers_12 (by omega) (by omega) (by decide) (fun c12 => absurd c12 (by decide)) rfl (fun c12 => ?_)
    refine r_iload_n 16 0 (hF.pu _ _ _ _) dX9_numbers_15 rfl rfl ?_
    refine r_if_le 19 37 (hF.pu _ _ _ _) dX9_numbers_16 (by decide) (fun c => absurd c (by decide)) rfl (fun _ => ?_)
    refine r_aload_n 20 2 (hF.pu _ _ _ _) dX9_numbers_19 rfl rfl ?_
    refine r_aload_n 21 2 (hF.pu _ _ _ _) dX9_numbers_20 rfl rfl ?_
    refine f_callp 24 hF (fun _ z => cp_X9_here D l r x tx (sK t ln sp 1 + nuD t ln (sK t ln sp 1)) t ln hln hch (by omega) ((z.o 2 rfl).fld 1 rfl) ((z.o 2 rfl).fld 4 rfl) ((z.mo 2 rfl).fld 4 rfl) ((z.mo 2 rfl).fld 5 rfl) (z.ma 3 rfl)) lk_X9_52 0 yk_X9_here rfl ⟨by decide, by decide⟩ (fun _ z => ((z.o 2 rfl).fld 0 rfl)) rfl rfl (Nat.le_of_ble_eq_true rfl) dX9_numbers_21 ⟨Nat.le_of_ble_eq_true rfl, Nat.le_of_ble_eq_true rfl⟩ rfl ?_
    refine r_bipush 26 44 (hF.pu _ _ _ _) dX9_numbers_24 (by decide) rfl ?_
    have hj_26 : F 7 36 ([oC a1_ 12 [.int ((0 + 1) + 1), .ref a3_, .int (nI 2)], aC D 3 a3_ (qA 10 (va_up (va_up (fun _ => none) 0 (some a2_)) 1 (some a4_))), oC r 8 [.ref R, .int (nI (sK t ln sp 1 + nuD t ln (sK t ln sp 1))), .int it, .int (zB ab), .ref x]]) ([oC a4_ 19 [.int (nI (nuN t ln (sK t ln sp 1)))], oC a2_ 19 [.int (nI (nuN t ln sp))], oC x 1 [x0, x1, x2, x3, .ref tx, .int (nI ln), x6], aC D 2 tx (iA 80 t)]) 34 [.int (zB (decide (heC t ln (sK t ln sp 1 + nuD t ln (sK t ln sp 1)) = 44))), .ref r] [(3, .int (nI (1 + 1))), (2, .ref a1_), (0, .ref r), (1, .int (nI 4))] := by
      refine f_ups hF [2] ([oC r 8 [.ref R, .int (nI (sK t ln sp 1 + nuD t ln (sK t ln sp 1))), .int it, .int (zB ab), .ref x], oC a1_ 12 [.int ((0 + 1) + 1), .ref a3_, .int (nI 2)], aC D 3 a3_ (qA 10 (va_up (va_up (fun _ => none) 0 (some a2_)) 1 (some a4_)))]) rfl ?_
      refine g_callV 37 hG (fc_X9_pass (KS := KS) (Hb := Hb) D l hl r x R (sK t ln sp 1 + nuD t ln (sK t ln sp 1)) it ab (decide (heC t ln (sK t ln sp 1 + nuD t ln (sK t ln sp 1)) = 44))) (wr := ([oC a1_ 12 [.int ((0 + 1) + 1), .ref a3_, .int (nI 2)], aC D 3 a3_ (qA 10 (va_up (va_up (fun _ => none) 0 (some a2_)) 1 (some a4_)))])) rfl (imk [] rfl) lk_X9_64 1 yk_X9_pass rfl ⟨by decide, by decide⟩ (fun _ z => ((z.o 0 rfl).fld 0 rfl)) rfl rfl (Nat.le_of_ble_eq_true rfl) dX9_numbers_34 ⟨Nat.le_of_ble_eq_true rfl, Nat.le_of_ble_eq_true rfl⟩ rfl (fun E a ws' im' hp hx => by obtain ⟨hb, rfl, rfl, rfl⟩ := hp; exact g_out hO 0 rfl (Nat.le_of_ble_eq_true rfl) (Nat.le_of_ble_eq_true rfl) (pr_f (hNR.trans (cm_c (of_decide_eq_false hb))) rfl)) (fun r ws_ im' hp => ?_)
      obtain ⟨rfl, rfl, rfl, hp34⟩ := hp
      show F 8 43 ([oC r 8 [.ref R, .int (nI (sK t ln sp 1 + nuD t ln (sK t ln sp 1) + 1)), .int it, .int (zB ab), .ref x], oC a1_ 12 [.int ((0 + 1) + 1), .ref a3_, .int (nI 2)], aC D 3 a3_ (qA 10 (va_up (va_up (fun _ => none) 0 (some a2_)) 1 (some a4_)))]) ([oC a4_ 19 [.int (nI (nuN t ln (sK t ln sp 1)))], oC a2_ 19 [.int (nI (nuN t ln sp))], oC x 1 [x0, x1, x2, x3, .ref tx, .int (nI ln), x6], aC D 2 tx (iA 80 t)]) 37 [] [(3, .int (nI (1 + 1))), (2, .ref a1_), (0, .ref r), (1, .int (nI 4))]
      have hsl2 : sK t ln sp 2 ≤ ln := heC_p (by decide) (of_decide_eq_true hp34)
      show F 8 43 ([oC r 8 [.ref R, .int (nI (sK t ln sp 2)), .int it, .int (zB ab), .ref x], oC a1_ 12 [.int ((0 + 1) + 1), .ref a3_, .int (nI 2)], aC D 3 a3_ (qA 10 (va_up (va_up (fun _ => none) 0 (some a2_)) 1 (some a4_)))]) ([oC a4_ 19 [.int (nI (nuN t ln (sK t ln sp 1)))], oC a2_ 19 [.int (nI (nuN t ln sp))], oC x 1 [x0, x1, x2, x3, .ref tx, .int (nI ln), x6], aC D 2 tx (iA 80 t)]) 37 [] [(3, .int (nI (1 + 1))), (2, .ref a1_), (0, .ref r), (1, .int (nI 4))]
      refine r_aload_n 38 1 (hF.pu _ _ _ _) dX9_numbers_37 rfl rfl ?_
      refine r_aload_n 39 2 (hF.pu _ _ _ _) dX9_numbers_38 rfl rfl ?_
      refine g_callV 42 hG (fc_X9_number (KS := KS) (Hb := Hb) D l hl r x R tx (sK t ln sp 2) it ab x0 x1 x2 x3 x6 t ln hln hch (by omega)) (wr := ([oC a1_ 12 [.int ((0 + 1) + 1), .ref a3_, .int (nI 2)], aC D 3 a3_ (qA 10 (va_up (va_up (fun _ => none) 0 (some a2_)) 1 (some a4_)))])) rfl (imk [2, 3] rfl) lk_X9_71 0 yk_X9_number rfl ⟨by decide, by decide⟩ (fun _ z => ((z.o 0 rfl).fld 0 rfl)) rfl rfl (Nat.le_of_ble_eq_true rfl) dX9_numbers_39 ⟨Nat.le_of_ble_eq_true rfl, Nat.le_of_ble_eq_true rfl⟩ rfl (fun E a ws' im' hp hx => by obtain ⟨hb, rfl, rfl, rfl⟩ := hp; exact g_out hO 0 rfl (Nat.le_of_ble_eq_true rfl) (Nat.le_of_ble_eq_true rfl) (pr_f (hNR.trans (cm_f (of_decide_eq_true hp34) hb)) rfl)) (fun r ws_ im' hp => ?_)
      obtain ⟨rfl, rfl, rfl, hp39⟩ := hp
      show F 9 50 ([oC r 8 [.ref R, .int (nI (sK t ln sp 2 + nuD t ln (sK t ln sp 2))), .int it, .int (zB ab), .ref x], oC a1_ 12 [.int ((0 + 1) + 1), .ref a3_, .int (nI 2)], aC D 3 a3_ (qA 10 (va_up (va_up (fun _ => none) 0 (some a2_)) 1 (some a4_)))]) ([oC a4_ 19 [.int (nI (nuN t ln (sK t ln sp 1)))], oC a2_ 19 [.int (nI (nuN t ln sp))], oC x 1 [x0, x1, x2, x3, .ref tx, .int (nI ln), x6], aC D 2 tx (iA 80 t)]) 42 [.int (nuA t (sK t ln sp 2) (nuD t ln (sK t ln sp 2))), .ref a1_] [(3, .int (nI (1 + 1))), (2, .ref a1_), (0, .ref r), (1, .int (nI 4))]
      have hNR := hNR.trans (cm_s (of_decide_eq_true hp34) hp39)
      have hle2 := (nuC_le (t := t) (ln := ln) 4 (sK t ln sp 2) (by omega)).1
      have hn2 : nuN t ln (sK t ln sp 2) ≤ 9999 := (nuN_of (by omega)).2
      refine r_eqi (nI (nuN t ln (sK t ln sp 2))) (nuN_of (by omega)).1 ?_
      refine f_callS 45 hF (fc_J28_valueOf (KS := KS) (Hb := Hb) D l (nuN t ln (sK t ln sp 2)) (by assumption)) (wr := ([oC r 8 [.ref R, .int (nI (sK t ln sp 2 + nuD t ln (sK t ln sp 2))), .int it, .int (zB ab), .ref x], oC a1_ 12 [.int ((0 + 1) + 1), .ref a3_, .int (nI 2)], aC D 3 a3_ (qA 10 (va_up (va_up (fun _ => none) 0 (some a2_)) 1 (some a4_)))])) rfl (imk [] rfl) lk_X9_75 1 yk_J28_valueOf rfl ⟨by decide, by decide⟩ rfl (Nat.le_of_ble_eq_true rfl) dX9_numbers_42 ⟨Nat.le_of_ble_eq_true rfl, Nat.le_of_ble_eq_true rfl⟩ rfl (fun r ws_ im' hp => ?_)
      obtain ⟨a5_, rfl, rfl, rfl⟩ := hp
      show F 10 51 ([oC r 8 [.ref R, .int (nI (sK t ln sp 2 + nuD t ln (sK t ln sp 2))), .int it, .int (zB ab), .ref x], oC a1_ 12 [.int ((0 + 1) + 1), .ref a3_, .int (nI 2)], aC D 3 a3_ (qA 10 (va_up (va_up (fun _ => none) 0 (some a2_)) 1 (some a4_)))]) ([oC a5_ 19 [.int (nI (nuN t ln (sK t ln sp 2)))], oC a4_ 19 [.int (nI (nuN t ln (sK t ln sp 1)))], oC a2_ 19 [.int (nI (nuN t ln sp))], oC x 1 [x0, x1, x2, x3, .ref tx, .int (nI ln), x6], aC D 2 tx (iA 80 t)]) 45 [.ref a5_, .ref a1_] [(3, .int (nI (1 + 1))), (2, .ref a1_), (0, .ref r), (1, .int (nI 4))]
      refine f_ups hF [2] ([aC D 3 a3_ (qA 10 (va_up (va_up (fun _ => none) 0 (some a2_)) 1 (some a4_))), oC r 8 [.ref R, .int (nI (sK t ln sp 2 + nuD t ln (sK t ln sp 2))), .int it, .int (zB ab), .ref x], oC a1_ 12 [.int ((0 + 1) + 1), .ref a3_, .int (nI 2)]]) rfl ?_
      refine f_ups hF [2] ([oC a1_ 12 [.int ((0 + 1) + 1), .ref a3_, .int (nI 2)], aC D 3 a3_ (qA 10 (va_up (va_up (fun _ => none) 0 (some a2_)) 1 (some a4_))), oC r 8 [.ref R, .int (nI (sK t ln sp 2 + nuD t ln (sK t ln sp 2))), .int it, .int (zB ab), .ref x]]) rfl ?_
      refine f_callV 48 hF (fc_J8_add_n (KS := KS) (Hb := Hb) D l a1_ a3_ 2 a5_ ((0 + 1) + 1) (va_up (va_up (fun _ => none) 0 (some a2_)) 1 (some a4_)) (by omega) [] [oC a5_ 19 [.int (nI (nuN t ln (sK t ln sp 2)))]] (fun H h => anyK.ofob (h _ List.mem_cons_self) rfl nw_q3968)) (wr := ([oC r 8 [.ref R, .int (nI (sK t ln sp 2 + nuD t ln (sK t ln sp 2))), .int it, .int (zB ab), .ref x]])) rfl (imk [0] rfl) lk_X9_81 1 yk_J8_add rfl ⟨by decide, by decide⟩ (fun _ z => ((z.o 0 rfl).fld 0 rfl)) rfl rfl (Nat.le_of_ble_eq_true rfl) dX9_numbers_45 ⟨Nat.le_of_ble_eq_true rfl, Nat.le_of_ble_eq_true rfl⟩ rfl (fun r ws_ im' hp => ?_)
      obtain ⟨rfl, rfl, rfl⟩ := hp
      show F 10 51 ([oC a1_ 12 [.int (((0 + 1) + 1) + 1), .ref a3_, .int (nI 3)], aC D 3 a3_ (qA 10 (va_up (va_up (va_up (fun _ => none) 0 (some a2_)) 1 (some a4_)) 2 (some a5_))), oC r 8 [.ref R, .int (nI (sK t ln sp 2 + nuD t ln (sK t ln sp 2))), .int it, .int (zB ab), .ref x]]) ([oC a5_ 19 [.int (nI (nuN t ln (sK t ln sp 2)))], oC a4_ 19 [.int (nI (nuN t ln (sK t ln sp 1)))], oC a2_ 19 [.int (nI (nuN t ln sp))], oC x 1 [x0, x1, x2, x3, .ref tx, .int (nI ln), x6], aC D 2 tx (iA 80 t)]) 48 [.int 1] [(3, .int (nI (1 + 1))), (2, .ref a1_), (0, .ref r), (1, .int (nI 4))]
      refine r_pop 49 (hF.pu _ _ _ _) dX9_numbers_48 rfl rfl ?_
      refine r_iinc 52 (nI (2 + 1)) 0 [(3, .int (nI (2 + 1))), (2, .ref a1_), (0, .ref r), (1, .int (nI 4))] (hF.pu _ _ _ _) dX9_numbers_49 rfl (nI_1 2) (by decide) rfl rfl ?_
      refine r_goto 10 (hF.pu _ _ _ _) dX9_numbers_52 (by decide) ?_
      refine r_iload_n 11 0 (hF.pu _ _ _ _) dX9_numbers_10 rfl rfl ?_
      refine r_iload_n 12 3 (hF.pu _ _ _ _) dX9_numbers_11 rfl rfl ?_
      refine r_icmp_geN 3 4 15 55 (hF.pu _ _ _ _) dX9_numbers_12 (by omega) (by omega) (by decide) (fun c12 => absurd c12 (by decide)) rfl (fun c12 => ?_)
      refine r_iload_n 16 0 (hF.pu _ _ _ _) dX9_numbers_15 rfl rfl ?_
      refine r_if_le 19 37 (hF.pu _ _ _ _) dX9_numbers_16 (by decide) (fun c => absurd c (by decide)) rfl (fun _ => ?_)
      refine r_aload_n 20 2 (hF.pu _ _ _ _) dX9_numbers_19 rfl rfl ?_
      refine r_aload_n 21 2 (hF.pu _ _ _ _) dX9_numbers_20 rfl rfl ?_
      refine f_callp 24 hF (fun _ z => cp_X9_here D l r x tx (sK t ln sp 2 + nuD t ln (sK t ln sp 2)) t ln hln hch (by omega) ((z.o 2 rfl).fld 1 rfl) ((z.o 2 rfl).fld 4 rfl) ((z.mo 3 rfl).fld 4 rfl) ((z.mo 3 rfl).fld 5 rfl) (z.ma 4 rfl)) lk_X9_52 0 yk_X9_here rfl ⟨by decide, by decide⟩ (fun _ z => ((z.o 2 rfl).fld 0 rfl)) rfl rfl (Nat.le_of_ble_eq_true rfl) dX9_numbers_21 ⟨Nat.le_of_ble_eq_true rfl, Nat.le_of_ble_eq_true rfl⟩ rfl ?_
      refine r_bipush 26 44 (hF.pu _ _ _ _) dX9_numbers_24 (by decide) rfl ?_
      have hj_26 : F 10 51 ([oC a1_ 12 [.int (((0 + 1) + 1) + 1), .ref a3_, .int (nI 3)], aC D 3 a3_ (qA 10 (va_up (va_up (va_up (fun _ => none) 0 (some a2_)) 1 (some a4_)) 2 (some a5_))), oC r 8 [.ref R, .int (nI (sK t ln sp 2 + nuD t ln (sK t ln sp 2))), .int it, .int (zB ab), .ref x]]) ([oC a5_ 19 [.int (nI (nuN t ln (sK t ln sp 2)))], oC a4_ 19 [.int (nI (nuN t ln (sK t ln sp 1)))], oC a2_ 19 [.int (nI (nuN t ln sp))], oC x 1 [x0, x1, x2, x3, .ref tx, .int (nI ln), x6], aC D 2 tx (iA 80 t)]) 34 [.int (zB (decide (heC t ln (sK t ln sp 2 + nuD t ln (sK t ln sp 2)) = 44))), .ref r] [(3, .int (nI (2 + 1))), (2, .ref a1_), (0, .ref r), (1, .int (nI 4))] := by
        refine f_ups hF [2] ([oC r 8 [.ref R, .int (nI (sK t ln sp 2 + nuD t ln (sK t ln sp 2))), .int it, .int (zB ab), .ref x], oC a1_ 12 [.int (((0 + 1) + 1) + 1), .ref a3_, .int (nI 3)], aC D 3 a3_ (qA 10 (va_up (va_up (va_up (fun _ => none) 0 (some a2_)) 1 (some a4_)) 2 (some a5_)))]) rfl ?_
        refine g_callV 37 hG (fc_X9_pass (KS := KS) (Hb := Hb) D l hl r x R (sK t ln sp 2 + nuD t ln (sK t ln sp 2)) it ab (decide (heC t ln (sK t ln sp 2 + nuD t ln (sK t ln sp 2)) = 44))) (wr := ([oC a1_ 12 [.int (((0 + 1) + 1) + 1), .ref a3_, .int (nI 3)], aC D 3 a3_ (qA 10 (va_up (va_up (va_up (fun _ => none) 0 (some a2_)) 1 (some a4_)) 2 (some a5_)))])) rfl (imk [] rfl) lk_X9_64 1 yk_X9_pass rfl ⟨by decide, by decide⟩ (fun _ z => ((z.o 0 rfl).fld 0 rfl)) rfl rfl (Nat.le_of_ble_eq_true rfl) dX9_numbers_34 ⟨Nat.le_of_ble_eq_true rfl, Nat.le_of_ble_eq_true rfl⟩ rfl (fun E a ws' im' hp hx => by obtain ⟨hb, rfl, rfl, rfl⟩ := hp; exact g_out hO 0 rfl (Nat.le_of_ble_eq_true rfl) (Nat.le_of_ble_eq_true rfl) (pr_f (hNR.trans (cm_c (of_decide_eq_false hb))) rfl)) (fun r ws_ im' hp => ?_)
        obtain ⟨rfl, rfl, rfl, hp34⟩ := hp
        show F 11 58 ([oC r 8 [.ref R, .int (nI (sK t ln sp 2 + nuD t ln (sK t ln sp 2) + 1)), .int it, .int (zB ab), .ref x], oC a1_ 12 [.int (((0 + 1) + 1) + 1), .ref a3_, .int (nI 3)], aC D 3 a3_ (qA 10 (va_up (va_up (va_up (fun _ => none) 0 (some a2_)) 1 (some a4_)) 2 (some a5_)))]) ([oC a5_ 19 [.int (nI (nuN t ln (sK t ln sp 2)))], oC a4_ 19 [.int (nI (nuN t ln (sK t ln sp 1)))], oC a2_ 19 [.int (nI (nuN t ln sp))], oC x 1 [x0, x1, x2, x3, .ref tx, .int (nI ln), x6], aC D 2 tx (iA 80 t)]) 37 [] [(3, .int (nI (2 + 1))), (2, .ref a1_), (0, .ref r), (1, .int (nI 4))]
        have hsl3 : sK t ln sp 3 ≤ ln := heC_p (by decide) (of_decide_eq_true hp34)
        show F 11 58 ([oC r 8 [.ref R, .int (nI (sK t ln sp 3)), .int it, .int (zB ab), .ref x], oC a1_ 12 [.int (((0 + 1) + 1) + 1), .ref a3_, .int (nI 3)], aC D 3 a3_ (qA 10 (va_up (va_up (va_up (fun _ => none) 0 (some a2_)) 1 (some a4_)) 2 (some a5_)))]) ([oC a5_ 19 [.int (nI (nuN t ln (sK t ln sp 2)))], oC a4_ 19 [.int (nI (nuN t ln (sK t ln sp 1)))], oC a2_ 19 [.int (nI (nuN t ln sp))], oC x 1 [x0, x1, x2, x3, .ref tx, .int (nI ln), x6], aC D 2 tx (iA 80 t)]) 37 [] [(3, .int (nI (2 + 1))), (2, .ref a1_), (0, .ref r), (1, .int (nI 4))]
        refine r_aload_n 38 1 (hF.pu _ _ _ _) dX9_numbers_37 rfl rfl ?_
        refine r_aload_n 39 2 (hF.pu _ _ _ _) dX9_numbers_38 rfl rfl ?_
        refine g_callV 42 hG (fc_X9_number (KS := KS) (Hb := Hb) D l hl r x R tx (sK t ln sp 3) it ab x0 x1 x2 x3 x6 t ln hln hch (by omega)) (wr := ([oC a1_ 12 [.int (((0 + 1) + 1) + 1), .ref a3_, .int (nI 3)], aC D 3 a3_ (qA 10 (va_up (va_up (va_up (fun _ => none) 0 (some a2_)) 1 (some a4_)) 2 (some a5_)))])) rfl (imk [3, 4] rfl) lk_X9_71 0 yk_X9_number rfl ⟨by decide, by decide⟩ (fun _ z => ((z.o 0 rfl).fld 0 rfl)) rfl rfl (Nat.le_of_ble_eq_true rfl) dX9_numbers_39 ⟨Nat.le_of_ble_eq_true rfl, Nat.le_of_ble_eq_true rfl⟩ rfl (fun E a ws' im' hp hx => by obtain ⟨hb, rfl, rfl, rfl⟩ := hp; exact g_out hO 0 rfl (Nat.le_of_ble_eq_true rfl) (Nat.le_of_ble_eq_true rfl) (pr_f (hNR.trans (cm_f (of_decide_eq_true hp34) hb)) rfl)) (fun r ws_ im' hp => ?_)
        obtain ⟨rfl, rfl, rfl, hp39⟩ := hp
        show F 12 65 ([oC r 8 [.ref R, .int (nI (sK t ln sp 3 + nuD t ln (sK t ln sp 3))), .int it, .int (zB ab), .ref x], oC a1_ 12 [.int (((0 + 1) + 1) + 1), .ref a3_, .int (nI 3)], aC D 3 a3_ (qA 10 (va_up (va_up (va_up (fun _ => none) 0 (some a2_)) 1 (some a4_)) 2 (some a5_)))]) ([oC a5_ 19 [.int (nI (nuN t ln (sK t ln sp 2)))], oC a4_ 19 [.int (nI (nuN t ln (sK t ln sp 1)))], oC a2_ 19 [.int (nI (nuN t ln sp))], oC x 1 [x0, x1, x2, x3, .ref tx, .int (nI ln), x6], aC D 2 tx (iA 80 t)]) 42 [.int (nuA t (sK t ln sp 3) (nuD t ln (sK t ln sp 3))), .ref a1_] [(3, .int (nI (2 + 1))), (2, .ref a1_), (0, .ref r), (1, .int (nI 4))]
        have hNR := hNR.trans (cm_s (of_decide_eq_true hp34) hp39)
        have hle3 := (nuC_le (t := t) (ln := ln) 4 (sK t ln sp 3) (by omega)).1
        have hn3 : nuN t ln (sK t ln sp 3) ≤ 9999 := (nuN_of (by omega)).2
        refine r_eqi (nI (nuN t ln (sK t ln sp 3))) (nuN_of (by omega)).1 ?_
        refine f_callS 45 hF (fc_J28_valueOf (KS := KS) (Hb := Hb) D l (nuN t ln (sK t ln sp 3)) (by assumption)) (wr := ([oC r 8 [.ref R, .int (nI (sK t ln sp 3 + nuD t ln (sK t ln sp 3))), .int it, .int (zB ab), .ref x], oC a1_ 12 [.int (((0 + 1) + 1) + 1), .ref a3_, .int (nI 3)], aC D 3 a3_ (qA 10 (va_up (va_up (va_up (fun _ => none) 0 (some a2_)) 1 (some a4_)) 2 (some a5_)))])) rfl (imk [] rfl) lk_X9_75 1 yk_J28_valueOf rfl ⟨by decide, by decide⟩ rfl (Nat.le_of_ble_eq_true rfl) dX9_numbers_42 ⟨Nat.le_of_ble_eq_true rfl, Nat.le_of_ble_eq_true rfl⟩ rfl (fun r ws_ im' hp => ?_)
        obtain ⟨a6_, rfl, rfl, rfl⟩ := hp
        show F 13 66 ([oC r 8 [.ref R, .int (nI (sK t ln sp 3 + nuD t ln (sK t ln sp 3))), .int it, .int (zB ab), .ref x], oC a1_ 12 [.int (((0 + 1) + 1) + 1), .ref a3_, .int (nI 3)], aC D 3 a3_ (qA 10 (va_up (va_up (va_up (fun _ => none) 0 (some a2_)) 1 (some a4_)) 2 (some a5_)))]) ([oC a6_ 19 [.int (nI (nuN t ln (sK t ln sp 3)))], oC a5_ 19 [.int (nI (nuN t ln (sK t ln sp 2)))], oC a4_ 19 [.int (nI (nuN t ln (sK t ln sp 1)))], oC a2_ 19 [.int (nI (nuN t ln sp))], oC x 1 [x0, x1, x2, x3, .ref tx, .int (nI ln), x6], aC D 2 tx (iA 80 t)]) 45 [.ref a6_, .ref a1_] [(3, .int (nI (2 + 1))), (2, .ref a1_), (0, .ref r), (1, .int (nI 4))]
        refine f_ups hF [2] ([aC D 3 a3_ (qA 10 (va_up (va_up (va_up (fun _ => none) 0 (some a2_)) 1 (some a4_)) 2 (some a5_))), oC r 8 [.ref R, .int (nI (sK t ln sp 3 + nuD t ln (sK t ln sp 3))), .int it, .int (zB ab), .ref x], oC a1_ 12 [.int (((0 + 1) + 1) + 1), .ref a3_, .int (nI 3)]]) rfl ?_
        refine f_ups hF [2] ([oC a1_ 12 [.int (((0 + 1) + 1) + 1), .ref a3_, .int (nI 3)], aC D 3 a3_ (qA 10 (va_up (va_up (va_up (fun _ => none) 0 (some a2_)) 1 (some a4_)) 2 (some a5_))), oC r 8 [.ref R, .int (nI (sK t ln sp 3 + nuD t ln (sK t ln sp 3))), .int it, .int (zB ab), .ref x]]) rfl ?_
        refine f_callV 48 hF (fc_J8_add_n (KS := KS) (Hb := Hb) D l a1_ a3_ 3 a6_ (((0 + 1) + 1) + 1) (va_up (va_up (va_up (fun _ => none) 0 (some a2_)) 1 (some a4_)) 2 (some a5_)) (by omega) [] [oC a6_ 19 [.int (nI (nuN t ln (sK t ln sp 3)))]] (fun H h => anyK.ofob (h _ List.mem_cons_self) rfl nw_q3968)) (wr := ([oC r 8 [.ref R, .int (nI (sK t ln sp 3 + nuD t ln (sK t ln sp 3))), .int it, .int (zB ab), .ref x]])) rfl (imk [0] rfl) lk_X9_81 1 yk_J8_add rfl ⟨by decide, by decide⟩ (fun _ z => ((z.o 0 rfl).fld 0 rfl)) rfl rfl (Nat.le_of_ble_eq_true rfl) dX9_numbers_45 ⟨Nat.le_of_ble_eq_true rfl, Nat.le_of_ble_eq_true rfl⟩ rfl (fun r ws_ im' hp => ?_)
        obtain ⟨rfl, rfl, rfl⟩ := hp
        show F 13 66 ([oC a1_ 12 [.int ((((0 + 1) + 1) + 1) + 1), .ref a3_, .int (nI 4)], aC D 3 a3_ (qA 10 (va_up (va_up (va_up (va_up (fun _ => none) 0 (some a2_)) 1 (some a4_)) 2 (some a5_)) 3 (some a6_))), oC r 8 [.ref R, .int (nI (sK t ln sp 3 + nuD t ln (sK t ln sp 3))), .int it, .int (zB ab), .ref x]]) ([oC a6_ 19 [.int (nI (nuN t ln (sK t ln sp 3)))], oC a5_ 19 [.int (nI (nuN t ln (sK t ln sp 2)))], oC a4_ 19 [.int (nI (nuN t ln (sK t ln sp 1)))], oC a2_ 19 [.int (nI (nuN t ln sp))], oC x 1 [x0, x1, x2, x3, .ref tx, .int (nI ln), x6], aC D 2 tx (iA 80 t)]) 48 [.int 1] [(3, .int (nI (2 + 1))), (2, .ref a1_), (0, .ref r), (1, .int (nI 4))]
        refine r_pop 49 (hF.pu _ _ _ _) dX9_numbers_48 rfl rfl ?_
        refine r_iinc 52 (nI (3 + 1)) 0 [(3, .int (nI (3 + 1))), (2, .ref a1_), (0, .ref r), (1, .int (nI 4))] (hF.pu _ _ _ _) dX9_numbers_49 rfl (nI_1 3) (by decide) rfl rfl ?_
        refine r_goto 10 (hF.pu _ _ _ _) dX9_numbers_52 (by decide) ?_
        refine r_iload_n 11 0 (hF.pu _ _ _ _) dX9_numbers_10 rfl rfl ?_
        refine r_iload_n 12 3 (hF.pu _ _ _ _) dX9_numbers_11 rfl rfl ?_
        refine r_icmp_geN 4 4 15 55 (hF.pu _ _ _ _) dX9_numbers_12 (by omega) (by omega) (by decide) (fun c12 => ?_) rfl (fun c12 => absurd c12 (by decide))
        refine r_aload_n 56 1 (hF.pu _ _ _ _) dX9_numbers_55 rfl rfl ?_
        refine f_callS 59 hF (fc_J41_unmodifiableList (KS := KS) (Hb := Hb) D l a1_ a3_ 4 ((((0 + 1) + 1) + 1) + 1)) (wr := ([aC D 3 a3_ (qA 10 (va_up (va_up (va_up (va_up (fun _ => none) 0 (some a2_)) 1 (some a4_)) 2 (some a5_)) 3 (some a6_))), oC r 8 [.ref R, .int (nI (sK t ln sp 3 + nuD t ln (sK t ln sp 3))), .int it, .int (zB ab), .ref x]])) rfl (imk [] rfl) lk_X9_85 1 yk_J41_unmodifiableList rfl ⟨by decide, by decide⟩ rfl (Nat.le_of_ble_eq_true rfl) dX9_numbers_56 ⟨Nat.le_of_ble_eq_true rfl, Nat.le_of_ble_eq_true rfl⟩ rfl (fun r ws_ im' hp => ?_)
        obtain ⟨a7_, rfl, rfl, rfl⟩ := hp
        show F 14 68 ([oC a7_ 21 [.ref a1_, .ref a1_], oC a1_ 12 [.int ((((0 + 1) + 1) + 1) + 1), .ref a3_, .int (nI 4)], aC D 3 a3_ (qA 10 (va_up (va_up (va_up (va_up (fun _ => none) 0 (some a2_)) 1 (some a4_)) 2 (some a5_)) 3 (some a6_))), oC r 8 [.ref R, .int (nI (sK t ln sp 3 + nuD t ln (sK t ln sp 3))), .int it, .int (zB ab), .ref x]]) ([oC a6_ 19 [.int (nI (nuN t ln (sK t ln sp 3)))], oC a5_ 19 [.int (nI (nuN t ln (sK t ln sp 2)))], oC a4_ 19 [.int (nI (nuN t ln (sK t ln sp 1)))], oC a2_ 19 [.int (nI (nuN t ln sp))], oC x 1 [x0, x1, x2, x3, .ref tx, .int (nI ln), x6], aC D 2 tx (iA 80 t)]) 59 [.ref a7_] [(3, .int (nI (3 + 1))), (2, .ref a1_), (0, .ref r), (1, .int (nI 4))]
        refine f_ups hF [2] ([aC D 3 a3_ (qA 10 (va_up (va_up (va_up (va_up (fun _ => none) 0 (some a2_)) 1 (some a4_)) 2 (some a5_)) 3 (some a6_))), oC a7_ 21 [.ref a1_, .ref a1_], oC a1_ 12 [.int ((((0 + 1) + 1) + 1) + 1), .ref a3_, .int (nI 4)], oC r 8 [.ref R, .int (nI (sK t ln sp 3 + nuD t ln (sK t ln sp 3))), .int it, .int (zB ab), .ref x]]) rfl ?_
        refine f_frz hF ?_
        refine f_ups hF [1] ([oC a1_ 12 [.int ((((0 + 1) + 1) + 1) + 1), .ref a3_, .int (nI 4)], oC a7_ 21 [.ref a1_, .ref a1_], oC r 8 [.ref R, .int (nI (sK t ln sp 3 + nuD t ln (sK t ln sp 3))), .int it, .int (zB ab), .ref x]]) rfl ?_
        refine f_frz hF ?_
        refine f_frz hF ?_
        refine f_imsub hF [oC a7_ 21 [.ref a1_, .ref a1_], oC a1_ 12 [.int ((((0 + 1) + 1) + 1) + 1), .ref a3_, .int (nI 4)], aC D 3 a3_ (qA 10 (va_up (va_up (va_up (va_up (fun _ => none) 0 (some a2_)) 1 (some a4_)) 2 (some a5_)) 3 (some a6_))), oC a2_ 19 [.int (nI (nuN t ln sp))], oC a4_ 19 [.int (nI (nuN t ln (sK t ln sp 1)))], oC a5_ 19 [.int (nI (nuN t ln (sK t ln sp 2)))], oC a6_ 19 [.int (nI (nuN t ln (sK t ln sp 3)))]] (imk [0, 1, 2, 6, 5, 4, 3] rfl) ?_
        exact FR.a hR (Or.inl ⟨_, rfl⟩) dX9_numbers_59 (Nat.le_of_ble_eq_true rfl) (Nat.le_of_ble_eq_true rfl) ⟨_, _, _, _, _, _, _, rfl, rfl, rfl, hNR⟩
      refine r_icmp_ne 29 33 (hF.pu _ _ _ _) dX9_numbers_26 (by decide) (fun c26 => ?_) rfl (fun c26 => ?_)
      · refine r_iconst 34 0 (hF.pu _ _ _ _) dX9_numbers_33 (by decide) rfl ?_
        refine r_eqi (zB (decide (heC t ln (sK t ln sp 2 + nuD t ln (sK t ln sp 2)) = 44))) (by simp [*, zB]) ?_
        exact hj_26
      · refine r_iconst 30 1 (hF.pu _ _ _ _) dX9_numbers_29 (by decide) rfl ?_
        refine r_goto 34 (hF.pu _ _ _ _) dX9_numbers_30 (by decide) ?_
        refine r_eqi (zB (decide (heC t ln (sK t ln sp 2 + nuD t ln (sK t ln sp 2)) = 44))) (by simp [*, zB]) ?_
        exact hj_26
    refine r_icmp_ne 29 33 (hF.pu _ _ _ _) dX9_numbers_26 (by decide) (fun c26 => ?_) rfl (fun c26 => ?_)
    · refine r_iconst 34 0 (hF.pu _ _ _ _) dX9_numbers_33 (by decide) rfl ?_
      refine r_eqi (zB (decide (heC t ln (sK t ln sp 1 + nuD t ln (sK t ln sp 1)) = 44))) (by simp [*, zB]) ?_
      exact hj_26
    · refine r_iconst 30 1 (hF.pu _ _ _ _) dX9_numbers_29 (by decide) rfl ?_
      refine r_goto 34 (hF.pu _ _ _ _) dX9_numbers_30 (by decide) ?_
      refine r_eqi (zB (decide (heC t ln (sK t ln sp 1 + nuD t ln (sK t ln sp 1)) = 44))) (by simp [*, zB]) ?_
      exact hj_26
  refine r_icmp_ne 29 33 (hF.pu _ _ _ _) dX9_numbers_26 (by decide) (fun c26 => ?_) rfl (fun c26 => ?_)
  · refine r_iconst 34 0 (hF.pu _ _ _ _) dX9_numbers_33 (by decide) rfl ?_
    refine r_eqi (zB (decide (heC t ln (sp + nuD t ln sp) = 44))) (by simp [*, zB]) ?_
    exact hj_26
  · refine r_iconst 30 1 (hF.pu _ _ _ _) dX9_numbers_29 (by decide) rfl ?_
    refine r_goto 34 (hF.pu _ _ _ _) dX9_numbers_30 (by decide) ?_
    refine r_eqi (zB (decide (heC t ln (sp + nuD t ln sp) = 44))) (by simp [*, zB]) ?_
    exact hj_26
