theorem is_f {t : Nat → Int32} {ln f n sp : Nat} {od : Bool} {g : Nat → Int32} (hb : (itR t ln sp od g).1 = false) : (isR t ln (f + 1) n sp od g).1.1 = false ∧ (itR t ln sp od g).2.1 = (isR t ln (f + 1) n sp od g).1.2.1 := by
  rw [isR]
  generalize itR t ln sp od g = S at hb
  obtain ⟨b, s, o, u⟩ := S
  simp only at hb
  subst hb
  exact ⟨rfl, rfl⟩
theorem is_s {t : Nat → Int32} {ln f n sp at1 : Nat} {od od1 : Bool} {g g1 : Nat → Int32} (h : itR t ln sp od g = (true, at1, od1, g1)) : isR t ln (f + 1) n sp od g = if heV t ln at1 = 59 then isR t ln f (n + 1) (at1 + 1) od1 g1 else ((decide (¬ at1 < ln), at1, od1, g1), n + 1) := by
  rw [isR, h]
theorem heV59 {t : Nat → Int32} {ln p : Nat} : heC t ln p = 59 ↔ heV t ln p = 59 := heC_eq (by decide) (by decide)
theorem if_p {t : Nat → Int32} {ln p n : Nat} {od : Bool} {g : Nat → Int32} {X S : PR × Nat} (his : S = if heV t ln p = 59 then X else ((decide (¬ p < ln), p, od, g), n)) (hb : decide (heC t ln p = 59) = false) (hl : p < ln) : S.1.1 = false ∧ p = S.1.2.1 := by
  rw [if_neg (fun z => of_decide_eq_false hb (heV59.mpr z))] at his
  subst his
  exact ⟨decide_eq_false (fun z => z hl), rfl⟩
theorem if_e {t : Nat → Int32} {ln p n : Nat} {od : Bool} {g : Nat → Int32} {X S : PR × Nat} (his : S = if heV t ln p = 59 then X else ((decide (¬ p < ln), p, od, g), n)) (hl : ¬ p < ln) : S = ((true, p, od, g), n) := by
  rw [if_neg (fun z => hl (heC_p (by decide) (heV59.mpr z))), decide_eq_true hl] at his
  exact his
def allP (D : DD) (r x R : Nat) (pf : Nat → Nat) (t : Nat → Int32) (ln : Nat) (g : Nat → Int32) (iv : va_W) (B : Nat) : Option Value → va_W → va_W → Prop := fun r_ w i => ∃ at' n' od' g' rb' nb' nch' ncr' f4' f6' U', r_ = none ∧ w = oC r 8 [.ref R, .int (nI at'), .int (nI n'), .int (zB (!od')), .ref x] :: U' ∧ isR t ln (ln + 1) 0 0 false g = ((true, at', od', g'), n') ∧ ruS D R g' rb' nch' f4' ncr' f6' U' ∧ ivS D g' pf rb' nb' nch' f4' ncr' f6' (i ++ iv) ∧ rcI g' nb' nch' ncr' ∧ RNG g' ∧ (od' = false → alG g' nb' nch' ncr' = true) ∧ 5 * nch' + 9 * ncr' ≤ B ∧ n' ≤ ln ∧ ∀ q ∈ i, ¬ q.1 = x
theorem im_in {a b : Nat × va_E} {N M : va_W} : ∀ q ∈ a :: b :: (N ++ M), q ∈ N ++ (a :: b :: M) := fun q h => by
  simp only [List.mem_cons, List.mem_append] at h ⊢
  rcases h with h | h | h | h <;> simp [h]
theorem lk_X9_182 : GoodIn lw_all (wsV RX9 182 yX9_item.cls yX9_item (ws_ yX9_item cX9_item 2 none)) := lw_V q2071 q2073 qs34 q131 q2074
theorem yk_X9_item : yOk yX9_item 0 := by decide +kernel
set_option maxHeartbeats 4000000 in
theorem fc_X9_all (D : DD) (l : Launch) (hl : l.stackTraces = false) {KS : Nat → Prop} {Hb : Heap} (r x R tx : Nat) (x0 x1 x2 x3 x6 : Value) (t : Nat → Int32) (ln : Nat) (hln : ln ≤ 80) (hch : ∀ i, i < ln → inB (t i) 33 126 = true) (rb nb nch ncr : Nat) (g : Nat → Int32) (pf f4 f6 : Nat → Nat) (U iv : va_W) (hr : ruS D R g rb nch f4 ncr f6 U) (hi : ivS D g pf rb nb nch f4 ncr f6 iv) (hn1 : 0 < nb) (hn6 : nb ≤ 6) (hnc : nch ≤ 4) (hc2 : ncr ≤ 2) (h0 : g 0 = nI nb) (h18 : g 18 = nI nch) (h27 : g 27 = nI ncr) (hl23 : ln ≤ 23) (hal : alG g nb nch ncr = true) (hrg : RNG g) (B : Nat) (hB : 5 * nch + 9 * ncr + ln + 1 ≤ B) (hB24 : B ≤ 24) : Gc D l yX9_all cX9_all 1 none 12 1464 7368 321 KS Hb [.ref r] (oC r 8 [.ref R, .int (nI 0), .int (nI 0), .int (zB true), .ref x] :: U) ((oC x 1 [x0, x1, x2, x3, .ref tx, .int (nI ln), x6]) :: (aC D 2 tx (iA 80 t)) :: iv) (allP D r x R pf t ln g iv B) (pxF ((isR t ln (ln + 1) 0 0 false g).1.1 = false) (isR t ln (ln + 1) 0 0 false g).1.2.1) := by
  refine Gc.of hl (by decide) (Nat.le_of_ble_eq_true rfl) (fun s F X hG hR hO => ?_)
  have hF := hG.f
  show F 0 0 ((oC r 8 [.ref R, .int (nI 0), .int (nI 0), .int (zB true), .ref x]) :: U) ((oC x 1 [x0, x1, x2, x3, .ref tx, .int (nI ln), x6]) :: (aC D 2 tx (iA 80 t)) :: iv) 0 [] [(0, .ref r)]
  refine r_aload_n 1 0 (hF.pu _ _ _ _) dX9_all_0 rfl rfl ?_
  refine g_callV 4 hG (fc_X9_item (KS := KS) (Hb := Hb) D l hl r x R tx 0 (nI 0) true x0 x1 x2 x3 x6 t ln hln hch (by omega) false rfl rb nb nch ncr g pf f4 f6 _ iv hr hi hn1 hn6 hnc hc2 h0 h18 h27 hl23 (fun _ => hal) hrg B (by omega) hB24) (wr := []) (List.append_nil _).symm (fun _ h => h) lk_X9_182 0 yk_X9_item rfl ⟨by decide, by decide⟩ (fun _ z => ((z.o 0 rfl).fld 0 rfl)) rfl rfl (Nat.le_of_ble_eq_true rfl) dX9_all_1 ⟨by show 60 ≤ 1464; omega, by show 300 ≤ 7368; omega⟩ rfl (fun E a ws' im' hp hx => by obtain ⟨hb, rfl, rfl, rfl⟩ := hp; exact g_out hO 0 rfl (by omega) (by omega) (is_f hb)) (fun r_ ws_ im1 hp => ?_)
  obtain ⟨at1, od1, g1, rb1, nb1, nch1, ncr1, f41, f61, U1, rfl, rfl, hit1, hr1, hi1, hrc1, hrn1, hal1, hbu1, hnx1⟩ := hp
  have hle := itR_le (t := t) (ln := ln) (sp := 0) (od := false) (tr := g) (by omega)
  rw [hit1] at hle
  have hle1 := hle.2.1
  have hle2 := hle.2.2 rfl
  simp only at hle1 hle2
  refine f_eqw _ (List.append_nil _) ?_
  rw [nI_1 0]
  refine f_imsub hF ((oC x 1 [x0, x1, x2, x3, .ref tx, .int (nI ln), x6]) :: (aC D 2 tx (iA 80 t)) :: (im1 ++ iv)) im_in ?_
  show F 60 300 ((oC r 8 [.ref R, .int (nI at1), .int (nI (0 + 1)), .int (zB (!od1)), .ref x]) :: U1) ((oC x 1 [x0, x1, x2, x3, .ref tx, .int (nI ln), x6]) :: (aC D 2 tx (iA 80 t)) :: (im1 ++ iv)) 4 [] [(0, .ref r)]
  have lp_4 : ∀ (m : Nat) (at_ : Nat) (n_ : Nat) (kk : Nat) (nn : Nat) (fu : Nat) (od_ : Bool) (g_ : Nat → Int32) (rb_ : Nat) (nb_ : Nat) (nch_ : Nat) (ncr_ : Nat) (f4_ : Nat → Nat) (f6_ : Nat → Nat) (U_ : va_W) (N_ : va_W), (at_ ≤ ln) → (n_ ≤ at_) → (0 < n_) → (kk ≤ 61 * n_) → (nn ≤ 307 * n_) → (fu + n_ = ln + 1) → (ruS D R g_ rb_ nch_ f4_ ncr_ f6_ U_) → (ivS D g_ pf rb_ nb_ nch_ f4_ ncr_ f6_ (N_ ++ iv)) → (rcI g_ nb_ nch_ ncr_) → (RNG g_) → (od_ = false → alG g_ nb_ nch_ ncr_ = true) → (5 * nch_ + 9 * ncr_ + (ln - at_) ≤ B) → (isR t ln (ln + 1) 0 0 false g = if heV t ln at_ = 59 then isR t ln fu n_ (at_ + 1) od_ g_ else ((decide (¬ at_ < ln), at_, od_, g_), n_)) → (∀ q ∈ N_, ¬ q.1 = x) → (ln - at_) < m → F kk nn ((oC r 8 [.ref R, .int (nI at_), .int (nI n_), .int (zB (!od_)), .ref x]) :: U_) ((oC x 1 [x0, x1, x2, x3, .ref tx, .int (nI ln), x6]) :: (aC D 2 tx (iA 80 t)) :: (N_ ++ iv)) 4 [] [(0, .ref r)] := by
    intro m
    induction m with
    | zero => intro at_ n_ kk nn fu od_ g_ rb_ nb_ nch_ ncr_ f4_ f6_ U_ N_ hat hna hn0 hkk hnn hfu hru hiv hrc hrn hao hbu his hnx hm; exact absurd hm (Nat.not_lt_zero _)
    | succ m ih =>
      intro at_ n_ kk nn fu od_ g_ rb_ nb_ nch_ ncr_ f4_ f6_ U_ N_ hat hna hn0 hkk hnn hfu hru hiv hrc hrn hao hbu his hnx hm
      refine r_aload_n 5 0 (hF.pu _ _ _ _) dX9_all_4 rfl rfl ?_
      refine f_getf 8 hF (T := TX9) (C := RX9) 1 (v := .int (nI at_)) okX9 (fun _ z => ((z.o 0 rfl).fld 1 rfl)) rfl (by decide) (Or.inl q2051) (Or.inl rfl) dX9_all_5 rfl ?_
      refine r_aload_n 9 0 (hF.pu _ _ _ _) dX9_all_8 rfl rfl ?_
      refine f_getf 12 hF (T := TX9) (C := RX9) 4 (v := .ref x) okX9 (fun _ z => ((z.o 0 rfl).fld 4 rfl)) rfl (by decide) (Or.inl q2055) (Or.inl rfl) dX9_all_9 rfl ?_
      refine f_getf 15 hF (T := TX1) (C := RX1) 5 (v := .int (nI ln)) okX1 (fun _ z => ((z.mo 0 rfl).fld 5 rfl)) rfl (by decide) (Or.inr ⟨_, nw_q556⟩) (Or.inl rfl) dX9_all_12 rfl ?_
      refine r_icmp_geN at_ ln 18 43 (hF.pu _ _ _ _) dX9_all_15 (by omega) (by omega) (by decide) (fun c15 => ?_) rfl (fun c15 => ?_)
      · refine f_imsub hF N_ (fun c h => List.mem_cons_of_mem _ (List.mem_cons_of_mem _ (List.mem_append_left _ h))) ?_
        exact FR.v hR dX9_all_43 (by omega) (by omega) ⟨_, n_, _, _, _, _, _, _, _, _, _, rfl, rfl, if_e his (by omega), hru, hiv, hrc, hrn, hao, by omega, by omega, hnx⟩
      · refine r_aload_n 19 0 (hF.pu _ _ _ _) dX9_all_18 rfl rfl ?_
        refine r_aload_n 20 0 (hF.pu _ _ _ _) dX9_all_19 rfl rfl ?_
        refine f_callp 23 hF (fun _ z => cp_X9_here D l r x tx at_ t ln hln hch (by omega) ((z.o 0 rfl).fld 1 rfl) ((z.o 0 rfl).fld 4 rfl) ((z.mo 0 rfl).fld 4 rfl) ((z.mo 0 rfl).fld 5 rfl) (z.ma 1 rfl)) lk_X9_52 0 yk_X9_here rfl ⟨by decide, by decide⟩ (fun _ z => ((z.o 0 rfl).fld 0 rfl)) rfl rfl (Nat.le_of_ble_eq_true rfl) dX9_all_20 ⟨by show kk ≤ 1464; omega, by show nn ≤ 7368; omega⟩ rfl ?_
        refine r_bipush 25 59 (hF.pu _ _ _ _) dX9_all_23 (by decide) rfl ?_
        have hj_25 : F kk nn ((oC r 8 [.ref R, .int (nI at_), .int (nI n_), .int (zB (!od_)), .ref x]) :: U_) ((oC x 1 [x0, x1, x2, x3, .ref tx, .int (nI ln), x6]) :: (aC D 2 tx (iA 80 t)) :: (N_ ++ iv)) 33 [.int (zB (decide (heC t ln at_ = 59))), .ref r] [(0, .ref r)] := by
          refine g_callV 36 hG (fc_X9_pass (KS := KS) (Hb := Hb) D l hl r x R at_ (nI n_) (!od_) (decide (heC t ln at_ = 59))) (wr := U_) rfl (imk [] rfl) lk_X9_64 1 yk_X9_pass rfl ⟨by decide, by decide⟩ (fun _ z => ((z.o 0 rfl).fld 0 rfl)) rfl rfl (Nat.le_of_ble_eq_true rfl) dX9_all_33 ⟨by show kk + 1 ≤ 1464; omega, by show nn + 7 ≤ 7368; omega⟩ rfl (fun E a ws' im' hp hx => by obtain ⟨hb, rfl, rfl, rfl⟩ := hp; exact g_out hO 0 rfl (by omega) (by omega) (if_p his hb (by omega))) (fun r ws_ im' hp => ?_)
          obtain ⟨rfl, rfl, rfl, hp33⟩ := hp
          show F (kk + 1) (nn + 7) ((oC r 8 [.ref R, .int (nI (at_ + 1)), .int (nI n_), .int (zB (!od_)), .ref x]) :: U_) ((oC x 1 [x0, x1, x2, x3, .ref tx, .int (nI ln), x6]) :: (aC D 2 tx (iA 80 t)) :: (N_ ++ iv)) 36 [] [(0, .ref r)]
          refine r_aload_n 37 0 (hF.pu _ _ _ _) dX9_all_36 rfl rfl ?_
          have h59 := heV59.mp (of_decide_eq_true hp33)
          have his1 := his.trans (if_pos h59)
          obtain ⟨fv, rfl⟩ : ∃ fv, fu = fv + 1 := ⟨fu - 1, by omega⟩
          have his2 := his1
          refine g_callV 40 hG (fc_X9_item (KS := KS) (Hb := Hb) D l hl r x R tx (at_ + 1) (nI n_) (!od_) x0 x1 x2 x3 x6 t ln hln hch (by omega) od_ rfl rb_ nb_ nch_ ncr_ g_ pf f4_ f6_ _ (N_ ++ iv) hru hiv hrc.2.2.2.1 hrc.2.2.2.2.1 hrc.2.2.2.2.2.1 hrc.2.2.2.2.2.2 hrc.1 hrc.2.1 hrc.2.2.1 hl23 hao hrn B (by omega) hB24) (wr := []) (List.append_nil _).symm (fun _ h => h) lk_X9_182 0 yk_X9_item rfl ⟨by decide, by decide⟩ (fun _ z => ((z.o 0 rfl).fld 0 rfl)) rfl rfl (Nat.le_of_ble_eq_true rfl) dX9_all_37 ⟨by show kk + 1 + 60 ≤ 1464; omega, by show nn + 7 + 300 ≤ 7368; omega⟩ rfl (fun E a ws' im' hp hx => by obtain ⟨hb, rfl, rfl, rfl⟩ := hp; exact g_out hO 0 rfl (by omega) (by omega) (by rw [his2]; exact is_f hb)) (fun r_ ws_ im1 hp => ?_)
          obtain ⟨at1, od1, g1, rb1, nb1, nch1, ncr1, f41, f61, U1, rfl, rfl, hit1, hr1, hi1, hrc1, hrn1, hal1, hbu1, hnx1⟩ := hp
          have hle := itR_le (t := t) (ln := ln) (sp := at_ + 1) (od := od_) (tr := g_) (by omega)
          rw [hit1] at hle
          have hle1 := hle.2.1
          have hle2 := hle.2.2 rfl
          simp only at hle1 hle2
          refine f_eqw _ (List.append_nil _) ?_
          rw [nI_1 n_]
          refine f_imsub hF ((oC x 1 [x0, x1, x2, x3, .ref tx, .int (nI ln), x6]) :: (aC D 2 tx (iA 80 t)) :: (im1 ++ (N_ ++ iv))) im_in ?_
          rw [← List.append_assoc im1 N_ iv] at hi1 ⊢
          show F (kk + 1 + 60) (nn + 7 + 300) ((oC r 8 [.ref R, .int (nI at1), .int (nI (n_ + 1)), .int (zB (!od1)), .ref x]) :: U1) ((oC x 1 [x0, x1, x2, x3, .ref tx, .int (nI ln), x6]) :: (aC D 2 tx (iA 80 t)) :: ((im1 ++ N_) ++ iv)) 40 [] [(0, .ref r)]
          refine r_goto 4 (hF.pu _ _ _ _) dX9_all_40 (by decide) ?_
          exact ih at1 (n_ + 1) (kk + 1 + 60) (nn + 7 + 300) fv od1 g1 rb1 nb1 nch1 ncr1 f41 f61 U1 (im1 ++ N_) (by omega) (by omega) (by omega) (by omega) (by omega) (by omega) hr1 hi1 hrc1 hrn1 hal1 hbu1 (his2.trans (is_s hit1)) (fun q hq => (List.mem_append.mp hq).elim (hnx1 q) (hnx q)) (by omega)
        refine r_icmp_ne 28 32 (hF.pu _ _ _ _) dX9_all_25 (by decide) (fun c25 => ?_) rfl (fun c25 => ?_)
        · refine r_iconst 33 0 (hF.pu _ _ _ _) dX9_all_32 (by decide) rfl ?_
          refine r_eqi (zB (decide (heC t ln at_ = 59))) (by first | exact zd_1 c25 | exact zd_0 c25) ?_
          exact hj_25
        · refine r_iconst 29 1 (hF.pu _ _ _ _) dX9_all_28 (by decide) rfl ?_
          refine r_goto 33 (hF.pu _ _ _ _) dX9_all_29 (by decide) ?_
          refine r_eqi (zB (decide (heC t ln at_ = 59))) (by first | exact zd_1 c25 | exact zd_0 c25) ?_
          exact hj_25
  exact lp_4 (ln + 1) at1 1 60 300 ln od1 g1 rb1 nb1 nch1 ncr1 f41 f61 U1 im1 (by omega) (by omega) (by decide) (by omega) (by omega) (by omega) hr1 hi1 hrc1 hrn1 hal1 hbu1 (is_s hit1) hnx1 (by omega)
