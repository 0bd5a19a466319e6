set_option maxHeartbeats 4000000 in
theorem fc_X1_requireState (D : DD) (l : Launch) (hl : l.stackTraces = false) {KS : Nat → Prop} {Hb : Heap} (b : Bool) : Gc D l yX1_requireState cX1_requireState 1 none 6 1 6 100 KS Hb [.int (zB b)] ([]) ([]) (fun r w i => r = none ∧ w = [] ∧ i = [] ∧ b = true) (fun E q w i => b = false ∧ E = "java/lang/IllegalStateException" ∧ w = [oC q 25 []] ∧ i = []) := by
  refine Gc.of hl (by decide) (Nat.le_of_ble_eq_true rfl) (fun s F X hG hR hO => ?_)
  have hF := hG.f
  show F 0 0 ([]) ([]) 0 [] [(0, .int (zB b))]
  refine r_iload_n 1 0 (hF.pu _ _ _ _) dX1_requireState_0 rfl rfl ?_
  refine r_if_neZ b 4 12 (hF.pu _ _ _ _) dX1_requireState_1 (by decide) (fun c1 => ?_) rfl (fun c1 => ?_)
  · exact FR.v hR dX1_requireState_12 (Nat.le_of_ble_eq_true rfl) (Nat.le_of_ble_eq_true rfl) ⟨rfl, rfl, rfl, c1⟩
  · refine g_make hG (cls := RJ19) (names := ["java/lang/RuntimeException", "java/lang/Exception"]) (ci := 25) rfl (by decide +kernel) (by decide +kernel) q2029 q130 at_J19 (by decide +kernel) dX1_requireState_4 dX1_requireState_7 dX1_requireState_8 ⟨by decide, by decide, by decide, by decide⟩ (Nat.le_of_ble_eq_true rfl) (fun q => ?_)
    refine g_athrow hG dX1_requireState_11 ?_
    exact hO _ _ _ _ _ _ _ _ [oC q 25 []] [] (by decide) (by decide) (fun x hx => absurd hx List.not_mem_nil) (List.Sublist.refl _) (fun _ h => absurd h List.not_mem_nil) ⟨25, _, _, 0, List.mem_cons_self, rfl⟩ ⟨c1, rfl, rfl, rfl⟩
def isG (t : Nat → Int32) (ln : Nat) (g : Nat → Int32) : PR × Nat := isR t ln (ln + 1) 0 0 false g
/-- the component behind rules that were read -/
def addP (D : DD) (x dq e cm tx n nw : Nat) (sv : Value) (q : Nat → Nat) (iv : va_W) (t : Nat → Int32) (ln : Nat) (g : Nat → Int32) (h : Nat → Int64) (B : Nat) : Option Value → va_W → va_W → Prop := fun r w i => ∃ a W1 W2 at' n' g' nb' nch' ncr', r = some (.int (nI n')) ∧ w = oC x 1 [.ref a, sv, .ref dq, .ref cm, .ref tx, .int (nI 0), .int (-1)] :: (W1 ++ W2) ∧ isR t ln (ln + 1) 0 0 false g = ((true, at', false, g'), n') ∧ dqS D dq e (puM n) (puQ n q nw) W1 ∧ wcS D a g' h nb' nch' ncr' W2 (i ++ iv) ∧ rcI g' nb' nch' ncr' ∧ RNG g' ∧ alG g' nb' nch' ncr' = true ∧ 5 * nch' + 9 * ncr' ≤ B
def addX (x dq cm tx nw : Nat) (sv : Value) (t : Nat → Int32) (ln : Nat) (g : Nat → Int32) (Wd : va_W) : PXT := fun E q w i => i = [] ∧ (((isR t ln (ln + 1) 0 0 false g).1.1 = false ∧ E = "java/lang/IllegalArgumentException" ∧ w = oC q 24 [] :: oC x 1 [.ref nw, sv, .ref dq, .ref cm, .ref tx, .int (nI 0), .int (nI (isR t ln (ln + 1) 0 0 false g).1.2.1)] :: Wd) ∨
  (∃ at' n' g', isR t ln (ln + 1) 0 0 false g = ((true, at', true, g'), n') ∧ E = "java/lang/IllegalStateException" ∧ w = oC q 25 [] :: oC x 1 [.ref nw, sv, .ref dq, .ref cm, .ref tx, .int (nI 0), .int (-1)] :: Wd))
theorem itR_hi {t : Nat → Int32} {ln sp x : Nat} {od : Bool} {tr : Nat → Int32} (h : TT tr) (hx : 64 ≤ x) : (itR t ln sp od tr).2.2.2 x = tr x := by
  have hcr : ∀ kd, (crR t ln kd (sp + 1) od tr).2.2.2 x = tr x := fun kd => by
    unfold crR
    by_cases hm : ncrG tr < 6
    · rw [if_pos hm]
      have e := nmR_oth (t := t) (ln := ln) (at_ := some (28 + 6 * ncrG tr + 1)) (rb := rb10) (x := x) 4 0 (sp + 1) od tr (fun a ha => by cases ha; omega)
      generalize nmR t ln (some (28 + 6 * ncrG tr + 1)) rb10 4 0 (sp + 1) od tr = r at e ⊢
      obtain ⟨b, s, o, u⟩ := r
      cases b
      · exact e
      · simp only at e ⊢
        unfold crU; rw [upd_ne (by omega), upd_ne (by omega), upd_ne (by omega)]; exact e
    · rw [if_neg hm]
      have e := nmR_oth (t := t) (ln := ln) (at_ := none) (rb := rb10) (x := x) 4 0 (sp + 1) od tr (fun a ha => by cases ha)
      generalize nmR t ln none rb10 4 0 (sp + 1) od tr = r at e ⊢
      obtain ⟨b, s, o, u⟩ := r
      cases b <;> exact e
  unfold itR
  by_cases h1 : heV t ln sp = 98
  · rw [if_pos h1]; exact bkR_oth (by omega) _ _ _ _ _ _
  · rw [if_neg h1]
    by_cases h2 : heV t ln sp = 97
    · rw [if_pos h2]; exact nmR_oth _ _ _ _ _ (fun a ha => by cases ha; omega)
    · rw [if_neg h2]
      by_cases h3 : heV t ln sp = 109
      · rw [if_pos h3]; exact nmR_oth _ _ _ _ _ (fun a ha => by cases ha; omega)
      · rw [if_neg h3]
        by_cases h4 : heV t ln sp = 99
        · rw [if_pos h4]
          unfold chR
          by_cases hm : nchG tr < 4
          · rw [if_pos hm]
            have e := nmR_oth (t := t) (ln := ln) (at_ := some (19 + 2 * nchG tr)) (rb := rb0) (x := x) 2 0 (sp + 1) od tr (fun a ha => by cases ha; omega)
            generalize nmR t ln (some (19 + 2 * nchG tr)) rb0 2 0 (sp + 1) od tr = r at e ⊢
            obtain ⟨b, s, o, u⟩ := r
            cases b
            · exact e
            · simp only at e ⊢
              rw [upd_ne (by omega)]; exact e
          · rw [if_neg hm]
            have e := nmR_oth (t := t) (ln := ln) (at_ := none) (rb := rb0) (x := x) 2 0 (sp + 1) od tr (fun a ha => by cases ha)
            generalize nmR t ln none rb0 2 0 (sp + 1) od tr = r at e ⊢
            obtain ⟨b, s, o, u⟩ := r
            cases b
            · exact e
            · simp only at e ⊢
              rw [upd_ne (by omega)]; exact e
        · rw [if_neg h4]
          by_cases h5 : heV t ln sp = 110
          · rw [if_pos h5]; exact hcr 0
          · rw [if_neg h5]
            by_cases h6 : heV t ln sp = 114
            · rw [if_pos h6]; exact hcr 1
            · rw [if_neg h6]
              by_cases h7 : heV t ln sp = 107
              · rw [if_pos h7]; exact hcr 2
              · rw [if_neg h7]
theorem isR_hi {t : Nat → Int32} {ln x : Nat} (hx : 64 ≤ x) : ∀ (f n sp : Nat) (od : Bool) (tr : Nat → Int32), TT tr → (isR t ln f n sp od tr).1.1 = true → (isR t ln f n sp od tr).1.2.2.2 x = tr x := by
  intro f
  induction f with
  | zero => intro n sp od tr h ho; cases ho
  | succ f ih =>
    intro n sp od tr h ho
    have h0 := itR_hi (t := t) (ln := ln) (sp := sp) (od := od) h hx
    have h1 := itR_TT (t := t) (ln := ln) (sp := sp) (od := od) h
    rw [isR] at ho ⊢
    generalize itR t ln sp od tr = r at h0 h1 ho ⊢
    obtain ⟨b, s, o, u⟩ := r
    cases b
    · cases ho
    · simp only at h0 ho h1 ⊢
      split at ho
      · next h59 => rw [if_pos h59]; exact (ih (n + 1) (s + 1) o u (h1 trivial) ho).trans h0
      · next h59 => rw [if_neg h59]; exact h0
theorem TT_of {g : Nat → Int32} {nb nch ncr : Nat} (h : rcI g nb nch ncr) : TT g := by
  obtain ⟨-, h18, h27, -, -, h4, h2⟩ := h
  unfold TT
  rw [nch_of h18 (by omega), ncr_of h27 (by omega)]
  exact ⟨⟨h18, h4⟩, ⟨h27, by omega⟩⟩
theorem pm_r {r x : Nat × va_E} {U W : va_W} : (r :: x :: (U ++ W)).Perm (r :: (U ++ (x :: W))) := List.Perm.cons r List.perm_middle.symm
theorem pm_x {r x : Nat × va_E} {U W : va_W} : (r :: (U ++ (x :: W))).Perm (x :: r :: (U ++ W)) := (List.Perm.cons r List.perm_middle).trans (List.Perm.swap x r (U ++ W))
theorem pm_c {r x : Nat × va_E} {U W : va_W} : (x :: r :: (U ++ W)).Perm (x :: (W ++ (r :: U))) := List.Perm.cons x (List.perm_append_comm (l₁ := r :: U) (l₂ := W))
theorem isG_x {t : Nat → Int32} {ln : Nat} {g g1 : Nat → Int32} {at1 n1 : Nat} {od1 : Bool} (his : isR t ln (ln + 1) 0 0 false g = ((true, at1, od1, g1), n1)) {nb nch ncr x : Nat} (h : rcI g nb nch ncr) (hx : 64 ≤ x) : g1 x = g x := by
  have := isR_hi (t := t) (ln := ln) hx (ln + 1) 0 0 false g (TT_of h) (by rw [his])
  rw [his] at this
  exact this
theorem ivS.pf {D : DD} {g g1 : Nat → Int32} {pf pf' : Nat → Nat} {rb rb1 nb nb1 nch nch1 ncr ncr1 : Nat} {f4 f6 f41 f61 : Nat → Nat} {iv N : va_W} (h1 : ivS D g1 pf rb1 nb1 nch1 f41 ncr1 f61 (N ++ iv)) (h2 : ivS D g pf' rb nb nch f4 ncr f6 iv) (e : ∀ x, 64 ≤ x → g1 x = g x) : ivS D g1 pf' rb1 nb1 nch1 f41 ncr1 f61 (N ++ iv) :=
  ⟨h1.1, fun p hp => by rw [e _ (by omega), e _ (by omega), e _ (by omega)]; exact List.mem_append_right _ (h2.2.1 p hp), h1.2.2.1, h1.2.2.2.1, h1.2.2.2.2⟩
theorem pm_w {r x a : Nat × va_E} {U W1 Uz V : va_W} : ((x :: (W1 ++ (a :: (V ++ Uz)))) ++ (r :: U)).Perm (r :: a :: x :: (V ++ (U ++ (W1 ++ Uz)))) := by
  refine List.perm_append_comm.trans ?_
  show (r :: (U ++ (x :: (W1 ++ (a :: (V ++ Uz)))))).Perm _
  refine List.Perm.cons r ?_
  have h1 : (U ++ (x :: (W1 ++ (a :: (V ++ Uz))))).Perm (x :: (U ++ (W1 ++ (a :: (V ++ Uz))))) := List.perm_middle
  have h2 : (U ++ (W1 ++ (a :: (V ++ Uz)))).Perm (a :: (U ++ (W1 ++ (V ++ Uz)))) := by
    rw [← List.append_assoc, ← List.append_assoc]; exact List.perm_middle
  have h3 : (U ++ (W1 ++ (V ++ Uz))).Perm (V ++ (U ++ (W1 ++ Uz))) := by
    rw [← List.append_assoc U W1, ← List.append_assoc (U ++ W1) V Uz, ← List.append_assoc U W1 Uz, ← List.append_assoc V (U ++ W1) Uz]
    exact List.perm_append_comm.append_right Uz
  exact (h1.trans (List.Perm.cons x (h2.trans (List.Perm.cons a h3)))).trans (List.Perm.swap a x _)
theorem pm_z {r x a : Nat × va_E} {U W1 Uz V : va_W} : (r :: a :: x :: (V ++ (U ++ (W1 ++ Uz)))).Perm ([r] ++ ((x :: (W1 ++ (a :: (V ++ U)))) ++ Uz)) := by
  show (r :: _).Perm (r :: _)
  refine List.Perm.cons r ((List.Perm.swap x a _).trans (List.Perm.cons x ?_))
  show (a :: (V ++ (U ++ (W1 ++ Uz)))).Perm ((W1 ++ (a :: (V ++ U))) ++ Uz)
  rw [List.append_assoc W1]
  refine List.Perm.trans (List.Perm.cons a ?_) List.perm_middle.symm
  show (V ++ (U ++ (W1 ++ Uz))).Perm (W1 ++ ((V ++ U) ++ Uz))
  rw [← List.append_assoc V U, ← List.append_assoc (V ++ U) W1 Uz, ← List.append_assoc W1 (V ++ U) Uz]
  exact List.perm_append_comm.append_right Uz
theorem dvX9 : ∀ j, j < 5 → defaultValue (tyX9 j) = vp_V [.null, .int 0, .int 0, .int 0, .null] j := by
  intro j hj
  rcases (show j = 0 ∨ j = 1 ∨ j = 2 ∨ j = 3 ∨ j = 4 by omega) with rfl | rfl | rfl | rfl | rfl <;> rfl
theorem yk_X9_init : yOk yX9_init 1 := by decide +kernel
theorem lk_X1_89 : GoodIn lw_all (wsV RX1 89 yX9_all.cls yX9_all (ws_ yX9_all cX9_all 1 none)) := lw_V q2067 q2068 q2069 q131 q2070
theorem yk_X9_all : yOk yX9_all 0 := by decide +kernel
theorem lk_X1_97 : GoodIn lw_all (wsV RX1 97 yX9_isAllowed.cls yX9_isAllowed (ws_ yX9_isAllowed cX9_isAllowed 1 (some .boolean))) := lw_V q2365 q2366 q2367 q131 q2368
theorem yk_X9_isAllowed : yOk yX9_isAllowed 0 := by decide +kernel
set_option maxHeartbeats 8000000 in
theorem gw_X1_addRules (D : DD) (l : Launch) (hl : l.stackTraces = false) {KS : Nat → Prop} {Hb : Heap} (x nw dq e cm tx n : Nat) (sv : Value) (fl : Int32) (q : Nat → Nat) (g : Nat → Int32) (h : Nat → Int64) (nb nch ncr : Nat) (W iv Wd : va_W) (hn : n ≤ 6) (hd : dqS D dq e n q Wd) (hw : wcS D nw g h nb nch ncr W iv) (t : Nat → Int32) (ln : Nat) (hln : ln ≤ 80) (hch : ∀ i, i < ln → inB (t i) 33 126 = true) (hc : rcI g nb nch ncr) (hrg : RNG g) (hal : alG g nb nch ncr = true) (hl23 : ln ≤ 23) (B : Nat) (hB : 5 * nch + 9 * ncr + ln + 1 ≤ B) (hB24 : B ≤ 24) : GcW D l yX1_addRules cX1_addRules 4 (some .int) [(9, 18, 26, 92), (9, 18, 43, 0), (26, 44, 43, 0)] 13 1700 8200 341 KS Hb [.ref x] (oC x 1 [.ref nw, sv, .ref dq, .ref cm, .ref tx, .int (nI ln), .int fl] :: Wd) (aC D 2 tx (iA 80 t) :: (W ++ iv)) (addP D x dq e cm tx n nw sv q iv t ln g h B) (addX x dq cm tx nw sv t ln g Wd) := by
  have hwc := hw
  obtain ⟨pf, rb, f4, f6, R, U, hr, ⟨u1, u2, u3, u4, m, pe, pa, ca, v0, v1, v2, v3, v4, v5, h0, h1, h2, h3, h4, h5, rfl, hpe, hpa, hca, hh0, hh1, hh2, hh3, hh4, hh5⟩, hi⟩ := hw
  refine GcW.of hl (by decide) (Nat.le_of_ble_eq_true rfl) (fun s F X hG hR hO => ?_)
  have hF := hG.f
  show F 0 0 (oC x 1 [.ref nw, sv, .ref dq, .ref cm, .ref tx, .int (nI ln), .int fl] :: Wd) (aC D 2 tx (iA 80 t) :: ((oC nw 2 [.ref R, .ref u1, .ref u2, .ref u3, .int (g 88)] :: aC D 4 u1 (qA 6 pe) :: aC D 0 u2 (iA 6 pa) :: oC u3 12 [.int m, .ref u4, .int (nI 6)] :: aC D 3 u4 (qA 10 ca) :: aC D 1 v0 (lA 6 h0) :: aC D 1 v1 (lA 6 h1) :: aC D 1 v2 (lA 6 h2) :: aC D 1 v3 (lA 6 h3) :: aC D 1 v4 (lA 6 h4) :: aC D 1 v5 (lA 6 h5) :: U) ++ iv)) 0 [] [(0, .ref x)]
  refine f_new 3 hF (ci := 8) [.null, .int 0, .int 0, .int 0, .null] okX9 rfl q2042 q2043 q131 dvX9 ⟨Nat.le_of_ble_eq_true rfl, Nat.le_of_ble_eq_true rfl⟩ dX1_addRules_0 rfl (fun a1_ => ?_)
  refine r_dup 4 (hF.pu _ _ _ _) dX1_addRules_3 rfl rfl ?_
  refine r_aload_n 5 0 (hF.pu _ _ _ _) dX1_addRules_4 rfl rfl ?_
  refine f_callIN 8 hF (fc_X9_init (KS := KS) (Hb := Hb) D l a1_ x nw R rb nch ncr sv (.ref dq) (.ref cm) (.ref tx) (.int (nI ln)) (.int fl) (.ref u1) (.ref u2) (.ref u3) (.int (g 88)) g pf f4 f6 nb U iv hr hi) (wr := Wd) rfl (fun c h => by simp only [List.mem_cons, List.mem_append] at h ⊢; rcases h with h | h | h <;> simp [h]) q2046 q131 nw_q2044 q2045 rfl 1 yk_X9_init rfl ⟨by decide, by decide⟩ rfl (Nat.le_of_ble_eq_true rfl) dX1_addRules_5 ⟨Nat.le_of_ble_eq_true rfl, Nat.le_of_ble_eq_true rfl⟩ rfl (fun r_ ws_ im' hp => ?_)
  obtain ⟨R2, uu, rfl, rfl, rfl, huu⟩ := hp
  refine f_perm hF (oC a1_ 8 [.ref R2, .int (nI 0), .int (nI 0), .int (zB true), .ref x] :: (uu ++ (oC x 1 [.ref nw, sv, .ref dq, .ref cm, .ref tx, .int (nI ln), .int fl] :: Wd))) pm_r ?_
  show F 13 54 ((oC a1_ 8 [.ref R2, .int (nI 0), .int (nI 0), .int (zB true), .ref x]) :: (uu ++ (oC x 1 [.ref nw, sv, .ref dq, .ref cm, .ref tx, .int (nI ln), .int fl] :: Wd))) ((aC D 2 tx (iA 80 t)) :: ((oC nw 2 [.ref R, .ref u1, .ref u2, .ref u3, .int (g 88)] :: aC D 4 u1 (qA 6 pe) :: aC D 0 u2 (iA 6 pa) :: oC u3 12 [.int m, .ref u4, .int (nI 6)] :: aC D 3 u4 (qA 10 ca) :: aC D 1 v0 (lA 6 h0) :: aC D 1 v1 (lA 6 h1) :: aC D 1 v2 (lA 6 h2) :: aC D 1 v3 (lA 6 h3) :: aC D 1 v4 (lA 6 h4) :: aC D 1 v5 (lA 6 h5) :: U) ++ iv)) 8 [.ref a1_] [(0, .ref x)]
  refine r_astore_n 9 [(1, .ref a1_), (0, .ref x)] (hF.pu _ _ _ _) dX1_addRules_8 rfl (by decide) rfl rfl ?_
  refine r_aload_n 10 0 (hF.pu _ _ _ _) dX1_addRules_9 rfl rfl ?_
  refine g_callVc 13 hG (fc_X9_all (KS := KS) (Hb := Hb) D l hl a1_ x R2 tx (.ref nw) sv (.ref dq) (.ref cm) (.int fl) t ln hln hch rb nb nch ncr g pf f4 f6 uu iv huu hi hc.2.2.2.1 hc.2.2.2.2.1 hc.2.2.2.2.2.1 hc.2.2.2.2.2.2 hc.1 hc.2.1 hc.2.2.1 hl23 hal hrg B hB hB24) (wr := oC x 1 [.ref nw, sv, .ref dq, .ref cm, .ref tx, .int (nI ln), .int fl] :: Wd) rfl (fun c h => ?_) (fun r ws' im' hp q hq c hc1 hc2 hcn z => ?_) (fun E a ws' im' h => h.2.2.2) lk_X1_89 0 yk_X9_all rfl ⟨by decide, by decide⟩ (fun _ z => ((z.o 0 rfl).fld 0 rfl)) rfl rfl (Nat.le_of_ble_eq_true rfl) dX1_addRules_10 ⟨Nat.le_of_ble_eq_true rfl, Nat.le_of_ble_eq_true rfl⟩ rfl (fun E a ws' im' hp hx => ?_) (fun r_ ws_ im1 hp => ?_)
  · rcases List.mem_cons.mp h with h | h
    · exact Or.inr (h ▸ List.mem_cons_self)
    · exact Or.inl ((List.mem_cons.mp h).elim (fun h => h ▸ List.mem_cons_self) (fun h => List.mem_cons_of_mem _ (List.mem_append_right _ h)))
  · obtain ⟨_, _, _, _, _, _, _, _, _, _, _, _, _, _, _, _, _, _, _, _, _, hnx1⟩ := hp
    rcases List.mem_cons.mp hc2 with h | h
    · subst h; exact hnx1 q hq z
    · exact hcn ((List.mem_cons.mp h).elim (fun h => h ▸ List.mem_cons_self) (fun h => List.mem_cons_of_mem _ (List.mem_append_right _ h)))
  · obtain ⟨hb, rfl, rfl, rfl⟩ := hp
    refine g_catch hG [] ⟨9, 18, 26, 92⟩ [⟨9, 18, 43, 0⟩, ⟨26, 44, 43, 0⟩] rfl (ci := 9) (E := "TaxWorkbench$FaultException") rfl 0 rfl (fun z hz => absurd hz List.not_mem_nil) (by decide) (Or.inr ⟨by decide, q2041, nw_q2136⟩) ?_
    show F 1477 7422 ((oC a 9 [.null, .null, .null, .null, .null, .int 0, .int (nI ((isR t ln (ln + 1) 0 0 false g).1.2.1))]) :: (oC x 1 [.ref nw, sv, .ref dq, .ref cm, .ref tx, .int (nI ln), .int fl]) :: Wd) ((aC D 2 tx (iA 80 t)) :: ((oC nw 2 [.ref R, .ref u1, .ref u2, .ref u3, .int (g 88)] :: aC D 4 u1 (qA 6 pe) :: aC D 0 u2 (iA 6 pa) :: oC u3 12 [.int m, .ref u4, .int (nI 6)] :: aC D 3 u4 (qA 10 ca) :: aC D 1 v0 (lA 6 h0) :: aC D 1 v1 (lA 6 h1) :: aC D 1 v2 (lA 6 h2) :: aC D 1 v3 (lA 6 h3) :: aC D 1 v4 (lA 6 h4) :: aC D 1 v5 (lA 6 h5) :: U) ++ iv)) 26 [.ref a] [(1, .ref a1_), (0, .ref x)]
    refine r_astore_n 27 [(2, .ref a), (1, .ref a1_), (0, .ref x)] (hF.pu _ _ _ _) dX1_addRules_26 rfl (by decide) rfl rfl ?_
    refine r_aload_n 28 2 (hF.pu _ _ _ _) dX1_addRules_27 rfl rfl ?_
    refine r_aload_n 29 0 (hF.pu _ _ _ _) dX1_addRules_28 rfl rfl ?_
    refine f_getf 32 hF (T := TX10) (C := RX10) 6 (v := .int (nI ((isR t ln (ln + 1) 0 0 false g).1.2.1))) okX10 (fun _ z => ((z.o 0 rfl).fld 6 rfl)) rfl (by decide) (Or.inr ⟨_, nw_q2153⟩) (Or.inl rfl) dX1_addRules_29 rfl ?_
    refine f_put 35 hF 1 (T := TX1) (C := RX1) ((oC a 9 [.null, .null, .null, .null, .null, .int 0, .int (nI ((isR t ln (ln + 1) 0 0 false g).1.2.1))]) :: (oC x 1 [.ref nw, sv, .ref dq, .ref cm, .ref tx, .int (nI ln), .int (nI ((isR t ln (ln + 1) 0 0 false g).1.2.1))]) :: Wd) okX1 rfl rfl 6 (by decide) (Or.inl q558) (Or.inl rfl) rfl rfl rfl (Nat.le_of_ble_eq_true rfl) rfl dX1_addRules_32 rfl ?_
    refine g_make hG (cls := RJ18) (names := ["java/lang/RuntimeException", "java/lang/Exception"]) (ci := 24) rfl (by decide +kernel) (by decide +kernel) q2021 q129 at_J18 (by decide +kernel) dX1_addRules_35 dX1_addRules_38 dX1_addRules_39 ⟨by decide, by decide, Nat.le_of_ble_eq_true rfl, Nat.le_of_ble_eq_true rfl⟩ (Nat.le_of_ble_eq_true rfl) (fun xq => ?_)
    refine g_athrow hG dX1_addRules_42 ?_
    refine g_catch hG [⟨9, 18, 26, 92⟩, ⟨9, 18, 43, 0⟩] ⟨26, 44, 43, 0⟩ [] rfl (ci := 24) (E := "java/lang/IllegalArgumentException") (name := "") rfl 0 rfl (fun z hz => by rcases List.mem_cons.mp hz with rfl | hz; exact Or.inl rfl; rcases List.mem_cons.mp hz with rfl | hz; exact Or.inl rfl; exact absurd hz List.not_mem_nil) (by decide) (Or.inl rfl) ?_
    show F 1478 7428 ((oC xq 24 []) :: (oC a 9 [.null, .null, .null, .null, .null, .int 0, .int (nI ((isR t ln (ln + 1) 0 0 false g).1.2.1))]) :: (oC x 1 [.ref nw, sv, .ref dq, .ref cm, .ref tx, .int (nI ln), .int (nI ((isR t ln (ln + 1) 0 0 false g).1.2.1))]) :: Wd) ((aC D 2 tx (iA 80 t)) :: ((oC nw 2 [.ref R, .ref u1, .ref u2, .ref u3, .int (g 88)] :: aC D 4 u1 (qA 6 pe) :: aC D 0 u2 (iA 6 pa) :: oC u3 12 [.int m, .ref u4, .int (nI 6)] :: aC D 3 u4 (qA 10 ca) :: aC D 1 v0 (lA 6 h0) :: aC D 1 v1 (lA 6 h1) :: aC D 1 v2 (lA 6 h2) :: aC D 1 v3 (lA 6 h3) :: aC D 1 v4 (lA 6 h4) :: aC D 1 v5 (lA 6 h5) :: U) ++ iv)) 43 [.ref xq] [(2, .ref a), (1, .ref a1_), (0, .ref x)]
    refine r_astore_n 44 [(3, .ref xq), (2, .ref a), (1, .ref a1_), (0, .ref x)] (hF.pu _ _ _ _) dX1_addRules_43 rfl (by decide) rfl rfl ?_
    refine r_aload_n 45 3 (hF.pu _ _ _ _) dX1_addRules_44 rfl rfl ?_
    refine r_iconst 46 0 (hF.pu _ _ _ _) dX1_addRules_45 (by decide) rfl ?_
    refine f_put 49 hF 2 (T := TX1) (C := RX1) ((oC xq 24 []) :: (oC a 9 [.null, .null, .null, .null, .null, .int 0, .int (nI ((isR t ln (ln + 1) 0 0 false g).1.2.1))]) :: (oC x 1 [.ref nw, sv, .ref dq, .ref cm, .ref tx, .int 0, .int (nI ((isR t ln (ln + 1) 0 0 false g).1.2.1))]) :: Wd) okX1 rfl rfl 5 (by decide) (Or.inl q557) (Or.inl rfl) rfl rfl rfl (Nat.le_of_ble_eq_true rfl) rfl dX1_addRules_46 rfl ?_
    refine r_aload_n 50 0 (hF.pu _ _ _ _) dX1_addRules_49 rfl rfl ?_
    refine g_athrow hG dX1_addRules_50 ?_
    exact hO _ _ _ _ _ _ _ _ (oC xq 24 [] :: oC x 1 [.ref nw, sv, .ref dq, .ref cm, .ref tx, .int 0, .int (nI ((isR t ln (ln + 1) 0 0 false g).1.2.1))] :: Wd) [] (Nat.le_of_ble_eq_true rfl) (Nat.le_of_ble_eq_true rfl) (by decide) (by first | exact (List.Sublist.refl _).cons₂ | exact List.Sublist.cons₂ _ (List.Sublist.cons _ (List.Sublist.refl _))) (fun _ h => absurd h List.not_mem_nil) ⟨24, _, _, 0, List.mem_cons_self, rfl⟩ ⟨rfl, Or.inl ⟨hb, rfl, rfl⟩⟩
  · obtain ⟨at1, n1, od1, g1, rb1, nb1, nch1, ncr1, f41, f61, U1, rfl, rfl, his, hr1, hi1, hrc1, hrn1, hal1, hbu1, hn1l, hnx1⟩ := hp
    refine f_perm hF ((oC x 1 [.ref nw, sv, .ref dq, .ref cm, .ref tx, .int (nI ln), .int fl]) :: (oC a1_ 8 [.ref R2, .int (nI at1), .int (nI n1), .int (zB (!od1)), .ref x]) :: (U1 ++ Wd)) pm_x ?_
    show F 1477 7422 ((oC x 1 [.ref nw, sv, .ref dq, .ref cm, .ref tx, .int (nI ln), .int fl]) :: (oC a1_ 8 [.ref R2, .int (nI at1), .int (nI n1), .int (zB (!od1)), .ref x]) :: (U1 ++ Wd)) (im1 ++ (aC D 2 tx (iA 80 t) :: ((oC nw 2 [.ref R, .ref u1, .ref u2, .ref u3, .int (g 88)] :: aC D 4 u1 (qA 6 pe) :: aC D 0 u2 (iA 6 pa) :: oC u3 12 [.int m, .ref u4, .int (nI 6)] :: aC D 3 u4 (qA 10 ca) :: aC D 1 v0 (lA 6 h0) :: aC D 1 v1 (lA 6 h1) :: aC D 1 v2 (lA 6 h2) :: aC D 1 v3 (lA 6 h3) :: aC D 1 v4 (lA 6 h4) :: aC D 1 v5 (lA 6 h5) :: U) ++ iv))) 13 [] [(1, .ref a1_), (0, .ref x)]
    refine r_aload_n 14 1 (hF.pu _ _ _ _) dX1_addRules_13 rfl rfl ?_
    refine r_iconst 15 (-1) (hF.pu _ _ _ _) dX1_addRules_14 (by decide) rfl ?_
    refine f_put 18 hF 0 (T := TX1) (C := RX1) ((oC x 1 [.ref nw, sv, .ref dq, .ref cm, .ref tx, .int (nI ln), .int (-1)]) :: (oC a1_ 8 [.ref R2, .int (nI at1), .int (nI n1), .int (zB (!od1)), .ref x]) :: (U1 ++ Wd)) okX1 rfl rfl 6 (by decide) (Or.inl q558) (Or.inl rfl) rfl rfl rfl (Nat.le_of_ble_eq_true rfl) rfl dX1_addRules_15 rfl ?_
    refine r_aload_n 19 1 (hF.pu _ _ _ _) dX1_addRules_18 rfl rfl ?_
    refine r_iconst 20 0 (hF.pu _ _ _ _) dX1_addRules_19 (by decide) rfl ?_
    refine f_put 23 hF 0 (T := TX1) (C := RX1) ((oC x 1 [.ref nw, sv, .ref dq, .ref cm, .ref tx, .int 0, .int (-1)]) :: (oC a1_ 8 [.ref R2, .int (nI at1), .int (nI n1), .int (zB (!od1)), .ref x]) :: (U1 ++ Wd)) okX1 rfl rfl 5 (by decide) (Or.inl q557) (Or.inl rfl) rfl rfl rfl (Nat.le_of_ble_eq_true rfl) rfl dX1_addRules_20 rfl ?_
    refine r_goto 51 (hF.pu _ _ _ _) dX1_addRules_23 (by decide) ?_
    refine r_aload_n 52 0 (hF.pu _ _ _ _) dX1_addRules_51 rfl rfl ?_
    refine f_perm hF (oC a1_ 8 [.ref R2, .int (nI at1), .int (nI n1), .int (zB (!od1)), .ref x] :: (U1 ++ (oC x 1 [.ref nw, sv, .ref dq, .ref cm, .ref tx, .int 0, .int (-1)] :: Wd))) pm_x.symm ?_
    refine f_callV 55 hF (fc_X9_isAllowed (KS := KS) (Hb := Hb) D l a1_ x R2 at1 (nI n1) (!od1) rb1 nb1 nch1 ncr1 g1 pf f41 f61 U1 (im1 ++ iv) hr1 hi1 hrc1.2.2.2.1 hrc1.2.2.2.2.1 hrc1.2.2.2.2.2.1) (wr := oC x 1 [.ref nw, sv, .ref dq, .ref cm, .ref tx, .int 0, .int (-1)] :: Wd) rfl (fun c h => (List.mem_append.mp h).elim (fun h => List.mem_append_left _ h) (fun h => List.mem_append_right _ (List.mem_cons_of_mem _ (List.mem_append_right _ h)))) lk_X1_97 0 yk_X9_isAllowed rfl ⟨by decide, by decide⟩ (fun _ z => ((z.o 0 rfl).fld 0 rfl)) rfl rfl (Nat.le_of_ble_eq_true rfl) dX1_addRules_52 ⟨Nat.le_of_ble_eq_true rfl, Nat.le_of_ble_eq_true rfl⟩ rfl (fun r_ ws_ im' hp => ?_)
    obtain ⟨rfl, rfl, rfl⟩ := hp
    refine f_perm hF ((oC x 1 [.ref nw, sv, .ref dq, .ref cm, .ref tx, .int 0, .int (-1)]) :: (oC a1_ 8 [.ref R2, .int (nI at1), .int (nI n1), .int (zB (!od1)), .ref x]) :: (U1 ++ Wd)) pm_x ?_
    refine r_eqi (zB (!od1)) (by cases hod : od1; rw [hal1 hod]; rfl; rfl) ?_
    show F 1478 7427 ((oC x 1 [.ref nw, sv, .ref dq, .ref cm, .ref tx, .int 0, .int (-1)]) :: (oC a1_ 8 [.ref R2, .int (nI at1), .int (nI n1), .int (zB (!od1)), .ref x]) :: (U1 ++ Wd)) (im1 ++ (aC D 2 tx (iA 80 t) :: ((oC nw 2 [.ref R, .ref u1, .ref u2, .ref u3, .int (g 88)] :: aC D 4 u1 (qA 6 pe) :: aC D 0 u2 (iA 6 pa) :: oC u3 12 [.int m, .ref u4, .int (nI 6)] :: aC D 3 u4 (qA 10 ca) :: aC D 1 v0 (lA 6 h0) :: aC D 1 v1 (lA 6 h1) :: aC D 1 v2 (lA 6 h2) :: aC D 1 v3 (lA 6 h3) :: aC D 1 v4 (lA 6 h4) :: aC D 1 v5 (lA 6 h5) :: U) ++ iv))) 55 [.int (zB (!od1))] [(1, .ref a1_), (0, .ref x)]
    refine g_callS 58 hG (fc_X1_requireState (KS := KS) (Hb := Hb) D l hl (!od1)) (wr := (oC x 1 [.ref nw, sv, .ref dq, .ref cm, .ref tx, .int 0, .int (-1)]) :: (oC a1_ 8 [.ref R2, .int (nI at1), .int (nI n1), .int (zB (!od1)), .ref x]) :: (U1 ++ Wd)) rfl (fun c h => absurd h List.not_mem_nil) lk_X1_81 1 yk_X1_requireState rfl ⟨by decide, by decide⟩ rfl (Nat.le_of_ble_eq_true rfl) dX1_addRules_55 ⟨Nat.le_of_ble_eq_true rfl, Nat.le_of_ble_eq_true rfl⟩ rfl (fun E a ws' im' hp hx => ?_) (fun r_ ws_ im' hp => ?_)
    · obtain ⟨hb, rfl, rfl, rfl⟩ := hp
      have hod : od1 = true := by simpa using hb
      subst hod
      exact hO _ _ _ _ _ _ _ _ (oC a 25 [] :: oC x 1 [.ref nw, sv, .ref dq, .ref cm, .ref tx, .int 0, .int (-1)] :: Wd) [] (Nat.le_of_ble_eq_true rfl) (Nat.le_of_ble_eq_true rfl) (by decide) (((((List.sublist_append_right _ _).trans (List.sublist_cons_self _ _))).cons₂ _).cons₂ _) (fun _ h => absurd h List.not_mem_nil) ⟨25, _, _, 0, List.mem_cons_self, rfl⟩ ⟨rfl, Or.inr ⟨_, _, _, his, rfl, rfl⟩⟩
    obtain ⟨rfl, rfl, rfl, hb⟩ := hp
    have hod : od1 = false := by simpa using hb
    subst hod
    show F 1479 7433 ((oC x 1 [.ref nw, sv, .ref dq, .ref cm, .ref tx, .int 0, .int (-1)]) :: (oC a1_ 8 [.ref R2, .int (nI at1), .int (nI n1), .int (zB true), .ref x]) :: (U1 ++ Wd)) (im1 ++ (aC D 2 tx (iA 80 t) :: ((oC nw 2 [.ref R, .ref u1, .ref u2, .ref u3, .int (g 88)] :: aC D 4 u1 (qA 6 pe) :: aC D 0 u2 (iA 6 pa) :: oC u3 12 [.int m, .ref u4, .int (nI 6)] :: aC D 3 u4 (qA 10 ca) :: aC D 1 v0 (lA 6 h0) :: aC D 1 v1 (lA 6 h1) :: aC D 1 v2 (lA 6 h2) :: aC D 1 v3 (lA 6 h3) :: aC D 1 v4 (lA 6 h4) :: aC D 1 v5 (lA 6 h5) :: U) ++ iv))) 58 [] [(1, .ref a1_), (0, .ref x)]
    refine r_aload_n 59 1 (hF.pu _ _ _ _) dX1_addRules_58 rfl rfl ?_
    refine f_perm hF (oC x 1 [.ref nw, sv, .ref dq, .ref cm, .ref tx, .int 0, .int (-1)] :: (Wd ++ (oC a1_ 8 [.ref R2, .int (nI at1), .int (nI n1), .int (zB true), .ref x] :: U1))) pm_c ?_
    refine f_callV 62 hF (fc_X1_change (KS := KS) (Hb := Hb) D l x nw dq e cm tx n sv (nI 0) (-1) q g h nb nch ncr (oC nw 2 [.ref R, .ref u1, .ref u2, .ref u3, .int (g 88)] :: aC D 4 u1 (qA 6 pe) :: aC D 0 u2 (iA 6 pa) :: oC u3 12 [.int m, .ref u4, .int (nI 6)] :: aC D 3 u4 (qA 10 ca) :: aC D 1 v0 (lA 6 h0) :: aC D 1 v1 (lA 6 h1) :: aC D 1 v2 (lA 6 h2) :: aC D 1 v3 (lA 6 h3) :: aC D 1 v4 (lA 6 h4) :: aC D 1 v5 (lA 6 h5) :: U) iv Wd hn hd hwc) (wr := oC a1_ 8 [.ref R2, .int (nI at1), .int (nI n1), .int (zB true), .ref x] :: U1) rfl (fun c h => List.mem_append_right _ (List.mem_cons_of_mem _ h)) lk_X1_101 0 yk_X1_change rfl ⟨by decide, by decide⟩ (fun _ z => ((z.o 0 rfl).fld 0 rfl)) rfl rfl (Nat.le_of_ble_eq_true rfl) dX1_addRules_59 ⟨Nat.le_of_ble_eq_true rfl, Nat.le_of_ble_eq_true rfl⟩ rfl (fun r_ ws_ im' hp => ?_)
    obtain ⟨a, W1, W2, rfl, rfl, rfl, hdq, pf2, rb2, f42, f62, Rz, Uz, hrz, ⟨w1, w2, w3, w4, m2, pe2, pa2, ca2, z0, z1, z2, z3, z4, z5, k0, k1, k2, k3, k4, k5, rfl, ho1, ho2, ho3, ho4, ho5, ho6, ho7, ho8, ho9⟩, hiz⟩ := hp
    refine f_perm hF ((oC a1_ 8 [.ref R2, .int (nI at1), .int (nI n1), .int (zB true), .ref x]) :: (oC a 2 [.ref Rz, .ref w1, .ref w2, .ref w3, .int (g 88)]) :: (oC x 1 [.ref a, sv, .ref dq, .ref cm, .ref tx, .int 0, .int (-1)]) :: ([aC D 4 w1 (qA 6 pe2), aC D 0 w2 (iA 6 pa2), oC w3 12 [.int m2, .ref w4, .int (nI 6)], aC D 3 w4 (qA 10 ca2), aC D 1 z0 (lA 6 k0), aC D 1 z1 (lA 6 k1), aC D 1 z2 (lA 6 k2), aC D 1 z3 (lA 6 k3), aC D 1 z4 (lA 6 k4), aC D 1 z5 (lA 6 k5)] ++ (U1 ++ (W1 ++ Uz)))) (pm_w (V := [aC D 4 w1 (qA 6 pe2), aC D 0 w2 (iA 6 pa2), oC w3 12 [.int m2, .ref w4, .int (nI 6)], aC D 3 w4 (qA 10 ca2), aC D 1 z0 (lA 6 k0), aC D 1 z1 (lA 6 k1), aC D 1 z2 (lA 6 k2), aC D 1 z3 (lA 6 k3), aC D 1 z4 (lA 6 k4), aC D 1 z5 (lA 6 k5)])) ?_
    show F 1521 7623 ((oC a1_ 8 [.ref R2, .int (nI at1), .int (nI n1), .int (zB true), .ref x]) :: (oC a 2 [.ref Rz, .ref w1, .ref w2, .ref w3, .int (g 88)]) :: (oC x 1 [.ref a, sv, .ref dq, .ref cm, .ref tx, .int 0, .int (-1)]) :: ([aC D 4 w1 (qA 6 pe2), aC D 0 w2 (iA 6 pa2), oC w3 12 [.int m2, .ref w4, .int (nI 6)], aC D 3 w4 (qA 10 ca2), aC D 1 z0 (lA 6 k0), aC D 1 z1 (lA 6 k1), aC D 1 z2 (lA 6 k2), aC D 1 z3 (lA 6 k3), aC D 1 z4 (lA 6 k4), aC D 1 z5 (lA 6 k5)] ++ (U1 ++ (W1 ++ Uz)))) (im1 ++ (aC D 2 tx (iA 80 t) :: ((oC nw 2 [.ref R, .ref u1, .ref u2, .ref u3, .int (g 88)] :: aC D 4 u1 (qA 6 pe) :: aC D 0 u2 (iA 6 pa) :: oC u3 12 [.int m, .ref u4, .int (nI 6)] :: aC D 3 u4 (qA 10 ca) :: aC D 1 v0 (lA 6 h0) :: aC D 1 v1 (lA 6 h1) :: aC D 1 v2 (lA 6 h2) :: aC D 1 v3 (lA 6 h3) :: aC D 1 v4 (lA 6 h4) :: aC D 1 v5 (lA 6 h5) :: U) ++ iv))) 62 [.ref a] [(1, .ref a1_), (0, .ref x)]
    refine r_aload_n 63 0 (hF.pu _ _ _ _) dX1_addRules_62 rfl rfl ?_
    refine f_getf 66 hF (T := TX9) (C := RX9) 0 (v := .ref R2) okX9 (fun _ z => ((z.o 0 rfl).fld 0 rfl)) rfl (by decide) (Or.inr ⟨_, nw_q2050⟩) (Or.inl rfl) dX1_addRules_63 rfl ?_
    refine f_put 69 hF 1 (T := TX2) (C := RX2) ((oC a1_ 8 [.ref R2, .int (nI at1), .int (nI n1), .int (zB true), .ref x]) :: (oC a 2 [.ref R2, .ref w1, .ref w2, .ref w3, .int (g 88)]) :: (oC x 1 [.ref a, sv, .ref dq, .ref cm, .ref tx, .int 0, .int (-1)]) :: ([aC D 4 w1 (qA 6 pe2), aC D 0 w2 (iA 6 pa2), oC w3 12 [.int m2, .ref w4, .int (nI 6)], aC D 3 w4 (qA 10 ca2), aC D 1 z0 (lA 6 k0), aC D 1 z1 (lA 6 k1), aC D 1 z2 (lA 6 k2), aC D 1 z3 (lA 6 k3), aC D 1 z4 (lA 6 k4), aC D 1 z5 (lA 6 k5)] ++ (U1 ++ (W1 ++ Uz)))) okX2 rfl rfl 0 (by decide) (Or.inr ⟨_, nw_q448⟩) (Or.inl rfl) rfl rfl rfl (Nat.le_of_ble_eq_true rfl) rfl dX1_addRules_66 rfl ?_
    refine r_aload_n 70 0 (hF.pu _ _ _ _) dX1_addRules_69 rfl rfl ?_
    refine f_getf 73 hF (T := TX9) (C := RX9) 2 (v := .int (nI n1)) okX9 (fun _ z => ((z.o 0 rfl).fld 2 rfl)) rfl (by decide) (Or.inr ⟨_, nw_q2052⟩) (Or.inl rfl) dX1_addRules_70 rfl ?_
    refine f_perm hF ([oC a1_ 8 [.ref R2, .int (nI at1), .int (nI n1), .int (zB true), .ref x]] ++ ((oC x 1 [.ref a, sv, .ref dq, .ref cm, .ref tx, .int 0, .int (-1)] :: (W1 ++ (oC a 2 [.ref R2, .ref w1, .ref w2, .ref w3, .int (g 88)] :: ([aC D 4 w1 (qA 6 pe2), aC D 0 w2 (iA 6 pa2), oC w3 12 [.int m2, .ref w4, .int (nI 6)], aC D 3 w4 (qA 10 ca2), aC D 1 z0 (lA 6 k0), aC D 1 z1 (lA 6 k1), aC D 1 z2 (lA 6 k2), aC D 1 z3 (lA 6 k3), aC D 1 z4 (lA 6 k4), aC D 1 z5 (lA 6 k5)] ++ U1)))) ++ Uz)) pm_z ?_
    refine f_drop hF _ _ rfl ?_
    refine f_perm hF (Uz ++ (oC x 1 [.ref a, sv, .ref dq, .ref cm, .ref tx, .int 0, .int (-1)] :: (W1 ++ (oC a 2 [.ref R2, .ref w1, .ref w2, .ref w3, .int (g 88)] :: ([aC D 4 w1 (qA 6 pe2), aC D 0 w2 (iA 6 pa2), oC w3 12 [.int m2, .ref w4, .int (nI 6)], aC D 3 w4 (qA 10 ca2), aC D 1 z0 (lA 6 k0), aC D 1 z1 (lA 6 k1), aC D 1 z2 (lA 6 k2), aC D 1 z3 (lA 6 k3), aC D 1 z4 (lA 6 k4), aC D 1 z5 (lA 6 k5)] ++ U1))))) List.perm_append_comm ?_
    refine f_drop hF _ _ rfl ?_
    refine f_imsub hF im1 (fun c h => List.mem_append_left _ h) ?_
    have hgx : ∀ x, 64 ≤ x → g1 x = g x := fun x hx => isG_x his hc hx
    exact FR.i hR rfl dX1_addRules_73 (Nat.le_of_ble_eq_true rfl) (Nat.le_of_ble_eq_true rfl) ⟨a, W1, _, at1, n1, g1, nb1, nch1, ncr1, rfl, rfl, his, hdq, ⟨pf2, rb1, f41, f61, R2, U1, hr1, ⟨w1, w2, w3, w4, m2, pe2, pa2, ca2, z0, z1, z2, z3, z4, z5, k0, k1, k2, k3, k4, k5, by rw [hgx 88 (by decide)]; rfl, ho1, fun p hp => (ho2 p hp).trans (hgx _ (by omega)).symm, ho3, ho4, ho5, ho6, ho7, ho8, ho9⟩, hi1.pf hiz hgx⟩, hrc1, hrn1, hal1 rfl, hbu1⟩
