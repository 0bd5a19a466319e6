theorem zd_1 {p : Prop} [Decidable p] (h : p) : (1 : Int32) = zB (decide p) := by rw [decide_eq_true h]; rfl
theorem zd_0 {p : Prop} [Decidable p] (h : ¬ p) : (0 : Int32) = zB (decide p) := by rw [decide_eq_false h]; rfl
theorem im3 {a b c : Nat × va_E} {T : va_W} : ∀ q ∈ a :: b :: c :: T, q ∈ c :: a :: b :: T := fun q h => by
  simp only [List.mem_cons] at h ⊢
  rcases h with h | h | h | h <;> simp [h]
theorem im2 {a b x y : Nat × va_E} {T : va_W} : ∀ q ∈ a :: b :: T, q ∈ a :: b :: x :: y :: T := fun q h => by
  simp only [List.mem_cons] at h ⊢
  rcases h with h | h | h <;> simp [h]
/-- the end of the pair of numbers that begins at p -/
def bQ (t : Nat → Int32) (ln p : Nat) : Nat := p + nuD t ln p + 1 + nuD t ln (p + nuD t ln p + 1)
def bcR (t : Nat → Int32) (ln : Nat) : Nat → Nat → Bool × Nat
  | 0, p => (false, p)
  | f + 1, p => if nuD t ln p = 0 then (false, p) else if ¬ heC t ln (p + nuD t ln p) = 58 then (false, p + nuD t ln p) else if nuD t ln (p + nuD t ln p + 1) = 0 then (false, p + nuD t ln p + 1)
    else if heC t ln (bQ t ln p) = 44 then bcR t ln f (bQ t ln p + 1) else (true, bQ t ln p)
/-- where the pairs begin -/
def bP (t : Nat → Int32) (ln sp : Nat) : Nat → Nat
  | 0 => sp
  | k + 1 => bQ t ln (bP t ln sp k) + 1
/-- threshold and rate of the pair k -/
def bTh (t : Nat → Int32) (ln sp k : Nat) : Nat := nuN t ln (bP t ln sp k)
def bRt (t : Nat → Int32) (ln sp k : Nat) : Nat := nuN t ln (bP t ln sp k + nuD t ln (bP t ln sp k) + 1)
section BC
variable {t : Nat → Int32} {ln f p : Nat}
theorem bc_f (h : nuD t ln p = 0) : bcR t ln (f + 1) p = (false, p) := by rw [bcR, if_pos h]
theorem bc_c (h : 0 < nuD t ln p) (h2 : ¬ heC t ln (p + nuD t ln p) = 58) : bcR t ln (f + 1) p = (false, p + nuD t ln p) := by rw [bcR, if_neg (by omega), if_pos h2]
theorem bc_g (h : 0 < nuD t ln p) (h2 : heC t ln (p + nuD t ln p) = 58) (h3 : nuD t ln (p + nuD t ln p + 1) = 0) : bcR t ln (f + 1) p = (false, p + nuD t ln p + 1) := by rw [bcR, if_neg (by omega), if_neg (fun z => z h2), if_pos h3]
theorem bc_s (h : 0 < nuD t ln p) (h2 : heC t ln (p + nuD t ln p) = 58) (h3 : 0 < nuD t ln (p + nuD t ln p + 1)) : bcR t ln (f + 1) p = if heC t ln (bQ t ln p) = 44 then bcR t ln f (bQ t ln p + 1) else (true, bQ t ln p) := by
  rw [bcR, if_neg (by omega), if_neg (fun z => z h2), if_neg (by omega)]
end BC
/-- the cells of the pairs read so far: their objects at bt, in bv -/
def bkS (t : Nat → Int32) (ln sp n : Nat) (f : Nat → Option Nat) (bt : Nat → Nat) (bv : va_W) : Prop := ∀ k, k < n → f k = some (bt k) ∧ oC (bt k) 4 [.int (nI (bTh t ln sp k)), .int (nI (bRt t ln sp k))] ∈ bv
theorem bkS.one {t : Nat → Int32} {ln sp c : Nat} : bkS t ln sp 1 (va_up (fun _ => none) 0 (some c)) (fun _ => c) [oC c 4 [.int (nI (bTh t ln sp 0)), .int (nI (bRt t ln sp 0))]] := fun k hk => by
  have : k = 0 := by omega
  subst this; exact ⟨rfl, List.mem_cons_self⟩
theorem bkS.succ {t : Nat → Int32} {ln sp n c : Nat} {f : Nat → Option Nat} {bt : Nat → Nat} {bv : va_W} (h : bkS t ln sp n f bt bv) : bkS t ln sp (n + 1) (va_up f n (some c)) (va_up bt n c) (oC c 4 [.int (nI (bTh t ln sp n)), .int (nI (bRt t ln sp n))] :: bv) := fun k hk => by
  by_cases e : k = n
  · subst e; exact ⟨by simp [va_up], by simp [va_up]⟩
  · obtain ⟨h1, h2⟩ := h k (by omega)
    exact ⟨by simp only [va_up, if_neg e]; exact h1, by simp only [va_up, if_neg e]; exact List.mem_cons_of_mem _ h2⟩
def bcA (t : Nat → Int32) (ln sp n : Nat) : Prop := (∀ k, k ≤ n → 0 < nuD t ln (bP t ln sp k) ∧ heC t ln (bP t ln sp k + nuD t ln (bP t ln sp k)) = 58 ∧ 0 < nuD t ln (bP t ln sp k + nuD t ln (bP t ln sp k) + 1)) ∧ ∀ k, k < n → heC t ln (bQ t ln (bP t ln sp k)) = 44
theorem bcA.one {t : Nat → Int32} {ln sp : Nat} (h1 : 0 < nuD t ln sp) (h2 : heC t ln (sp + nuD t ln sp) = 58) (h3 : 0 < nuD t ln (sp + nuD t ln sp + 1)) : bcA t ln sp 0 :=
  ⟨fun k hk => by have : k = 0 := by omega
                  subst this; exact ⟨h1, h2, h3⟩, fun k hk => absurd hk (Nat.not_lt_zero _)⟩
theorem bcA.succ {t : Nat → Int32} {ln sp n : Nat} (h : bcA t ln sp n) (h0 : heC t ln (bQ t ln (bP t ln sp n)) = 44) (h1 : 0 < nuD t ln (bP t ln sp (n + 1))) (h2 : heC t ln (bP t ln sp (n + 1) + nuD t ln (bP t ln sp (n + 1))) = 58) (h3 : 0 < nuD t ln (bP t ln sp (n + 1) + nuD t ln (bP t ln sp (n + 1)) + 1)) : bcA t ln sp (n + 1) := by
  refine ⟨fun k hk => ?_, fun k hk => ?_⟩
  · by_cases e : k = n + 1
    · subst e; exact ⟨h1, h2, h3⟩
    · exact h.1 k (by omega)
  · by_cases e : k = n
    · subst e; exact h0
    · exact h.2 k (by omega)
set_option maxHeartbeats 4000000 in
theorem fc_X9_brackets (D : DD) (l : Launch) (hl : l.stackTraces = false) {KS : Nat → Prop} {Hb : Heap} (r x R tx sp : Nat) (it : Int32) (ab : Bool) (x0 x1 x2 x3 x6 : Value) (t : Nat → Int32) (ln : Nat) (hln : ln ≤ 80) (hch : ∀ i, i < ln → inB (t i) 33 126 = true) (hsp : sp ≤ ln) (rb r2 r3 r4 r6 : Nat) (hl23 : ln ≤ 23) : Gc D l yX9_brackets cX9_brackets 4 none 6 30 174 132 KS Hb [.ref r] ([oC r 8 [.ref R, .int (nI sp), .int it, .int (zB ab), .ref x], oC R 3 [.ref rb, .ref r2, .ref r3, .ref r4, .ref r6]]) ([oC x 1 [x0, x1, x2, x3, .ref tx, .int (nI ln), x6], aC D 2 tx (iA 80 t)]) (fun r_ w i => ∃ l_ e_ f_ bt bv n mc, r_ = none ∧ w = [oC r 8 [.ref R, .int (nI (bQ t ln (bP t ln sp n))), .int it, .int (zB ab), .ref x], oC R 3 [.ref l_, .ref r2, .ref r3, .ref r4, .ref r6]] ∧ i = oC l_ 12 [.int mc, .ref e_, .int (nI (n + 1))] :: aC D 3 e_ (qA 10 f_) :: bv ∧ n ≤ 5 ∧ bkS t ln sp (n + 1) f_ bt bv ∧ bcA t ln sp n ∧ ¬ heC t ln (bQ t ln (bP t ln sp n)) = 44 ∧ bcR t ln (ln + 1) sp = (true, bQ t ln (bP t ln sp n)) ∧ (¬ l_ = x ∧ ¬ e_ = x ∧ ∀ q ∈ bv, ¬ q.1 = x)) (pxF ((bcR t ln (ln + 1) sp).1 = false) (bcR t ln (ln + 1) sp).2) := by
  refine Gc.of hl (by decide) (Nat.le_of_ble_eq_true rfl) (fun s F X hG hR hO => ?_)
  have hF := hG.f
  show F 0 0 ([oC r 8 [.ref R, .int (nI sp), .int it, .int (zB ab), .ref x], oC R 3 [.ref rb, .ref r2, .ref r3, .ref r4, .ref r6]]) ([oC x 1 [x0, x1, x2, x3, .ref tx, .int (nI ln), x6], aC D 2 tx (iA 80 t)]) 0 [] [(0, .ref r)]
  refine f_new 3 hF (ci := 12) [.int 0, .null, .int 0] okJ8 rfl q2162 q241 q114 dvJ8 ⟨Nat.le_of_ble_eq_true rfl, Nat.le_of_ble_eq_true rfl⟩ dX9_brackets_0 rfl (fun a1_ => ?_)
  refine r_dup 4 (hF.pu _ _ _ _) dX9_brackets_3 rfl rfl ?_
  refine f_callI 7 hF (fc_J8_init_J8 (KS := KS) (Hb := Hb) D l a1_) (wr := ([oC r 8 [.ref R, .int (nI sp), .int it, .int (zB ab), .ref x], oC R 3 [.ref rb, .ref r2, .ref r3, .ref r4, .ref r6]])) rfl (imk [] rfl) q244 q114 q2163 q243 rfl 0 yk_J8_init rfl ⟨by decide, by decide⟩ rfl (Nat.le_of_ble_eq_true rfl) dX9_brackets_4 ⟨Nat.le_of_ble_eq_true rfl, Nat.le_of_ble_eq_true rfl⟩ rfl (fun r ws_ im' hp => ?_)
  obtain ⟨rfl, rfl, rfl⟩ := hp
  show F 1 3 ([oC a1_ 12 [.int 0, .ref (D.2.2.1 1), .int 0], oC r 8 [.ref R, .int (nI sp), .int it, .int (zB ab), .ref x], oC R 3 [.ref rb, .ref r2, .ref r3, .ref r4, .ref r6]]) ([oC x 1 [x0, x1, x2, x3, .ref tx, .int (nI ln), x6], aC D 2 tx (iA 80 t)]) 7 [.ref a1_] [(0, .ref r)]
  refine r_astore_n 8 [(1, .ref a1_), (0, .ref r)] (hF.pu _ _ _ _) dX9_brackets_7 rfl (by decide) rfl rfl ?_
  refine r_iconst 9 1 (hF.pu _ _ _ _) dX9_brackets_8 (by decide) rfl ?_
  refine r_istore_n 10 [(2, .int 1), (1, .ref a1_), (0, .ref r)] (hF.pu _ _ _ _) dX9_brackets_9 rfl (by decide) rfl rfl ?_
  refine r_iload_n 11 0 (hF.pu _ _ _ _) dX9_brackets_10 rfl rfl ?_
  refine r_if_eq 14 90 (hF.pu _ _ _ _) dX9_brackets_11 (by decide) (fun c => absurd c (by decide)) rfl (fun _ => ?_)
  refine r_aload_n 15 2 (hF.pu _ _ _ _) dX9_brackets_14 rfl rfl ?_
  refine f_ups hF [1] ([oC r 8 [.ref R, .int (nI sp), .int it, .int (zB ab), .ref x], oC a1_ 12 [.int 0, .ref (D.2.2.1 1), .int 0], oC R 3 [.ref rb, .ref r2, .ref r3, .ref r4, .ref r6]]) rfl ?_
  refine g_callV 18 hG (fc_X9_number (KS := KS) (Hb := Hb) D l hl r x R tx sp it ab x0 x1 x2 x3 x6 t ln hln hch (by omega)) (wr := ([oC a1_ 12 [.int 0, .ref (D.2.2.1 1), .int 0], oC R 3 [.ref rb, .ref r2, .ref r3, .ref r4, .ref r6]])) rfl (imk [0, 1] rfl) lk_X9_71 0 yk_X9_number rfl ⟨by decide, by decide⟩ (fun _ z => ((z.o 0 rfl).fld 0 rfl)) rfl rfl (Nat.le_of_ble_eq_true rfl) dX9_brackets_15 ⟨Nat.le_of_ble_eq_true rfl, Nat.le_of_ble_eq_true rfl⟩ rfl (fun E a ws' im' hp hx => by obtain ⟨hb, rfl, rfl, rfl⟩ := hp; exact g_out hO 0 rfl (Nat.le_of_ble_eq_true rfl) (Nat.le_of_ble_eq_true rfl) (pr_f (bc_f hb) rfl)) (fun r ws_ im' hp => ?_)
  obtain ⟨rfl, rfl, rfl, hp15⟩ := hp
  show F 2 10 ([oC r 8 [.ref R, .int (nI (sp + nuD t ln sp)), .int it, .int (zB ab), .ref x], oC a1_ 12 [.int 0, .ref (D.2.2.1 1), .int 0], oC R 3 [.ref rb, .ref r2, .ref r3, .ref r4, .ref r6]]) ([oC x 1 [x0, x1, x2, x3, .ref tx, .int (nI ln), x6], aC D 2 tx (iA 80 t)]) 18 [.int (nuA t sp (nuD t ln sp))] [(2, .int 1), (1, .ref a1_), (0, .ref r)]
  have hle1 := (nuC_le (t := t) (ln := ln) 4 (sp) (by omega)).1
  have hnd1 : nuD t ln (sp) = nuC t ln 4 (sp) := rfl
  refine r_eqi (nI (bTh t ln sp 0)) (nuN_of (by omega)).1 ?_
  refine r_istore_n 19 [(3, .int (nI (bTh t ln sp 0))), (2, .int 1), (1, .ref a1_), (0, .ref r)] (hF.pu _ _ _ _) dX9_brackets_18 rfl (by decide) rfl rfl ?_
  refine r_aload_n 20 3 (hF.pu _ _ _ _) dX9_brackets_19 rfl rfl ?_
  refine r_aload_n 21 3 (hF.pu _ _ _ _) dX9_brackets_20 rfl rfl ?_
  refine f_callp 24 hF (fun _ z => cp_X9_here D l r x tx (sp + nuD t ln sp) t ln hln hch (by omega) ((z.o 0 rfl).fld 1 rfl) ((z.o 0 rfl).fld 4 rfl) ((z.mo 0 rfl).fld 4 rfl) ((z.mo 0 rfl).fld 5 rfl) (z.ma 1 rfl)) lk_X9_52 0 yk_X9_here rfl ⟨by decide, by decide⟩ (fun _ z => ((z.o 0 rfl).fld 0 rfl)) rfl rfl (Nat.le_of_ble_eq_true rfl) dX9_brackets_21 ⟨Nat.le_of_ble_eq_true rfl, Nat.le_of_ble_eq_true rfl⟩ rfl ?_
  refine r_bipush 26 58 (hF.pu _ _ _ _) dX9_brackets_24 (by decide) rfl ?_
  have hj_26 : F 2 10 ([oC r 8 [.ref R, .int (nI (sp + nuD t ln sp)), .int it, .int (zB ab), .ref x], oC a1_ 12 [.int 0, .ref (D.2.2.1 1), .int 0], oC R 3 [.ref rb, .ref r2, .ref r3, .ref r4, .ref r6]]) ([oC x 1 [x0, x1, x2, x3, .ref tx, .int (nI ln), x6], aC D 2 tx (iA 80 t)]) 34 [.int (zB (decide (heC t ln (sp + nuD t ln sp) = 58))), .ref r] [(3, .int (nI (bTh t ln sp 0))), (2, .int 1), (1, .ref a1_), (0, .ref r)] := by
    refine g_callV 37 hG (fc_X9_pass (KS := KS) (Hb := Hb) D l hl r x R (sp + nuD t ln sp) it ab (decide (heC t ln (sp + nuD t ln sp) = 58))) (wr := ([oC a1_ 12 [.int 0, .ref (D.2.2.1 1), .int 0], oC R 3 [.ref rb, .ref r2, .ref r3, .ref r4, .ref r6]])) rfl (imk [] rfl) lk_X9_64 1 yk_X9_pass rfl ⟨by decide, by decide⟩ (fun _ z => ((z.o 0 rfl).fld 0 rfl)) rfl rfl (Nat.le_of_ble_eq_true rfl) dX9_brackets_34 ⟨Nat.le_of_ble_eq_true rfl, Nat.le_of_ble_eq_true rfl⟩ rfl (fun E a ws' im' hp hx => by obtain ⟨hb, rfl, rfl, rfl⟩ := hp; exact g_out hO 0 rfl (Nat.le_of_ble_eq_true rfl) (Nat.le_of_ble_eq_true rfl) (pr_f (bc_c hp15 (of_decide_eq_false hb)) rfl)) (fun r ws_ im' hp => ?_)
    obtain ⟨rfl, rfl, rfl, hp34⟩ := hp
    show F 3 17 ([oC r 8 [.ref R, .int (nI (sp + nuD t ln sp + 1)), .int it, .int (zB ab), .ref x], oC a1_ 12 [.int 0, .ref (D.2.2.1 1), .int 0], oC R 3 [.ref rb, .ref r2, .ref r3, .ref r4, .ref r6]]) ([oC x 1 [x0, x1, x2, x3, .ref tx, .int (nI ln), x6], aC D 2 tx (iA 80 t)]) 37 [] [(3, .int (nI (bTh t ln sp 0))), (2, .int 1), (1, .ref a1_), (0, .ref r)]
    have hc58 := of_decide_eq_true hp34
    have hl58 := heC_p (by decide) hc58
    refine r_aload_n 38 2 (hF.pu _ _ _ _) dX9_brackets_37 rfl rfl ?_
    refine f_new 41 hF (ci := 4) [.int 0, .int 0] okX4 rfl q2173 q194 q105 dvX4 ⟨Nat.le_of_ble_eq_true rfl, Nat.le_of_ble_eq_true rfl⟩ dX9_brackets_38 rfl (fun a2_ => ?_)
    refine r_dup 42 (hF.pu _ _ _ _) dX9_brackets_41 rfl rfl ?_
    refine r_iload_n 43 0 (hF.pu _ _ _ _) dX9_brackets_42 rfl rfl ?_
    refine r_aload_n 44 3 (hF.pu _ _ _ _) dX9_brackets_43 rfl rfl ?_
    refine f_ups hF [1] ([oC r 8 [.ref R, .int (nI (sp + nuD t ln sp + 1)), .int it, .int (zB ab), .ref x], oC a2_ 4 [.int 0, .int 0], oC a1_ 12 [.int 0, .ref (D.2.2.1 1), .int 0], oC R 3 [.ref rb, .ref r2, .ref r3, .ref r4, .ref r6]]) rfl ?_
    refine g_callV 47 hG (fc_X9_number (KS := KS) (Hb := Hb) D l hl r x R tx (sp + nuD t ln sp + 1) it ab x0 x1 x2 x3 x6 t ln hln hch (by omega)) (wr := ([oC a2_ 4 [.int 0, .int 0], oC a1_ 12 [.int 0, .ref (D.2.2.1 1), .int 0], oC R 3 [.ref rb, .ref r2, .ref r3, .ref r4, .ref r6]])) rfl (imk [0, 1] rfl) lk_X9_71 0 yk_X9_number rfl ⟨by decide, by decide⟩ (fun _ z => ((z.o 0 rfl).fld 0 rfl)) rfl rfl (Nat.le_of_ble_eq_true rfl) dX9_brackets_44 ⟨Nat.le_of_ble_eq_true rfl, Nat.le_of_ble_eq_true rfl⟩ rfl (fun E a ws' im' hp hx => by obtain ⟨hb, rfl, rfl, rfl⟩ := hp; exact g_out hO 0 rfl (Nat.le_of_ble_eq_true rfl) (Nat.le_of_ble_eq_true rfl) (pr_f (bc_g hp15 hc58 hb) rfl)) (fun r ws_ im' hp => ?_)
    obtain ⟨rfl, rfl, rfl, hp44⟩ := hp
    show F 5 26 ([oC r 8 [.ref R, .int (nI (sp + nuD t ln sp + 1 + nuD t ln (sp + nuD t ln sp + 1))), .int it, .int (zB ab), .ref x], oC a2_ 4 [.int 0, .int 0], oC a1_ 12 [.int 0, .ref (D.2.2.1 1), .int 0], oC R 3 [.ref rb, .ref r2, .ref r3, .ref r4, .ref r6]]) ([oC x 1 [x0, x1, x2, x3, .ref tx, .int (nI ln), x6], aC D 2 tx (iA 80 t)]) 47 [.int (nuA t (sp + nuD t ln sp + 1) (nuD t ln (sp + nuD t ln sp + 1))), .int (nI (bTh t ln sp 0)), .ref a2_, .ref a2_, .ref a1_] [(3, .int (nI (bTh t ln sp 0))), (2, .int 1), (1, .ref a1_), (0, .ref r)]
    have hle2 := (nuC_le (t := t) (ln := ln) 4 (sp + nuD t ln sp + 1) (by omega)).1
    have hnd2 : nuD t ln (sp + nuD t ln sp + 1) = nuC t ln 4 (sp + nuD t ln sp + 1) := rfl
    have hbq : bQ t ln sp = sp + nuD t ln sp + 1 + nuD t ln (sp + nuD t ln sp + 1) := rfl
    have hbc := bc_s (f := ln) hp15 hc58 hp44
    refine r_eqi (nI (bRt t ln sp 0)) (nuN_of (by omega)).1 ?_
    refine f_ups hF [1] ([oC a2_ 4 [.int 0, .int 0], oC r 8 [.ref R, .int (nI (sp + nuD t ln sp + 1 + nuD t ln (sp + nuD t ln sp + 1))), .int it, .int (zB ab), .ref x], oC a1_ 12 [.int 0, .ref (D.2.2.1 1), .int 0], oC R 3 [.ref rb, .ref r2, .ref r3, .ref r4, .ref r6]]) rfl ?_
    refine f_callI 50 hF (fc_X4_init (KS := KS) (Hb := Hb) D l a2_ (nI (bTh t ln sp 0)) (nI (bRt t ln sp 0))) (wr := ([oC r 8 [.ref R, .int (nI (sp + nuD t ln sp + 1 + nuD t ln (sp + nuD t ln sp + 1))), .int it, .int (zB ab), .ref x], oC a1_ 12 [.int 0, .ref (D.2.2.1 1), .int 0], oC R 3 [.ref rb, .ref r2, .ref r3, .ref r4, .ref r6]])) rfl (imk [] rfl) q197 q105 q2174 q196 rfl 2 yk_X4_init rfl ⟨by decide, by decide⟩ rfl (Nat.le_of_ble_eq_true rfl) dX9_brackets_47 ⟨Nat.le_of_ble_eq_true rfl, Nat.le_of_ble_eq_true rfl⟩ rfl (fun r ws_ im' hp => ?_)
    obtain ⟨rfl, rfl, rfl⟩ := hp
    show F 5 26 ([oC a2_ 4 [.int (nI (bTh t ln sp 0)), .int (nI (bRt t ln sp 0))], oC r 8 [.ref R, .int (nI (sp + nuD t ln sp + 1 + nuD t ln (sp + nuD t ln sp + 1))), .int it, .int (zB ab), .ref x], oC a1_ 12 [.int 0, .ref (D.2.2.1 1), .int 0], oC R 3 [.ref rb, .ref r2, .ref r3, .ref r4, .ref r6]]) ([oC x 1 [x0, x1, x2, x3, .ref tx, .int (nI ln), x6], aC D 2 tx (iA 80 t)]) 50 [.ref a2_, .ref a1_] [(3, .int (nI (bTh t ln sp 0))), (2, .int 1), (1, .ref a1_), (0, .ref r)]
    refine f_ups hF [2] ([oC a1_ 12 [.int 0, .ref (D.2.2.1 1), .int 0], oC a2_ 4 [.int (nI (bTh t ln sp 0)), .int (nI (bRt t ln sp 0))], oC r 8 [.ref R, .int (nI (sp + nuD t ln sp + 1 + nuD t ln (sp + nuD t ln sp + 1))), .int it, .int (zB ab), .ref x], oC R 3 [.ref rb, .ref r2, .ref r3, .ref r4, .ref r6]]) rfl ?_
    refine f_callV 53 hF (fc_J8_add_e (KS := KS) (Hb := Hb) D l a1_ a2_ 0 [oC a2_ 4 [.int (nI (bTh t ln sp 0)), .int (nI (bRt t ln sp 0))]] [] (fun H h => anyK.ofob (h _ List.mem_cons_self) rfl nw_q3952)) (wr := ([oC r 8 [.ref R, .int (nI (sp + nuD t ln sp + 1 + nuD t ln (sp + nuD t ln sp + 1))), .int it, .int (zB ab), .ref x], oC R 3 [.ref rb, .ref r2, .ref r3, .ref r4, .ref r6]])) rfl (imk [] rfl) lk_X9_81 1 yk_J8_add rfl ⟨by decide, by decide⟩ (fun _ z => ((z.o 0 rfl).fld 0 rfl)) rfl rfl (Nat.le_of_ble_eq_true rfl) dX9_brackets_50 ⟨Nat.le_of_ble_eq_true rfl, Nat.le_of_ble_eq_true rfl⟩ rfl (fun r ws_ im' hp => ?_)
    obtain ⟨a3_, rfl, rfl, rfl⟩ := hp
    show F 6 36 ([oC a1_ 12 [.int (0 + 1), .ref a3_, .int (nI 1)], aC D 3 a3_ (qA 10 (va_up (fun _ => none) 0 (some a2_))), oC a2_ 4 [.int (nI (bTh t ln sp 0)), .int (nI (bRt t ln sp 0))], oC r 8 [.ref R, .int (nI (sp + nuD t ln sp + 1 + nuD t ln (sp + nuD t ln sp + 1))), .int it, .int (zB ab), .ref x], oC R 3 [.ref rb, .ref r2, .ref r3, .ref r4, .ref r6]]) ([oC x 1 [x0, x1, x2, x3, .ref tx, .int (nI ln), x6], aC D 2 tx (iA 80 t)]) 53 [.int 1] [(3, .int (nI (bTh t ln sp 0))), (2, .int 1), (1, .ref a1_), (0, .ref r)]
    refine f_ups hF [2] ([oC a2_ 4 [.int (nI (bTh t ln sp 0)), .int (nI (bRt t ln sp 0))], oC a1_ 12 [.int (0 + 1), .ref a3_, .int (nI 1)], aC D 3 a3_ (qA 10 (va_up (fun _ => none) 0 (some a2_))), oC r 8 [.ref R, .int (nI (sp + nuD t ln sp + 1 + nuD t ln (sp + nuD t ln sp + 1))), .int it, .int (zB ab), .ref x], oC R 3 [.ref rb, .ref r2, .ref r3, .ref r4, .ref r6]]) rfl ?_
    refine f_frzx hF (fun hzx_ => ?_)
    have hcx : ¬ a2_ = x := fun z => hzx_ _ (List.mem_of_getElem? (i := 0) rfl) z.symm
    refine f_ups hF [3] ([oC R 3 [.ref rb, .ref r2, .ref r3, .ref r4, .ref r6], oC a1_ 12 [.int (0 + 1), .ref a3_, .int (nI 1)], aC D 3 a3_ (qA 10 (va_up (fun _ => none) 0 (some a2_))), oC r 8 [.ref R, .int (nI (sp + nuD t ln sp + 1 + nuD t ln (sp + nuD t ln sp + 1))), .int it, .int (zB ab), .ref x]]) rfl ?_
    refine f_ups hF [2] ([aC D 3 a3_ (qA 10 (va_up (fun _ => none) 0 (some a2_))), oC R 3 [.ref rb, .ref r2, .ref r3, .ref r4, .ref r6], oC a1_ 12 [.int (0 + 1), .ref a3_, .int (nI 1)], oC r 8 [.ref R, .int (nI (sp + nuD t ln sp + 1 + nuD t ln (sp + nuD t ln sp + 1))), .int it, .int (zB ab), .ref x]]) rfl ?_
    refine f_ups hF [2] ([oC a1_ 12 [.int (0 + 1), .ref a3_, .int (nI 1)], aC D 3 a3_ (qA 10 (va_up (fun _ => none) 0 (some a2_))), oC R 3 [.ref rb, .ref r2, .ref r3, .ref r4, .ref r6], oC r 8 [.ref R, .int (nI (sp + nuD t ln sp + 1 + nuD t ln (sp + nuD t ln sp + 1))), .int it, .int (zB ab), .ref x]]) rfl ?_
    refine f_ups hF [3] ([oC r 8 [.ref R, .int (nI (sp + nuD t ln sp + 1 + nuD t ln (sp + nuD t ln sp + 1))), .int it, .int (zB ab), .ref x], oC a1_ 12 [.int (0 + 1), .ref a3_, .int (nI 1)], aC D 3 a3_ (qA 10 (va_up (fun _ => none) 0 (some a2_))), oC R 3 [.ref rb, .ref r2, .ref r3, .ref r4, .ref r6]]) rfl ?_
    refine f_imsub hF ((oC x 1 [x0, x1, x2, x3, .ref tx, .int (nI ln), x6]) :: (aC D 2 tx (iA 80 t)) :: [oC a2_ 4 [.int (nI (bTh t ln sp 0)), .int (nI (bRt t ln sp 0))]]) im3 ?_
    show F 6 36 ([oC r 8 [.ref R, .int (nI (bQ t ln sp)), .int it, .int (zB ab), .ref x], oC a1_ 12 [.int (0 + 1), .ref a3_, .int (nI 1)], aC D 3 a3_ (qA 10 (va_up (fun _ => none) 0 (some a2_))), oC R 3 [.ref rb, .ref r2, .ref r3, .ref r4, .ref r6]]) ((oC x 1 [x0, x1, x2, x3, .ref tx, .int (nI ln), x6]) :: (aC D 2 tx (iA 80 t)) :: [oC a2_ 4 [.int (nI (bTh t ln sp 0)), .int (nI (bRt t ln sp 0))]]) 53 [.int 1] [(3, .int (nI (bTh t ln sp 0))), (2, .int 1), (1, .ref a1_), (0, .ref r)]
    refine r_pop 54 (hF.pu _ _ _ _) dX9_brackets_53 rfl rfl ?_
    have lp_54 : ∀ (m : Nat) (n : Nat) (kk : Nat) (nn : Nat) (fu : Nat) (mc : Int32) (ea : Nat) (f_ : Nat → Option Nat) (bt : Nat → Nat) (bv : va_W), (n ≤ 5) → (kk ≤ 6 + 4 * n) → (nn ≤ 36 + 23 * n) → (sp + 4 * n + 3 ≤ bQ t ln (bP t ln sp n)) → (bQ t ln (bP t ln sp n) ≤ ln) → (fu + n = ln) → (bkS t ln sp (n + 1) f_ bt bv) → (bcA t ln sp n) → (bcR t ln (ln + 1) sp = if heC t ln (bQ t ln (bP t ln sp n)) = 44 then bcR t ln fu (bQ t ln (bP t ln sp n) + 1) else (true, bQ t ln (bP t ln sp n))) → (∀ q ∈ bv, ¬ q.1 = x) → (5 - n) < m → F kk nn ([oC r 8 [.ref R, .int (nI (bQ t ln (bP t ln sp n))), .int it, .int (zB ab), .ref x], oC a1_ 12 [.int mc, .ref ea, .int (nI (n + 1))], aC D 3 ea (qA 10 f_), oC R 3 [.ref rb, .ref r2, .ref r3, .ref r4, .ref r6]]) ((oC x 1 [x0, x1, x2, x3, .ref tx, .int (nI ln), x6]) :: (aC D 2 tx (iA 80 t)) :: bv) 54 [] [(2, .int 1), (1, .ref a1_), (0, .ref r)] := by
      intro m
      induction m with
      | zero => intro n kk nn fu mc ea f_ bt bv hn hkk hnn hpos hql hfu hbs hba hbc hbx hm; exact absurd hm (Nat.not_lt_zero _)
      | succ m ih =>
        intro n kk nn fu mc ea f_ bt bv hn hkk hnn hpos hql hfu hbs hba hbc hbx hm
        refine r_aload_n 55 2 (hF.pu _ _ _ _) dX9_brackets_54 rfl rfl ?_
        refine f_callp 58 hF (fun _ z => cp_X9_here D l r x tx (bQ t ln (bP t ln sp n)) t ln hln hch (by omega) ((z.o 0 rfl).fld 1 rfl) ((z.o 0 rfl).fld 4 rfl) ((z.mo 0 rfl).fld 4 rfl) ((z.mo 0 rfl).fld 5 rfl) (z.ma 1 rfl)) lk_X9_52 0 yk_X9_here rfl ⟨by decide, by decide⟩ (fun _ z => ((z.o 0 rfl).fld 0 rfl)) rfl rfl (Nat.le_of_ble_eq_true rfl) dX9_brackets_55 ⟨by show kk ≤ 30; omega, by show nn ≤ 174; omega⟩ rfl ?_
        refine r_bipush 60 44 (hF.pu _ _ _ _) dX9_brackets_58 (by decide) rfl ?_
        refine r_icmp_ne 63 67 (hF.pu _ _ _ _) dX9_brackets_60 (by decide) (fun c60 => ?_) rfl (fun c60 => ?_)
        · refine r_iconst 68 0 (hF.pu _ _ _ _) dX9_brackets_67 (by decide) rfl ?_
          refine r_istore_n 69 [(2, .int 0), (1, .ref a1_), (0, .ref r)] (hF.pu _ _ _ _) dX9_brackets_68 rfl (by decide) rfl rfl ?_
          refine r_aload_n 70 2 (hF.pu _ _ _ _) dX9_brackets_69 rfl rfl ?_
          refine r_dup 71 (hF.pu _ _ _ _) dX9_brackets_70 rfl rfl ?_
          refine f_getf 74 hF (T := TX9) (C := RX9) 1 (v := .int (nI (bQ t ln (bP t ln sp n)))) okX9 (fun _ z => ((z.o 0 rfl).fld 1 rfl)) rfl (by decide) (Or.inl q2051) (Or.inl rfl) dX9_brackets_71 rfl ?_
          refine r_iload_n 75 0 (hF.pu _ _ _ _) dX9_brackets_74 rfl rfl ?_
          refine r_if_eq 78 82 (hF.pu _ _ _ _) dX9_brackets_75 (by decide) (fun _ => ?_) rfl (fun c => absurd (by decide) c)
          refine r_iconst 83 0 (hF.pu _ _ _ _) dX9_brackets_82 (by decide) rfl ?_
          refine r_iaddN (bQ t ln (bP t ln sp n)) 0 (bQ t ln (bP t ln sp n)) 84 (hF.pu _ _ _ _) dX9_brackets_83 (by omega) rfl ?_
          refine f_put 87 hF 0 (T := TX9) (C := RX9) ([oC r 8 [.ref R, .int (nI (bQ t ln (bP t ln sp n))), .int it, .int (zB ab), .ref x], oC a1_ 12 [.int mc, .ref ea, .int (nI (n + 1))], aC D 3 ea (qA 10 f_), oC R 3 [.ref rb, .ref r2, .ref r3, .ref r4, .ref r6]]) okX9 rfl rfl 1 (by decide) (Or.inl q2051) (Or.inl rfl) rfl rfl rfl (Nat.le_of_ble_eq_true rfl) rfl dX9_brackets_84 rfl ?_
          refine r_goto 10 (hF.pu _ _ _ _) dX9_brackets_87 (by decide) ?_
          refine r_iload_n 11 0 (hF.pu _ _ _ _) dX9_brackets_10 rfl rfl ?_
          refine r_if_eq 14 90 (hF.pu _ _ _ _) dX9_brackets_11 (by decide) (fun _ => ?_) rfl (fun c => absurd (by decide) c)
          refine r_aload_n 91 2 (hF.pu _ _ _ _) dX9_brackets_90 rfl rfl ?_
          refine f_getf 94 hF (T := TX9) (C := RX9) 0 (v := .ref R) okX9 (fun _ z => ((z.o 0 rfl).fld 0 rfl)) rfl (by decide) (Or.inl q2049) (Or.inl rfl) dX9_brackets_91 rfl ?_
          refine r_aload_n 95 1 (hF.pu _ _ _ _) dX9_brackets_94 rfl rfl ?_
          refine f_put 98 hF 3 (T := TX3) (C := RX3) ([oC r 8 [.ref R, .int (nI (bQ t ln (bP t ln sp n))), .int it, .int (zB ab), .ref x], oC a1_ 12 [.int mc, .ref ea, .int (nI (n + 1))], aC D 3 ea (qA 10 f_), oC R 3 [.ref a1_, .ref r2, .ref r3, .ref r4, .ref r6]]) okX3 rfl rfl 0 (by decide) (Or.inr ⟨_, nw_q306⟩) (Or.inl rfl) rfl rfl rfl (Nat.le_of_ble_eq_true rfl) rfl dX9_brackets_95 rfl ?_
          refine f_ups hF [2] ([aC D 3 ea (qA 10 f_), oC r 8 [.ref R, .int (nI (bQ t ln (bP t ln sp n))), .int it, .int (zB ab), .ref x], oC a1_ 12 [.int mc, .ref ea, .int (nI (n + 1))], oC R 3 [.ref a1_, .ref r2, .ref r3, .ref r4, .ref r6]]) rfl ?_
          refine f_frzx hF (fun hzx_ => ?_)
          have hex_ : ¬ ea = x := fun z => hzx_ _ (List.mem_of_getElem? (i := 0) rfl) z.symm
          refine f_ups hF [1] ([oC a1_ 12 [.int mc, .ref ea, .int (nI (n + 1))], oC r 8 [.ref R, .int (nI (bQ t ln (bP t ln sp n))), .int it, .int (zB ab), .ref x], oC R 3 [.ref a1_, .ref r2, .ref r3, .ref r4, .ref r6]]) rfl ?_
          refine f_frzx hF (fun hzx_ => ?_)
          have hlx_ : ¬ a1_ = x := fun z => hzx_ _ (List.mem_of_getElem? (i := 1) rfl) z.symm
          refine f_imsub hF ((oC a1_ 12 [.int mc, .ref ea, .int (nI (n + 1))]) :: (aC D 3 ea (qA 10 f_)) :: bv) im2 ?_
          exact FR.v hR dX9_brackets_98 (by omega) (by omega) ⟨_, _, _, bt, bv, n, _, rfl, rfl, rfl, hn, hbs, hba, c60, hbc.trans (if_neg c60), hlx_, hex_, hbx⟩
        · refine r_iconst 64 1 (hF.pu _ _ _ _) dX9_brackets_63 (by decide) rfl ?_
          refine r_goto 68 (hF.pu _ _ _ _) dX9_brackets_64 (by decide) ?_
          refine r_istore_n 69 [(2, .int 1), (1, .ref a1_), (0, .ref r)] (hF.pu _ _ _ _) dX9_brackets_68 rfl (by decide) rfl rfl ?_
          refine r_aload_n 70 2 (hF.pu _ _ _ _) dX9_brackets_69 rfl rfl ?_
          refine r_dup 71 (hF.pu _ _ _ _) dX9_brackets_70 rfl rfl ?_
          refine f_getf 74 hF (T := TX9) (C := RX9) 1 (v := .int (nI (bQ t ln (bP t ln sp n)))) okX9 (fun _ z => ((z.o 0 rfl).fld 1 rfl)) rfl (by decide) (Or.inl q2051) (Or.inl rfl) dX9_brackets_71 rfl ?_
          refine r_iload_n 75 0 (hF.pu _ _ _ _) dX9_brackets_74 rfl rfl ?_
          refine r_if_eq 78 82 (hF.pu _ _ _ _) dX9_brackets_75 (by decide) (fun c => absurd c (by decide)) rfl (fun _ => ?_)
          refine r_iconst 79 1 (hF.pu _ _ _ _) dX9_brackets_78 (by decide) rfl ?_
          refine r_goto 83 (hF.pu _ _ _ _) dX9_brackets_79 (by decide) ?_
          refine r_iaddN (bQ t ln (bP t ln sp n)) 1 (bQ t ln (bP t ln sp n) + 1) 84 (hF.pu _ _ _ _) dX9_brackets_83 rfl rfl ?_
          refine f_put 87 hF 0 (T := TX9) (C := RX9) ([oC r 8 [.ref R, .int (nI (bQ t ln (bP t ln sp n) + 1)), .int it, .int (zB ab), .ref x], oC a1_ 12 [.int mc, .ref ea, .int (nI (n + 1))], aC D 3 ea (qA 10 f_), oC R 3 [.ref rb, .ref r2, .ref r3, .ref r4, .ref r6]]) okX9 rfl rfl 1 (by decide) (Or.inl q2051) (Or.inl rfl) rfl rfl rfl (Nat.le_of_ble_eq_true rfl) rfl dX9_brackets_84 rfl ?_
          refine r_goto 10 (hF.pu _ _ _ _) dX9_brackets_87 (by decide) ?_
          obtain ⟨fv, rfl⟩ : ∃ fv, fu = fv + 1 := ⟨fu - 1, by omega⟩
          have hbc1 := hbc.trans (if_pos c60)
          have hl44 := heC_p (by decide) c60
          have hbp : bP t ln sp (n + 1) = bQ t ln (bP t ln sp n) + 1 := rfl
          show F kk nn ([oC r 8 [.ref R, .int (nI (bP t ln sp (n + 1))), .int it, .int (zB ab), .ref x], oC a1_ 12 [.int mc, .ref ea, .int (nI (n + 1))], aC D 3 ea (qA 10 f_), oC R 3 [.ref rb, .ref r2, .ref r3, .ref r4, .ref r6]]) ((oC x 1 [x0, x1, x2, x3, .ref tx, .int (nI ln), x6]) :: (aC D 2 tx (iA 80 t)) :: bv) 10 [] [(2, .int 1), (1, .ref a1_), (0, .ref r)]
          refine r_iload_n 11 0 (hF.pu _ _ _ _) dX9_brackets_10 rfl rfl ?_
          refine r_if_eq 14 90 (hF.pu _ _ _ _) dX9_brackets_11 (by decide) (fun c => absurd c (by decide)) rfl (fun _ => ?_)
          refine r_aload_n 15 2 (hF.pu _ _ _ _) dX9_brackets_14 rfl rfl ?_
          refine g_callV 18 hG (fc_X9_number (KS := KS) (Hb := Hb) D l hl r x R tx (bP t ln sp (n + 1)) it ab x0 x1 x2 x3 x6 t ln hln hch (by omega)) (wr := ([oC a1_ 12 [.int mc, .ref ea, .int (nI (n + 1))], aC D 3 ea (qA 10 f_), oC R 3 [.ref rb, .ref r2, .ref r3, .ref r4, .ref r6]])) rfl (imk [0, 1] rfl) lk_X9_71 0 yk_X9_number rfl ⟨by decide, by decide⟩ (fun _ z => ((z.o 0 rfl).fld 0 rfl)) rfl rfl (Nat.le_of_ble_eq_true rfl) dX9_brackets_15 ⟨by show kk + 1 ≤ 30; omega, by show nn + 7 ≤ 174; omega⟩ rfl (fun E a ws' im' hp hx => by obtain ⟨hb, rfl, rfl, rfl⟩ := hp; exact g_out hO 0 rfl (by omega) (by omega) (pr_f (hbc1.trans (bc_f hb)) rfl)) (fun r ws_ im' hp => ?_)
          obtain ⟨rfl, rfl, rfl, hp15⟩ := hp
          show F (kk + 1) (nn + 7) ([oC r 8 [.ref R, .int (nI (bP t ln sp (n + 1) + nuD t ln (bP t ln sp (n + 1)))), .int it, .int (zB ab), .ref x], oC a1_ 12 [.int mc, .ref ea, .int (nI (n + 1))], aC D 3 ea (qA 10 f_), oC R 3 [.ref rb, .ref r2, .ref r3, .ref r4, .ref r6]]) ((oC x 1 [x0, x1, x2, x3, .ref tx, .int (nI ln), x6]) :: (aC D 2 tx (iA 80 t)) :: bv) 18 [.int (nuA t (bP t ln sp (n + 1)) (nuD t ln (bP t ln sp (n + 1))))] [(2, .int 1), (1, .ref a1_), (0, .ref r)]
          have hle1 := (nuC_le (t := t) (ln := ln) 4 (bP t ln sp (n + 1)) (by omega)).1
          have hnd1 : nuD t ln (bP t ln sp (n + 1)) = nuC t ln 4 (bP t ln sp (n + 1)) := rfl
          refine r_eqi (nI (bTh t ln sp (n + 1))) (nuN_of (by omega)).1 ?_
          refine r_istore_n 19 [(3, .int (nI (bTh t ln sp (n + 1)))), (2, .int 1), (1, .ref a1_), (0, .ref r)] (hF.pu _ _ _ _) dX9_brackets_18 rfl (by decide) rfl rfl ?_
          refine r_aload_n 20 3 (hF.pu _ _ _ _) dX9_brackets_19 rfl rfl ?_
          refine r_aload_n 21 3 (hF.pu _ _ _ _) dX9_brackets_20 rfl rfl ?_
          refine f_callp 24 hF (fun _ z => cp_X9_here D l r x tx (bP t ln sp (n + 1) + nuD t ln (bP t ln sp (n + 1))) t ln hln hch (by omega) ((z.o 0 rfl).fld 1 rfl) ((z.o 0 rfl).fld 4 rfl) ((z.mo 0 rfl).fld 4 rfl) ((z.mo 0 rfl).fld 5 rfl) (z.ma 1 rfl)) lk_X9_52 0 yk_X9_here rfl ⟨by decide, by decide⟩ (fun _ z => ((z.o 0 rfl).fld 0 rfl)) rfl rfl (Nat.le_of_ble_eq_true rfl) dX9_brackets_21 ⟨by show kk + 1 ≤ 30; omega, by show nn + 7 ≤ 174; omega⟩ rfl ?_
          refine r_bipush 26 58 (hF.pu _ _ _ _) dX9_brackets_24 (by decide) rfl ?_
          have hj_26 : F (kk + 1) (nn + 7) ([oC r 8 [.ref R, .int (nI (bP t ln sp (n + 1) + nuD t ln (bP t ln sp (n + 1)))), .int it, .int (zB ab), .ref x], oC a1_ 12 [.int mc, .ref ea, .int (nI (n + 1))], aC D 3 ea (qA 10 f_), oC R 3 [.ref rb, .ref r2, .ref r3, .ref r4, .ref r6]]) ((oC x 1 [x0, x1, x2, x3, .ref tx, .int (nI ln), x6]) :: (aC D 2 tx (iA 80 t)) :: bv) 34 [.int (zB (decide (heC t ln (bP t ln sp (n + 1) + nuD t ln (bP t ln sp (n + 1))) = 58))), .ref r] [(3, .int (nI (bTh t ln sp (n + 1)))), (2, .int 1), (1, .ref a1_), (0, .ref r)] := by
            refine g_callV 37 hG (fc_X9_pass (KS := KS) (Hb := Hb) D l hl r x R (bP t ln sp (n + 1) + nuD t ln (bP t ln sp (n + 1))) it ab (decide (heC t ln (bP t ln sp (n + 1) + nuD t ln (bP t ln sp (n + 1))) = 58))) (wr := ([oC a1_ 12 [.int mc, .ref ea, .int (nI (n + 1))], aC D 3 ea (qA 10 f_), oC R 3 [.ref rb, .ref r2, .ref r3, .ref r4, .ref r6]])) rfl (imk [] rfl) lk_X9_64 1 yk_X9_pass rfl ⟨by decide, by decide⟩ (fun _ z => ((z.o 0 rfl).fld 0 rfl)) rfl rfl (Nat.le_of_ble_eq_true rfl) dX9_brackets_34 ⟨by show kk + 2 ≤ 30; omega, by show nn + 14 ≤ 174; omega⟩ rfl (fun E a ws' im' hp hx => by obtain ⟨hb, rfl, rfl, rfl⟩ := hp; exact g_out hO 0 rfl (by omega) (by omega) (pr_f (hbc1.trans (bc_c hp15 (of_decide_eq_false hb))) rfl)) (fun r ws_ im' hp => ?_)
            obtain ⟨rfl, rfl, rfl, hp34⟩ := hp
            show F (kk + 2) (nn + 14) ([oC r 8 [.ref R, .int (nI (bP t ln sp (n + 1) + nuD t ln (bP t ln sp (n + 1)) + 1)), .int it, .int (zB ab), .ref x], oC a1_ 12 [.int mc, .ref ea, .int (nI (n + 1))], aC D 3 ea (qA 10 f_), oC R 3 [.ref rb, .ref r2, .ref r3, .ref r4, .ref r6]]) ((oC x 1 [x0, x1, x2, x3, .ref tx, .int (nI ln), x6]) :: (aC D 2 tx (iA 80 t)) :: bv) 37 [] [(3, .int (nI (bTh t ln sp (n + 1)))), (2, .int 1), (1, .ref a1_), (0, .ref r)]
            have hc58 := of_decide_eq_true hp34
            have hl58 := heC_p (by decide) hc58
            refine r_aload_n 38 2 (hF.pu _ _ _ _) dX9_brackets_37 rfl rfl ?_
            refine f_new 41 hF (ci := 4) [.int 0, .int 0] okX4 rfl q2173 q194 q105 dvX4 ⟨by show kk + 3 ≤ 30; omega, by show nn + 16 ≤ 174; omega⟩ dX9_brackets_38 rfl (fun a4_ => ?_)
            refine r_dup 42 (hF.pu _ _ _ _) dX9_brackets_41 rfl rfl ?_
            refine r_iload_n 43 0 (hF.pu _ _ _ _) dX9_brackets_42 rfl rfl ?_
            refine r_aload_n 44 3 (hF.pu _ _ _ _) dX9_brackets_43 rfl rfl ?_
            refine f_ups hF [1] ([oC r 8 [.ref R, .int (nI (bP t ln sp (n + 1) + nuD t ln (bP t ln sp (n + 1)) + 1)), .int it, .int (zB ab), .ref x], oC a4_ 4 [.int 0, .int 0], oC a1_ 12 [.int mc, .ref ea, .int (nI (n + 1))], aC D 3 ea (qA 10 f_), oC R 3 [.ref rb, .ref r2, .ref r3, .ref r4, .ref r6]]) rfl ?_
            refine g_callV 47 hG (fc_X9_number (KS := KS) (Hb := Hb) D l hl r x R tx (bP t ln sp (n + 1) + nuD t ln (bP t ln sp (n + 1)) + 1) it ab x0 x1 x2 x3 x6 t ln hln hch (by omega)) (wr := ([oC a4_ 4 [.int 0, .int 0], oC a1_ 12 [.int mc, .ref ea, .int (nI (n + 1))], aC D 3 ea (qA 10 f_), oC R 3 [.ref rb, .ref r2, .ref r3, .ref r4, .ref r6]])) rfl (imk [0, 1] rfl) lk_X9_71 0 yk_X9_number rfl ⟨by decide, by decide⟩ (fun _ z => ((z.o 0 rfl).fld 0 rfl)) rfl rfl (Nat.le_of_ble_eq_true rfl) dX9_brackets_44 ⟨by show kk + 4 ≤ 30; omega, by show nn + 23 ≤ 174; omega⟩ rfl (fun E a ws' im' hp hx => by obtain ⟨hb, rfl, rfl, rfl⟩ := hp; exact g_out hO 0 rfl (by omega) (by omega) (pr_f (hbc1.trans (bc_g hp15 hc58 hb)) rfl)) (fun r ws_ im' hp => ?_)
            obtain ⟨rfl, rfl, rfl, hp44⟩ := hp
            show F (kk + 4) (nn + 23) ([oC r 8 [.ref R, .int (nI (bP t ln sp (n + 1) + nuD t ln (bP t ln sp (n + 1)) + 1 + nuD t ln (bP t ln sp (n + 1) + nuD t ln (bP t ln sp (n + 1)) + 1))), .int it, .int (zB ab), .ref x], oC a4_ 4 [.int 0, .int 0], oC a1_ 12 [.int mc, .ref ea, .int (nI (n + 1))], aC D 3 ea (qA 10 f_), oC R 3 [.ref rb, .ref r2, .ref r3, .ref r4, .ref r6]]) ((oC x 1 [x0, x1, x2, x3, .ref tx, .int (nI ln), x6]) :: (aC D 2 tx (iA 80 t)) :: bv) 47 [.int (nuA t (bP t ln sp (n + 1) + nuD t ln (bP t ln sp (n + 1)) + 1) (nuD t ln (bP t ln sp (n + 1) + nuD t ln (bP t ln sp (n + 1)) + 1))), .int (nI (bTh t ln sp (n + 1))), .ref a4_, .ref a4_, .ref a1_] [(3, .int (nI (bTh t ln sp (n + 1)))), (2, .int 1), (1, .ref a1_), (0, .ref r)]
            have hle2 := (nuC_le (t := t) (ln := ln) 4 (bP t ln sp (n + 1) + nuD t ln (bP t ln sp (n + 1)) + 1) (by omega)).1
            have hnd2 : nuD t ln (bP t ln sp (n + 1) + nuD t ln (bP t ln sp (n + 1)) + 1) = nuC t ln 4 (bP t ln sp (n + 1) + nuD t ln (bP t ln sp (n + 1)) + 1) := rfl
            have hbq : bQ t ln (bP t ln sp (n + 1)) = bP t ln sp (n + 1) + nuD t ln (bP t ln sp (n + 1)) + 1 + nuD t ln (bP t ln sp (n + 1) + nuD t ln (bP t ln sp (n + 1)) + 1) := rfl
            have hbc2 := hbc1.trans (bc_s (f := fv) hp15 hc58 hp44)
            refine r_eqi (nI (bRt t ln sp (n + 1))) (nuN_of (by omega)).1 ?_
            refine f_ups hF [1] ([oC a4_ 4 [.int 0, .int 0], oC r 8 [.ref R, .int (nI (bP t ln sp (n + 1) + nuD t ln (bP t ln sp (n + 1)) + 1 + nuD t ln (bP t ln sp (n + 1) + nuD t ln (bP t ln sp (n + 1)) + 1))), .int it, .int (zB ab), .ref x], oC a1_ 12 [.int mc, .ref ea, .int (nI (n + 1))], aC D 3 ea (qA 10 f_), oC R 3 [.ref rb, .ref r2, .ref r3, .ref r4, .ref r6]]) rfl ?_
            refine f_callI 50 hF (fc_X4_init (KS := KS) (Hb := Hb) D l a4_ (nI (bTh t ln sp (n + 1))) (nI (bRt t ln sp (n + 1)))) (wr := ([oC r 8 [.ref R, .int (nI (bP t ln sp (n + 1) + nuD t ln (bP t ln sp (n + 1)) + 1 + nuD t ln (bP t ln sp (n + 1) + nuD t ln (bP t ln sp (n + 1)) + 1))), .int it, .int (zB ab), .ref x], oC a1_ 12 [.int mc, .ref ea, .int (nI (n + 1))], aC D 3 ea (qA 10 f_), oC R 3 [.ref rb, .ref r2, .ref r3, .ref r4, .ref r6]])) rfl (imk [] rfl) q197 q105 q2174 q196 rfl 2 yk_X4_init rfl ⟨by decide, by decide⟩ rfl (Nat.le_of_ble_eq_true rfl) dX9_brackets_47 ⟨by show kk + 4 ≤ 30; omega, by show nn + 23 ≤ 174; omega⟩ rfl (fun r ws_ im' hp => ?_)
            obtain ⟨rfl, rfl, rfl⟩ := hp
            show F (kk + 4) (nn + 23) ([oC a4_ 4 [.int (nI (bTh t ln sp (n + 1))), .int (nI (bRt t ln sp (n + 1)))], oC r 8 [.ref R, .int (nI (bP t ln sp (n + 1) + nuD t ln (bP t ln sp (n + 1)) + 1 + nuD t ln (bP t ln sp (n + 1) + nuD t ln (bP t ln sp (n + 1)) + 1))), .int it, .int (zB ab), .ref x], oC a1_ 12 [.int mc, .ref ea, .int (nI (n + 1))], aC D 3 ea (qA 10 f_), oC R 3 [.ref rb, .ref r2, .ref r3, .ref r4, .ref r6]]) ((oC x 1 [x0, x1, x2, x3, .ref tx, .int (nI ln), x6]) :: (aC D 2 tx (iA 80 t)) :: bv) 50 [.ref a4_, .ref a1_] [(3, .int (nI (bTh t ln sp (n + 1)))), (2, .int 1), (1, .ref a1_), (0, .ref r)]
            refine f_ups hF [3] ([aC D 3 ea (qA 10 f_), oC a4_ 4 [.int (nI (bTh t ln sp (n + 1))), .int (nI (bRt t ln sp (n + 1)))], oC r 8 [.ref R, .int (nI (bP t ln sp (n + 1) + nuD t ln (bP t ln sp (n + 1)) + 1 + nuD t ln (bP t ln sp (n + 1) + nuD t ln (bP t ln sp (n + 1)) + 1))), .int it, .int (zB ab), .ref x], oC a1_ 12 [.int mc, .ref ea, .int (nI (n + 1))], oC R 3 [.ref rb, .ref r2, .ref r3, .ref r4, .ref r6]]) rfl ?_
            refine f_ups hF [3] ([oC a1_ 12 [.int mc, .ref ea, .int (nI (n + 1))], aC D 3 ea (qA 10 f_), oC a4_ 4 [.int (nI (bTh t ln sp (n + 1))), .int (nI (bRt t ln sp (n + 1)))], oC r 8 [.ref R, .int (nI (bP t ln sp (n + 1) + nuD t ln (bP t ln sp (n + 1)) + 1 + nuD t ln (bP t ln sp (n + 1) + nuD t ln (bP t ln sp (n + 1)) + 1))), .int it, .int (zB ab), .ref x], oC R 3 [.ref rb, .ref r2, .ref r3, .ref r4, .ref r6]]) rfl ?_
            refine f_callV 53 hF (fc_J8_add_n (KS := KS) (Hb := Hb) D l a1_ ea (n + 1) a4_ mc f_ (by omega) [oC a4_ 4 [.int (nI (bTh t ln sp (n + 1))), .int (nI (bRt t ln sp (n + 1)))]] [] (fun H h => anyK.ofob (h _ List.mem_cons_self) rfl nw_q3952)) (wr := ([oC r 8 [.ref R, .int (nI (bP t ln sp (n + 1) + nuD t ln (bP t ln sp (n + 1)) + 1 + nuD t ln (bP t ln sp (n + 1) + nuD t ln (bP t ln sp (n + 1)) + 1))), .int it, .int (zB ab), .ref x], oC R 3 [.ref rb, .ref r2, .ref r3, .ref r4, .ref r6]])) rfl (imk [] rfl) lk_X9_81 1 yk_J8_add rfl ⟨by decide, by decide⟩ (fun _ z => ((z.o 0 rfl).fld 0 rfl)) rfl rfl (Nat.le_of_ble_eq_true rfl) dX9_brackets_50 ⟨by show kk + 4 ≤ 30; omega, by show nn + 23 ≤ 174; omega⟩ rfl (fun r ws_ im' hp => ?_)
            obtain ⟨rfl, rfl, rfl⟩ := hp
            show F (kk + 4) (nn + 23) ([oC a1_ 12 [.int (mc + 1), .ref ea, .int (nI (n + 1 + 1))], aC D 3 ea (qA 10 (va_up f_ (n + 1) (some a4_))), oC a4_ 4 [.int (nI (bTh t ln sp (n + 1))), .int (nI (bRt t ln sp (n + 1)))], oC r 8 [.ref R, .int (nI (bP t ln sp (n + 1) + nuD t ln (bP t ln sp (n + 1)) + 1 + nuD t ln (bP t ln sp (n + 1) + nuD t ln (bP t ln sp (n + 1)) + 1))), .int it, .int (zB ab), .ref x], oC R 3 [.ref rb, .ref r2, .ref r3, .ref r4, .ref r6]]) ((oC x 1 [x0, x1, x2, x3, .ref tx, .int (nI ln), x6]) :: (aC D 2 tx (iA 80 t)) :: bv) 53 [.int 1] [(3, .int (nI (bTh t ln sp (n + 1)))), (2, .int 1), (1, .ref a1_), (0, .ref r)]
            refine f_ups hF [2] ([oC a4_ 4 [.int (nI (bTh t ln sp (n + 1))), .int (nI (bRt t ln sp (n + 1)))], oC a1_ 12 [.int (mc + 1), .ref ea, .int (nI (n + 1 + 1))], aC D 3 ea (qA 10 (va_up f_ (n + 1) (some a4_))), oC r 8 [.ref R, .int (nI (bP t ln sp (n + 1) + nuD t ln (bP t ln sp (n + 1)) + 1 + nuD t ln (bP t ln sp (n + 1) + nuD t ln (bP t ln sp (n + 1)) + 1))), .int it, .int (zB ab), .ref x], oC R 3 [.ref rb, .ref r2, .ref r3, .ref r4, .ref r6]]) rfl ?_
            refine f_frzx hF (fun hzx_ => ?_)
            have hcx : ¬ a4_ = x := fun z => hzx_ _ (List.mem_of_getElem? (i := 0) rfl) z.symm
            refine f_ups hF [3] ([oC R 3 [.ref rb, .ref r2, .ref r3, .ref r4, .ref r6], oC a1_ 12 [.int (mc + 1), .ref ea, .int (nI (n + 1 + 1))], aC D 3 ea (qA 10 (va_up f_ (n + 1) (some a4_))), oC r 8 [.ref R, .int (nI (bP t ln sp (n + 1) + nuD t ln (bP t ln sp (n + 1)) + 1 + nuD t ln (bP t ln sp (n + 1) + nuD t ln (bP t ln sp (n + 1)) + 1))), .int it, .int (zB ab), .ref x]]) rfl ?_
            refine f_ups hF [2] ([aC D 3 ea (qA 10 (va_up f_ (n + 1) (some a4_))), oC R 3 [.ref rb, .ref r2, .ref r3, .ref r4, .ref r6], oC a1_ 12 [.int (mc + 1), .ref ea, .int (nI (n + 1 + 1))], oC r 8 [.ref R, .int (nI (bP t ln sp (n + 1) + nuD t ln (bP t ln sp (n + 1)) + 1 + nuD t ln (bP t ln sp (n + 1) + nuD t ln (bP t ln sp (n + 1)) + 1))), .int it, .int (zB ab), .ref x]]) rfl ?_
            refine f_ups hF [2] ([oC a1_ 12 [.int (mc + 1), .ref ea, .int (nI (n + 1 + 1))], aC D 3 ea (qA 10 (va_up f_ (n + 1) (some a4_))), oC R 3 [.ref rb, .ref r2, .ref r3, .ref r4, .ref r6], oC r 8 [.ref R, .int (nI (bP t ln sp (n + 1) + nuD t ln (bP t ln sp (n + 1)) + 1 + nuD t ln (bP t ln sp (n + 1) + nuD t ln (bP t ln sp (n + 1)) + 1))), .int it, .int (zB ab), .ref x]]) rfl ?_
            refine f_ups hF [3] ([oC r 8 [.ref R, .int (nI (bP t ln sp (n + 1) + nuD t ln (bP t ln sp (n + 1)) + 1 + nuD t ln (bP t ln sp (n + 1) + nuD t ln (bP t ln sp (n + 1)) + 1))), .int it, .int (zB ab), .ref x], oC a1_ 12 [.int (mc + 1), .ref ea, .int (nI (n + 1 + 1))], aC D 3 ea (qA 10 (va_up f_ (n + 1) (some a4_))), oC R 3 [.ref rb, .ref r2, .ref r3, .ref r4, .ref r6]]) rfl ?_
            refine f_imsub hF ((oC x 1 [x0, x1, x2, x3, .ref tx, .int (nI ln), x6]) :: (aC D 2 tx (iA 80 t)) :: (oC a4_ 4 [.int (nI (bTh t ln sp (n + 1))), .int (nI (bRt t ln sp (n + 1)))] :: bv)) im3 ?_
            show F (kk + 4) (nn + 23) ([oC r 8 [.ref R, .int (nI (bQ t ln (bP t ln sp (n + 1)))), .int it, .int (zB ab), .ref x], oC a1_ 12 [.int (mc + 1), .ref ea, .int (nI (n + 1 + 1))], aC D 3 ea (qA 10 (va_up f_ (n + 1) (some a4_))), oC R 3 [.ref rb, .ref r2, .ref r3, .ref r4, .ref r6]]) ((oC x 1 [x0, x1, x2, x3, .ref tx, .int (nI ln), x6]) :: (aC D 2 tx (iA 80 t)) :: (oC a4_ 4 [.int (nI (bTh t ln sp (n + 1))), .int (nI (bRt t ln sp (n + 1)))] :: bv)) 53 [.int 1] [(3, .int (nI (bTh t ln sp (n + 1)))), (2, .int 1), (1, .ref a1_), (0, .ref r)]
            refine r_pop 54 (hF.pu _ _ _ _) dX9_brackets_53 rfl rfl ?_
            refine (hF.pu _ _ _ _).lvs [1, 2, 3] rfl ?_
            exact ih (n + 1) (kk + 4) (nn + 23) fv _ ea (va_up f_ (n + 1) (some a4_)) (va_up bt (n + 1) a4_) _ (by omega) (by omega) (by omega) (by omega) (by omega) (by omega) hbs.succ (hba.succ c60 hp15 hc58 hp44) hbc2 (fun q hq => (List.mem_cons.mp hq).elim (fun e => e ▸ hcx) (hbx q)) (by omega)
          refine r_icmp_ne 29 33 (hF.pu _ _ _ _) dX9_brackets_26 (by decide) (fun c26 => ?_) rfl (fun c26 => ?_)
          · refine r_iconst 34 0 (hF.pu _ _ _ _) dX9_brackets_33 (by decide) rfl ?_
            refine r_eqi (zB (decide (heC t ln (bP t ln sp (n + 1) + nuD t ln (bP t ln sp (n + 1))) = 58))) (by first | exact zd_1 c26 | exact zd_0 c26) ?_
            exact hj_26
          · refine r_iconst 30 1 (hF.pu _ _ _ _) dX9_brackets_29 (by decide) rfl ?_
            refine r_goto 34 (hF.pu _ _ _ _) dX9_brackets_30 (by decide) ?_
            refine r_eqi (zB (decide (heC t ln (bP t ln sp (n + 1) + nuD t ln (bP t ln sp (n + 1))) = 58))) (by first | exact zd_1 c26 | exact zd_0 c26) ?_
            exact hj_26
    refine (hF.pu _ _ _ _).lvs [1, 2, 3] rfl ?_
    exact lp_54 6 0 6 36 ln _ a3_ (va_up (fun _ => none) 0 (some a2_)) (fun _ => a2_) _ (by omega) (by omega) (by omega) (by show sp + 4 * 0 + 3 ≤ bQ t ln sp; omega) (by show bQ t ln sp ≤ ln; omega) (by omega) bkS.one (bcA.one hp15 hc58 hp44) hbc (fun q hq => List.mem_singleton.mp hq ▸ hcx) (by omega)
  refine r_icmp_ne 29 33 (hF.pu _ _ _ _) dX9_brackets_26 (by decide) (fun c26 => ?_) rfl (fun c26 => ?_)
  · refine r_iconst 34 0 (hF.pu _ _ _ _) dX9_brackets_33 (by decide) rfl ?_
    refine r_eqi (zB (decide (heC t ln (sp + nuD t ln sp) = 58))) (by first | exact zd_1 c26 | exact zd_0 c26) ?_
    exact hj_26
  · refine r_iconst 30 1 (hF.pu _ _ _ _) dX9_brackets_29 (by decide) rfl ?_
    refine r_goto 34 (hF.pu _ _ _ _) dX9_brackets_30 (by decide) ?_
    refine r_eqi (zB (decide (heC t ln (sp + nuD t ln sp) = 58))) (by first | exact zd_1 c26 | exact zd_0 c26) ?_
    exact hj_26
