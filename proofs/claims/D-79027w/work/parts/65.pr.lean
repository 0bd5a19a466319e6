/-! the reader and the reference's parser: numbers, pairs -/
theorem heV_n {t : Nat → Int32} {ln p : Nat} (h : ¬ heC t ln p = 44) : ¬ heV t ln p = 44 := fun z => h ((heC_eq (by decide) (by decide)).mpr z)
theorem heV_y {t : Nat → Int32} {ln p : Nat} (h : heC t ln p = 44) : heV t ln p = 44 := (heC_eq (by decide) (by decide)).mp h
/-- isOdd and tried behind the numbers that follow a comma -/
def odX (t : Nat → Int32) (ln : Nat) (rb : Nat → Bool) : Nat → Nat → Nat → Bool → Bool
  | 0, _, _, od => od
  | m + 1, k, p, od => odX t ln rb m (k + 1) (p + 1 + nuD t ln (p + 1)) (if rb k = true then od || decide (999 < nuA t (p + 1) (nuD t ln (p + 1))) else od)
def trX (t : Nat → Int32) (ln a : Nat) : Nat → Nat → Nat → (Nat → Int32) → (Nat → Int32)
  | 0, _, _, tr => tr
  | m + 1, k, p, tr => trX t ln a m (k + 1) (p + 1 + nuD t ln (p + 1)) (upd tr (a + k) (nuA t (p + 1) (nuD t ln (p + 1))))
section PRS
variable {t : Nat → Int32} {ln : Nat} {at_ : Option Nat} {rb : Nat → Bool}
theorem num1_c {k p : Nat} {od : Bool} {tr : Nat → Int32} (hk : 0 < k) (h : ¬ heC t ln p = 44) : num1 t ln at_ rb k p od tr = (false, p, od, tr) := by
  unfold num1; rw [if_pos ⟨hk, heV_n h⟩]
theorem num1_f {k p : Nat} {od : Bool} {tr : Nat → Int32} (hk : 0 < k) (h : heC t ln p = 44) (h2 : nuD t ln (p + 1) = 0) : num1 t ln at_ rb k p od tr = (false, p + 1, od, tr) := by
  have hk' : ¬ k = 0 := by omega
  unfold num1; rw [if_neg (fun z => z.2 (heV_y h))]; simp only [if_neg hk']; rw [if_pos h2]
theorem num1_s {k p a : Nat} {od : Bool} {tr : Nat → Int32} (hk : 0 < k) (h : heC t ln p = 44) (h2 : ¬ nuD t ln (p + 1) = 0) : num1 t ln (some a) rb k p od tr = (true, p + 1 + nuD t ln (p + 1), (if rb k = true then od || decide (999 < nuA t (p + 1) (nuD t ln (p + 1))) else od), upd tr (a + k) (nuA t (p + 1) (nuD t ln (p + 1)))) := by
  have hk' : ¬ k = 0 := by omega
  unfold num1; rw [if_neg (fun z => z.2 (heV_y h))]; simp only [if_neg hk']; rw [if_neg h2]
theorem num1_0f {p : Nat} {od : Bool} {tr : Nat → Int32} (h2 : nuD t ln p = 0) : num1 t ln at_ rb 0 p od tr = (false, p, od, tr) := by
  unfold num1; rw [if_neg (fun z => Nat.lt_irrefl 0 z.1)]; simp only [if_true]; rw [if_pos h2]
theorem num1_0s {p a : Nat} {od : Bool} {tr : Nat → Int32} (h2 : ¬ nuD t ln p = 0) : num1 t ln (some a) rb 0 p od tr = (true, p + nuD t ln p, (if rb 0 = true then od || decide (999 < nuA t p (nuD t ln p)) else od), upd tr (a + 0) (nuA t p (nuD t ln p))) := by
  unfold num1; rw [if_neg (fun z => Nat.lt_irrefl 0 z.1)]; simp only [if_true]; rw [if_neg h2]
theorem num1_ok {k p a : Nat} {od : Bool} {tr : Nat → Int32} : (num1 t ln at_ rb k p od tr).1 = (num1 t ln (some a) rb k p od tr).1 ∧ (num1 t ln at_ rb k p od tr).2.1 = (num1 t ln (some a) rb k p od tr).2.1 := by
  unfold num1
  cases at_ <;> (repeat' split) <;> exact ⟨rfl, rfl⟩
theorem nmR_st {m k p : Nat} {od : Bool} {tr : Nat → Int32} {s : Nat} {o : Bool} {u : Nat → Int32} (h : num1 t ln at_ rb k p od tr = (true, s, o, u)) : nmR t ln at_ rb (m + 1) k p od tr = nmR t ln at_ rb m (k + 1) s o u := by rw [nmR, h]
theorem nmR_fl {m k p : Nat} {od : Bool} {tr : Nat → Int32} {r : Nat × Bool × (Nat → Int32)} (h : num1 t ln at_ rb k p od tr = (false, r)) : nmR t ln at_ rb (m + 1) k p od tr = (false, r) := by rw [nmR, h]
theorem cm_no : ∀ m k p q od tr, 0 < k → cmR t ln m p = (false, q) → (nmR t ln at_ rb m k p od tr).1 = false ∧ (nmR t ln at_ rb m k p od tr).2.1 = q := by
  intro m
  induction m with
  | zero => intro k p q od tr hk h; rw [cmR] at h; injection h with h1 _; cases h1
  | succ m ih =>
    intro k p q od tr hk h
    rw [cmR] at h
    by_cases h1 : heC t ln p = 44
    · rw [if_pos h1] at h
      by_cases h2 : nuD t ln (p + 1) = 0
      · rw [if_pos h2] at h
        rw [nmR_fl (num1_f hk h1 h2)]
        injection h with _ h3; exact ⟨rfl, h3⟩
      · rw [if_neg h2] at h
        rcases hq : num1 t ln at_ rb k p od tr with ⟨b, s, o, u⟩
        have h3 := num1_ok (t := t) (ln := ln) (at_ := at_) (rb := rb) (k := k) (p := p) (a := 0) (od := od) (tr := tr)
        rw [hq, num1_s hk h1 h2] at h3
        obtain ⟨h4, h5⟩ := h3
        simp only at h4 h5
        subst h4; subst h5
        rw [nmR_st hq]
        exact ih (k + 1) _ q o u (by omega) h
    · rw [if_neg h1] at h
      rw [nmR_fl (num1_c hk h1)]
      injection h with _ h3; exact ⟨rfl, h3⟩
theorem cm_ok {a : Nat} : ∀ m k p q od tr, 0 < k → cmR t ln m p = (true, q) → nmR t ln (some a) rb m k p od tr = (true, q, odX t ln rb m k p od, trX t ln a m k p tr) := by
  intro m
  induction m with
  | zero => intro k p q od tr hk h; rw [cmR] at h; injection h with _ h3; subst h3; rfl
  | succ m ih =>
    intro k p q od tr hk h
    rw [cmR] at h
    by_cases h1 : heC t ln p = 44
    · rw [if_pos h1] at h
      by_cases h2 : nuD t ln (p + 1) = 0
      · rw [if_pos h2] at h; injection h with h3 _; cases h3
      · rw [if_neg h2] at h
        rw [nmR_st (num1_s hk h1 h2)]
        exact ih (k + 1) _ q _ _ (by omega) h
    · rw [if_neg h1] at h; injection h with h3 _; cases h3
/-- numbers that fail, numbers that are well -/
theorem nm_no {m p q : Nat} {od : Bool} {tr : Nat → Int32} (h : nbR t ln (m + 1) p = (false, q)) : (nmR t ln at_ rb (m + 1) 0 p od tr).1 = false ∧ (nmR t ln at_ rb (m + 1) 0 p od tr).2.1 = q := by
  unfold nbR at h
  by_cases h2 : nuD t ln p = 0
  · rw [if_pos h2] at h
    rw [nmR_fl (num1_0f h2)]
    injection h with _ h3; exact ⟨rfl, h3⟩
  · rw [if_neg h2, Nat.add_sub_cancel] at h
    rcases hq : num1 t ln at_ rb 0 p od tr with ⟨b, s, o, u⟩
    have h3 := num1_ok (t := t) (ln := ln) (at_ := at_) (rb := rb) (k := 0) (p := p) (a := 0) (od := od) (tr := tr)
    rw [hq, num1_0s h2] at h3
    obtain ⟨h4, h5⟩ := h3
    simp only at h4 h5
    subst h4; subst h5
    rw [nmR_st hq]
    exact cm_no m 1 _ q o u (by omega) h
theorem nm_ok {m p q a : Nat} {od : Bool} {tr : Nat → Int32} (h : nbR t ln (m + 1) p = (true, q)) : nmR t ln (some a) rb (m + 1) 0 p od tr = (true, q, odX t ln rb m 1 (p + nuD t ln p) (if rb 0 = true then od || decide (999 < nuA t p (nuD t ln p)) else od), trX t ln a m 1 (p + nuD t ln p) (upd tr (a + 0) (nuA t p (nuD t ln p)))) := by
  unfold nbR at h
  by_cases h2 : nuD t ln p = 0
  · rw [if_pos h2] at h; injection h with h3 _; cases h3
  · rw [if_neg h2, Nat.add_sub_cancel] at h
    rw [nmR_st (num1_0s h2)]
    exact cm_ok m 1 _ q _ _ (by omega) h
end PRS
theorem heV58_n {t : Nat → Int32} {ln p : Nat} (h : ¬ heC t ln p = 58) : ¬ heV t ln p = 58 := fun z => h ((heC_eq (by decide) (by decide)).mpr z)
theorem heV58_y {t : Nat → Int32} {ln p : Nat} (h : heC t ln p = 58) : heV t ln p = 58 := (heC_eq (by decide) (by decide)).mp h
/-- isOdd and tried behind the pairs -/
def odB (t : Nat → Int32) (ln : Nat) : Nat → Nat → Nat → Int32 → Bool → Bool
  | 0, _, _, _, od => od
  | f + 1, p, n, last, od => if heC t ln (bQ t ln p) = 44 then odB t ln f (bQ t ln p + 1) (if n < 6 then n + 1 else n) (nuA t p (nuD t ln p)) (bkO od n (nuA t p (nuD t ln p)) last || decide (999 < nuA t (p + nuD t ln p + 1) (nuD t ln (p + nuD t ln p + 1)))) else (bkO od n (nuA t p (nuD t ln p)) last || decide (999 < nuA t (p + nuD t ln p + 1) (nuD t ln (p + nuD t ln p + 1))))
def trB1 (t : Nat → Int32) (ln p n : Nat) (tr : Nat → Int32) : Nat → Int32 := if n < 6 then upd (upd tr (1 + 2 * n) (nuA t p (nuD t ln p))) (1 + 2 * n + 1) (nuA t (p + nuD t ln p + 1) (nuD t ln (p + nuD t ln p + 1))) else tr
def trB (t : Nat → Int32) (ln : Nat) : Nat → Nat → Nat → (Nat → Int32) → (Nat → Int32)
  | 0, _, _, tr => tr
  | f + 1, p, n, tr => if heC t ln (bQ t ln p) = 44 then trB t ln f (bQ t ln p + 1) (if n < 6 then n + 1 else n) (trB1 t ln p n tr) else upd (trB1 t ln p n tr) 0 (nI (if n < 6 then n + 1 else n))
section PRB
variable {t : Nat → Int32} {ln : Nat}
theorem bk_no : ∀ f p n last od tr q, bcR t ln f p = (false, q) → (bkR t ln f p n last od tr).1 = false ∧ (bkR t ln f p n last od tr).2.1 = q := by
  intro f
  induction f with
  | zero => intro p n last od tr q h; rw [bcR] at h; injection h with _ h3; exact ⟨rfl, h3⟩
  | succ f ih =>
    intro p n last od tr q h
    rw [bcR] at h
    rw [bkR]
    by_cases h1 : nuD t ln p = 0
    · rw [if_pos h1] at h ⊢; injection h with _ h3; exact ⟨rfl, h3⟩
    · rw [if_neg h1] at h ⊢
      by_cases h2 : heC t ln (p + nuD t ln p) = 58
      · rw [if_neg (fun z => z h2)] at h; rw [if_neg (fun z => z (heV58_y h2))]
        by_cases h3 : nuD t ln (p + nuD t ln p + 1) = 0
        · rw [if_pos h3] at h ⊢; injection h with _ h3; exact ⟨rfl, h3⟩
        · rw [if_neg h3] at h ⊢
          by_cases h4 : heC t ln (bQ t ln p) = 44
          · rw [if_pos h4] at h; rw [if_pos (show heV t ln (p + nuD t ln p + 1 + nuD t ln (p + nuD t ln p + 1)) = 44 from heV_y h4)]
            exact ih _ _ _ _ _ q h
          · rw [if_neg h4] at h; injection h with h5 _; cases h5
      · rw [if_pos h2] at h; rw [if_pos (heV58_n h2)]; injection h with _ h3; exact ⟨rfl, h3⟩
theorem bk_ok : ∀ f p n last od tr q, bcR t ln f p = (true, q) → bkR t ln f p n last od tr = (true, q, odB t ln f p n last od, trB t ln f p n tr) := by
  intro f
  induction f with
  | zero => intro p n last od tr q h; rw [bcR] at h; injection h with h3 _; cases h3
  | succ f ih =>
    intro p n last od tr q h
    rw [bcR] at h
    rw [bkR]
    by_cases h1 : nuD t ln p = 0
    · rw [if_pos h1] at h; injection h with h3 _; cases h3
    · rw [if_neg h1] at h ⊢
      by_cases h2 : heC t ln (p + nuD t ln p) = 58
      · rw [if_neg (fun z => z h2)] at h; rw [if_neg (fun z => z (heV58_y h2))]
        by_cases h3 : nuD t ln (p + nuD t ln p + 1) = 0
        · rw [if_pos h3] at h; injection h with h5 _; cases h5
        · rw [if_neg h3] at h ⊢
          by_cases h4 : heC t ln (bQ t ln p) = 44
          · rw [if_pos h4] at h; rw [if_pos (show heV t ln (p + nuD t ln p + 1 + nuD t ln (p + nuD t ln p + 1)) = 44 from heV_y h4)]
            rw [odB, trB, if_pos h4, if_pos h4]
            exact ih _ _ _ _ _ q h
          · rw [if_neg h4] at h; rw [if_neg (show ¬ heV t ln (p + nuD t ln p + 1 + nuD t ln (p + nuD t ln p + 1)) = 44 from heV_n h4)]
            rw [odB, trB, if_neg h4, if_neg h4]
            injection h with _ h5; subst h5; rfl
      · rw [if_pos h2] at h; injection h with h3 _; cases h3
/-- the rows behind N + 1 pairs -/
theorem trB_val {sp N : Nat} (hN : N ≤ 5) (hA : bcA t ln sp N) (hE : ¬ heC t ln (bQ t ln (bP t ln sp N)) = 44) : ∀ j f k tr, k + j = N → j < f → (∀ i, i < k → tr (1 + 2 * i) = nuA t (bP t ln sp i) (nuD t ln (bP t ln sp i)) ∧ tr (1 + 2 * i + 1) = nuA t (bP t ln sp i + nuD t ln (bP t ln sp i) + 1) (nuD t ln (bP t ln sp i + nuD t ln (bP t ln sp i) + 1))) →
    (∀ i, i < N + 1 → trB t ln f (bP t ln sp k) k tr (1 + 2 * i) = nuA t (bP t ln sp i) (nuD t ln (bP t ln sp i)) ∧ trB t ln f (bP t ln sp k) k tr (1 + 2 * i + 1) = nuA t (bP t ln sp i + nuD t ln (bP t ln sp i) + 1) (nuD t ln (bP t ln sp i + nuD t ln (bP t ln sp i) + 1))) ∧ trB t ln f (bP t ln sp k) k tr 0 = nI (N + 1) ∧ ∀ x, 13 ≤ x → trB t ln f (bP t ln sp k) k tr x = tr x := by
  intro j
  induction j with
  | zero =>
    intro f k tr hk hf hi
    obtain rfl : k = N := by omega
    obtain ⟨f, rfl⟩ : ∃ f', f = f' + 1 := ⟨f - 1, by omega⟩
    rw [trB, if_neg hE, if_pos (by omega)]
    unfold trB1
    rw [if_pos (by omega)]
    refine ⟨fun i hi' => ?_, upd_eq, fun x hx => by rw [upd_ne (by omega), upd_ne (by omega), upd_ne (by omega)]⟩
    by_cases e : i = k
    · subst e; exact ⟨by rw [upd_ne (by omega), upd_ne (by omega), upd_eq], by rw [upd_ne (by omega), upd_eq]⟩
    · obtain ⟨h1, h2⟩ := hi i (by omega)
      exact ⟨by rw [upd_ne (by omega), upd_ne (by omega), upd_ne (by omega)]; exact h1, by rw [upd_ne (by omega), upd_ne (by omega), upd_ne (by omega)]; exact h2⟩
  | succ j ih =>
    intro f k tr hk hf hi
    obtain ⟨f, rfl⟩ : ∃ f', f = f' + 1 := ⟨f - 1, by omega⟩
    have h44 := hA.2 k (by omega)
    rw [trB, if_pos h44, if_pos (by omega)]
    unfold trB1
    rw [if_pos (by omega)]
    have h9 := ih f (k + 1) (upd (upd tr (1 + 2 * k) (nuA t (bP t ln sp k) (nuD t ln (bP t ln sp k)))) (1 + 2 * k + 1) (nuA t (bP t ln sp k + nuD t ln (bP t ln sp k) + 1) (nuD t ln (bP t ln sp k + nuD t ln (bP t ln sp k) + 1)))) (by omega) (by omega) (fun i hi' => by
      by_cases e : i = k
      · subst e; exact ⟨by rw [upd_ne (by omega), upd_eq], upd_eq⟩
      · obtain ⟨h1, h2⟩ := hi i (by omega)
        exact ⟨by rw [upd_ne (by omega), upd_ne (by omega)]; exact h1, by rw [upd_ne (by omega), upd_ne (by omega)]; exact h2⟩)
    refine ⟨h9.1, h9.2.1, fun x hx => (h9.2.2 x hx).trans (by rw [upd_ne (by omega), upd_ne (by omega)])⟩
end PRB
