/-! one item of a text: what the reference's parser finds, and whether it is allowed -/
theorem hcN_of {t : Nat → Int32} {ln sp : Nat} (hch : ∀ i, i < ln → inB (t i) 33 126 = true) : ∃ c, c < 127 ∧ heC t ln sp = nI c := by
  unfold heC
  split
  · have h := hch sp (by assumption)
    simp only [inB, Bool.and_eq_true, decide_eq_true_eq] at h
    obtain ⟨j, hj, e⟩ := nI_of2 (x := t sp) (M := 126) (n := 126) (by decide) (fun q => h.1 (Int32.lt_trans q (by decide))) (Int32.not_lt.mp h.2)
    exact ⟨j, by omega, e⟩
  · exact ⟨32, by decide, rfl⟩
theorem nrkV_o {j : Nat} (h1 : ¬ j = 110) (h2 : ¬ j = 114) (h3 : ¬ j = 107) : nrkV j = -1 := by unfold nrkV; rw [if_neg h1, if_neg h2, if_neg h3]
theorem heV_c {t : Nat → Int32} {ln sp c : Nat} (h : heC t ln sp = nI c) (hc : c < 127) (h32 : ¬ c = 32) : heV t ln sp = nI c := by
  refine (heC_eq ?_ ?_).mp h
  · exact (show ∀ c, c < 127 → ¬ nI c = -1 by decide +kernel) c hc
  · exact (show ∀ c, c < 127 → ¬ c = 32 → ¬ nI c = 32 by decide +kernel) c hc h32
theorem itR_no {t : Nat → Int32} {ln sp c : Nat} {od : Bool} {tr : Nat → Int32} (h : heC t ln sp = nI c) (hc : c < 127) (h0 : ¬ c = 98 ∧ ¬ c = 97 ∧ ¬ c = 109 ∧ ¬ c = 99 ∧ ¬ c = 110 ∧ ¬ c = 114 ∧ ¬ c = 107) : itR t ln sp od tr = (false, sp, od, tr) := by
  obtain ⟨a1, a2, a3, a4, a5, a6, a7⟩ := h0
  have hx : ∀ k : Nat, k < 127 → ¬ k = 32 → ¬ c = k → ¬ heV t ln sp = nI k := fun k hk hk2 hck hv => by
    have h9 : heC t ln sp = nI k := (heC_eq ((show ∀ c, c < 127 → ¬ nI c = -1 by decide +kernel) k hk) ((show ∀ c, c < 127 → ¬ c = 32 → ¬ nI c = 32 by decide +kernel) k hk hk2)).mpr hv
    rw [h] at h9
    have h8 := congrArg Int32.toNatClampNeg h9
    rw [nI_clamp (by omega), nI_clamp (by omega)] at h8
    exact hck h8
  unfold itR
  rw [if_neg (show ¬ heV t ln sp = 98 from hx 98 (by decide) (by decide) a1), if_neg (show ¬ heV t ln sp = 97 from hx 97 (by decide) (by decide) a2), if_neg (show ¬ heV t ln sp = 109 from hx 109 (by decide) (by decide) a3), if_neg (show ¬ heV t ln sp = 99 from hx 99 (by decide) (by decide) a4), if_neg (show ¬ heV t ln sp = 110 from hx 110 (by decide) (by decide) a5), if_neg (show ¬ heV t ln sp = 114 from hx 114 (by decide) (by decide) a6), if_neg (show ¬ heV t ln sp = 107 from hx 107 (by decide) (by decide) a7)]
/-- where the numbers of a row begin: all within the text -/
theorem cm_le {t : Nat → Int32} {ln p0 : Nat} : ∀ m k q, cmR t ln m (sK t ln p0 k + nuD t ln (sK t ln p0 k)) = (true, q) → ∀ i, k < i → i ≤ k + m → sK t ln p0 i ≤ ln := by
  intro m
  induction m with
  | zero => intro k q h i h1 h2; omega
  | succ m ih =>
    intro k q h i h1 h2
    rw [cmR] at h
    by_cases h3 : heC t ln (sK t ln p0 k + nuD t ln (sK t ln p0 k)) = 44
    · rw [if_pos h3] at h
      have hs : sK t ln p0 (k + 1) ≤ ln := heC_p (by decide) h3
      by_cases h4 : nuD t ln (sK t ln p0 k + nuD t ln (sK t ln p0 k) + 1) = 0
      · rw [if_pos h4] at h; injection h with h5 _; cases h5
      · rw [if_neg h4] at h
        by_cases h6 : i = k + 1
        · subst h6; exact hs
        · exact ih (k + 1) q h i (by omega) (by omega)
    · rw [if_neg h3] at h; injection h with h5 _; cases h5
theorem nb_le {t : Nat → Int32} {ln m p q : Nat} (h : nbR t ln (m + 1) p = (true, q)) (hp : p ≤ ln) : ∀ i, i ≤ m → sK t ln p i ≤ ln := by
  intro i hi
  unfold nbR at h
  by_cases h1 : nuD t ln p = 0
  · rw [if_pos h1] at h; injection h with h2 _; cases h2
  · rw [if_neg h1, Nat.add_sub_cancel] at h
    by_cases h2 : i = 0
    · subst h2; exact hp
    · exact cm_le m 0 q h i (by omega) (by omega)
/-! rows behind an item -/
def gA (g : Nat → Int32) (v0 v1 v2 : Int32) : Nat → Int32 := upd (upd (upd g 13 v0) 14 v1) 15 v2
def gM (g : Nat → Int32) (v0 v1 : Int32) : Nat → Int32 := upd (upd g 16 v0) 17 v1
def gCh (g : Nat → Int32) (n : Nat) (v0 v1 : Int32) : Nat → Int32 := upd (upd (upd g (19 + 2 * n) v0) (19 + 2 * n + 1) v1) 18 (nI (n + 1))
def gCr (g : Nat → Int32) (n : Nat) (kd v0 v1 v2 v3 : Int32) (b : Bool) : Nat → Int32 := upd (upd (upd (upd (upd (upd (upd g (28 + 6 * n + 1) v0) (28 + 6 * n + 2) v1) (28 + 6 * n + 3) v2) (28 + 6 * n + 4) v3) (28 + 6 * n) kd) (28 + 6 * n + 5) (zB b)) 27 (nI (n + 1))
abbrev nV (t : Nat → Int32) (ln p i : Nat) : Int32 := nI (nuN t ln (sK t ln p i))
section ITX
variable {t : Nat → Int32} {ln sp q : Nat} {od : Bool} {g : Nat → Int32}
theorem nV_eq {p i : Nat} (h : sK t ln p i ≤ ln) : nuA t (sK t ln p i) (nuD t ln (sK t ln p i)) = nV t ln p i := (nuN_of h).1
theorem it_a (he : heC t ln sp = nI 97) (hs : sp + 1 ≤ ln) (h : nbR t ln 3 (sp + 1) = (true, q)) : itR t ln sp od g = (true, q, od || decide (999 < nV t ln (sp + 1) 2), gA g (nV t ln (sp + 1) 0) (nV t ln (sp + 1) 1) (nV t ln (sp + 1) 2)) := by
  have e : heV t ln sp = 97 := heV_c he (by decide) (by decide)
  have l := nb_le (m := 2) h hs
  unfold itR
  rw [if_neg (by rw [e]; decide), if_pos e, nm_ok (m := 2) h]
  have e0 := nV_eq (l 0 (by decide))
  have e1 := nV_eq (l 1 (by decide))
  have e2 := nV_eq (l 2 (by decide))
  simp only [sK] at e0 e1 e2
  simp only [odX, trX, rb4, e0, e1, e2]
  rfl
theorem it_m (he : heC t ln sp = nI 109) (hs : sp + 1 ≤ ln) (h : nbR t ln 2 (sp + 1) = (true, q)) : itR t ln sp od g = (true, q, od || decide (999 < nV t ln (sp + 1) 1), gM g (nV t ln (sp + 1) 0) (nV t ln (sp + 1) 1)) := by
  have e : heV t ln sp = 109 := heV_c he (by decide) (by decide)
  have l := nb_le (m := 1) h hs
  unfold itR
  rw [if_neg (by rw [e]; decide), if_neg (by rw [e]; decide), if_pos e, nm_ok (m := 1) h]
  have e0 := nV_eq (l 0 (by decide))
  have e1 := nV_eq (l 1 (by decide))
  simp only [sK] at e0 e1
  simp only [odX, trX, rb2, e0, e1]
  rfl
theorem nch_of {n : Nat} (h : g 18 = nI n) (hn : n ≤ 9999) : nchG g = n := by unfold nchG; rw [h, nI_clamp (by omega)]
theorem ncr_of {n : Nat} (h : g 27 = nI n) (hn : n ≤ 9999) : ncrG g = n := by unfold ncrG; rw [h, nI_clamp (by omega)]
theorem it_c {n : Nat} (he : heC t ln sp = nI 99) (hs : sp + 1 ≤ ln) (hg : g 18 = nI n) (hn : n < 4) (h : nbR t ln 2 (sp + 1) = (true, q)) : itR t ln sp od g = (true, q, od, gCh g n (nV t ln (sp + 1) 0) (nV t ln (sp + 1) 1)) := by
  have e : heV t ln sp = 99 := heV_c he (by decide) (by decide)
  have l := nb_le (m := 1) h hs
  unfold itR
  rw [if_neg (by rw [e]; decide), if_neg (by rw [e]; decide), if_neg (by rw [e]; decide), if_pos e]
  unfold chR
  rw [nch_of hg (by omega), if_pos hn, nm_ok (m := 1) h]
  have e0 := nV_eq (l 0 (by decide))
  have e1 := nV_eq (l 1 (by decide))
  simp only [sK] at e0 e1
  simp only [odX, trX, rb0, e0, e1]
  have e18 : upd (upd g (19 + 2 * n + 0) (nV t ln (sp + 1) 0)) (19 + 2 * n + 1) (nV t ln (sp + 1) 1) 18 + 1 = nI (n + 1) := by
    rw [upd_ne (by omega), upd_ne (by omega), hg, nI_1]
  unfold gCh
  rw [← e18]
  rfl
theorem it_r {n kd : Nat} (he : heC t ln sp = nI (if kd = 0 then 110 else if kd = 1 then 114 else 107)) (hk : kd < 3) (hs : sp + 1 ≤ ln) (hg : g 27 = nI n) (hn : n < 6) (h : nbR t ln 4 (sp + 1) = (true, q)) : itR t ln sp od g = (true, q + zN (decide (heC t ln q = 42)), (od || decide (999 < nV t ln (sp + 1) 1)) || decide (999 < nV t ln (sp + 1) 3), gCr g n (nI kd) (nV t ln (sp + 1) 0) (nV t ln (sp + 1) 1) (nV t ln (sp + 1) 2) (nV t ln (sp + 1) 3) (decide (heC t ln q = 42))) := by
  have hcr : itR t ln sp od g = crR t ln kd (sp + 1) od g := by
    unfold itR
    rcases (show kd = 0 ∨ kd = 1 ∨ kd = 2 by omega) with rfl | rfl | rfl
    · have e : heV t ln sp = 110 := heV_c he (by decide) (by decide)
      rw [if_neg (by rw [e]; decide), if_neg (by rw [e]; decide), if_neg (by rw [e]; decide), if_neg (by rw [e]; decide), if_pos e]
    · have e : heV t ln sp = 114 := heV_c he (by decide) (by decide)
      rw [if_neg (by rw [e]; decide), if_neg (by rw [e]; decide), if_neg (by rw [e]; decide), if_neg (by rw [e]; decide), if_neg (by rw [e]; decide), if_pos e]
    · have e : heV t ln sp = 107 := heV_c he (by decide) (by decide)
      rw [if_neg (by rw [e]; decide), if_neg (by rw [e]; decide), if_neg (by rw [e]; decide), if_neg (by rw [e]; decide), if_neg (by rw [e]; decide), if_neg (by rw [e]; decide), if_pos e]
  have l := nb_le (m := 3) h hs
  rw [hcr]
  unfold crR
  rw [ncr_of hg (by omega), if_pos hn, nm_ok (m := 3) h]
  have e0 := nV_eq (l 0 (by decide))
  have e1 := nV_eq (l 1 (by decide))
  have e2 := nV_eq (l 2 (by decide))
  have e3 := nV_eq (l 3 (by decide))
  simp only [sK] at e0 e1 e2 e3
  simp only [odX, trX, rb10, e0, e1, e2, e3]
  have h42 : decide (heV t ln q = 42) = decide (heC t ln q = 42) := by
    rcases Decidable.em (heC t ln q = 42) with z | z
    · rw [decide_eq_true z, decide_eq_true ((heC_eq (by decide) (by decide)).mp z)]
    · rw [decide_eq_false z, decide_eq_false (fun y => z ((heC_eq (by decide) (by decide)).mpr y))]
  have hif : (if heV t ln q = 42 then q + 1 else q) = q + zN (decide (heC t ln q = 42)) := by
    rw [← h42]
    by_cases z : heV t ln q = 42
    · rw [if_pos z, decide_eq_true z]; rfl
    · rw [if_neg z, decide_eq_false z]; rfl
  rw [hif, h42]
  have e27 : ∀ (v0 v1 v2 v3 kv bv : Int32), upd (upd (upd (upd (upd (upd g (28 + 6 * n + 1) v0) (28 + 6 * n + 2) v1) (28 + 6 * n + 3) v2) (28 + 6 * n + 4) v3) (28 + 6 * n) kv) (28 + 6 * n + 5) bv 27 + 1 = nI (n + 1) := by
    intro v0 v1 v2 v3 kv bv
    rw [upd_ne (by omega), upd_ne (by omega), upd_ne (by omega), upd_ne (by omega), upd_ne (by omega), upd_ne (by omega), hg, nI_1]
  unfold crU gCr
  rw [← e27 (nV t ln (sp + 1) 0) (nV t ln (sp + 1) 1) (nV t ln (sp + 1) 2) (nV t ln (sp + 1) 3) (nI kd) (zB (decide (heC t ln q = 42)))]
  rfl
theorem it_b (he : heC t ln sp = nI 98) (h : bcR t ln (ln + 1) (sp + 1) = (true, q)) : itR t ln sp od g = (true, q, odB t ln (ln + 1) (sp + 1) 0 (-1) od, trB t ln (ln + 1) (sp + 1) 0 g) := by
  have e : heV t ln sp = 98 := heV_c he (by decide) (by decide)
  unfold itR
  rw [if_pos e, bk_ok _ _ _ _ _ _ _ h]
/-! items that fail -/
theorem pr_n {α : Type} {R : Bool × Nat} {S : Bool × Nat × α} (hb : R.1 = false) (h : ∀ q, R = (false, q) → S.1 = false ∧ S.2.1 = q) : S.1 = false ∧ R.2 = S.2.1 := by
  obtain ⟨b, p⟩ := R
  simp only at hb
  subst hb
  obtain ⟨h1, h2⟩ := h p rfl
  exact ⟨h1, h2.symm⟩
theorem if_a (he : heC t ln sp = nI 97) (hb : (nbR t ln 3 (sp + 1)).1 = false) : (itR t ln sp od g).1 = false ∧ (nbR t ln 3 (sp + 1)).2 = (itR t ln sp od g).2.1 := by
  have e : heV t ln sp = 97 := heV_c he (by decide) (by decide)
  unfold itR
  rw [if_neg (by rw [e]; decide), if_pos e]
  exact pr_n hb (fun q h => nm_no (m := 2) h)
theorem if_m (he : heC t ln sp = nI 109) (hb : (nbR t ln 2 (sp + 1)).1 = false) : (itR t ln sp od g).1 = false ∧ (nbR t ln 2 (sp + 1)).2 = (itR t ln sp od g).2.1 := by
  have e : heV t ln sp = 109 := heV_c he (by decide) (by decide)
  unfold itR
  rw [if_neg (by rw [e]; decide), if_neg (by rw [e]; decide), if_pos e]
  exact pr_n hb (fun q h => nm_no (m := 1) h)
theorem if_c (he : heC t ln sp = nI 99) (hb : (nbR t ln 2 (sp + 1)).1 = false) : (itR t ln sp od g).1 = false ∧ (nbR t ln 2 (sp + 1)).2 = (itR t ln sp od g).2.1 := by
  have e : heV t ln sp = 99 := heV_c he (by decide) (by decide)
  unfold itR
  rw [if_neg (by rw [e]; decide), if_neg (by rw [e]; decide), if_neg (by rw [e]; decide), if_pos e]
  unfold chR
  split
  · refine pr_n hb (fun q h => ?_)
    have h1 := nm_no (at_ := some (19 + 2 * nchG g)) (rb := rb0) (od := od) (tr := g) (m := 1) h
    revert h1
    generalize nmR t ln (some (19 + 2 * nchG g)) rb0 (1 + 1) 0 (sp + 1) od g = S
    obtain ⟨b, s, o, u⟩ := S
    rintro ⟨rfl, rfl⟩
    exact ⟨rfl, rfl⟩
  · refine pr_n hb (fun q h => ?_)
    have h1 := nm_no (at_ := none) (rb := rb0) (od := od) (tr := g) (m := 1) h
    revert h1
    generalize nmR t ln none rb0 (1 + 1) 0 (sp + 1) od g = S
    obtain ⟨b, s, o, u⟩ := S
    rintro ⟨rfl, rfl⟩
    exact ⟨rfl, rfl⟩
theorem if_r {kd : Nat} (he : heC t ln sp = nI (if kd = 0 then 110 else if kd = 1 then 114 else 107)) (hk : kd < 3) (hb : (nbR t ln 4 (sp + 1)).1 = false) : (itR t ln sp od g).1 = false ∧ (nbR t ln 4 (sp + 1)).2 = (itR t ln sp od g).2.1 := by
  have hcr : itR t ln sp od g = crR t ln kd (sp + 1) od g := by
    unfold itR
    rcases (show kd = 0 ∨ kd = 1 ∨ kd = 2 by omega) with rfl | rfl | rfl
    · have e : heV t ln sp = 110 := heV_c he (by decide) (by decide)
      rw [if_neg (by rw [e]; decide), if_neg (by rw [e]; decide), if_neg (by rw [e]; decide), if_neg (by rw [e]; decide), if_pos e]
    · have e : heV t ln sp = 114 := heV_c he (by decide) (by decide)
      rw [if_neg (by rw [e]; decide), if_neg (by rw [e]; decide), if_neg (by rw [e]; decide), if_neg (by rw [e]; decide), if_neg (by rw [e]; decide), if_pos e]
    · have e : heV t ln sp = 107 := heV_c he (by decide) (by decide)
      rw [if_neg (by rw [e]; decide), if_neg (by rw [e]; decide), if_neg (by rw [e]; decide), if_neg (by rw [e]; decide), if_neg (by rw [e]; decide), if_neg (by rw [e]; decide), if_pos e]
  rw [hcr]
  unfold crR
  split
  · refine pr_n hb (fun q h => ?_)
    have h1 := nm_no (at_ := some (28 + 6 * ncrG g + 1)) (rb := rb10) (od := od) (tr := g) (m := 3) h
    revert h1
    generalize nmR t ln (some (28 + 6 * ncrG g + 1)) rb10 (3 + 1) 0 (sp + 1) od g = S
    obtain ⟨b, s, o, u⟩ := S
    rintro ⟨rfl, rfl⟩
    exact ⟨rfl, rfl⟩
  · refine pr_n hb (fun q h => ?_)
    have h1 := nm_no (at_ := none) (rb := rb10) (od := od) (tr := g) (m := 3) h
    revert h1
    generalize nmR t ln none rb10 (3 + 1) 0 (sp + 1) od g = S
    obtain ⟨b, s, o, u⟩ := S
    rintro ⟨rfl, rfl⟩
    exact ⟨rfl, rfl⟩
theorem if_b (he : heC t ln sp = nI 98) (hb : (bcR t ln (ln + 1) (sp + 1)).1 = false) : (itR t ln sp od g).1 = false ∧ (bcR t ln (ln + 1) (sp + 1)).2 = (itR t ln sp od g).2.1 := by
  have e : heV t ln sp = 98 := heV_c he (by decide) (by decide)
  unfold itR
  rw [if_pos e]
  exact pr_n hb (fun q h => bk_no _ _ _ _ _ _ _ h)
end ITX
/-! whether rules are allowed behind an item -/
theorem brA_iff {g : Nat → Int32} {a : Bool} : ∀ n, brA g n a = true ↔ a = true ∧ ∀ k, k < n → brB g k = true := by
  intro n
  induction n with
  | zero => exact ⟨fun h => ⟨h, fun k hk => absurd hk (Nat.not_lt_zero _)⟩, fun h => h.1⟩
  | succ n ih =>
    rw [brA, Bool.and_eq_true, ih]
    exact ⟨fun ⟨⟨h1, h2⟩, h3⟩ => ⟨h1, fun k hk => if e : k = n then e ▸ h3 else h2 k (by omega)⟩, fun ⟨h1, h2⟩ => ⟨⟨h1, fun k hk => h2 k (by omega)⟩, h2 n (by omega)⟩⟩
theorem crA_iff {g : Nat → Int32} {a : Bool} : ∀ n, crA g n a = true ↔ a = true ∧ ∀ k, k < n → crB g k = true := by
  intro n
  induction n with
  | zero => exact ⟨fun h => ⟨h, fun k hk => absurd hk (Nat.not_lt_zero _)⟩, fun h => h.1⟩
  | succ n ih =>
    rw [crA, Bool.and_eq_true, ih]
    exact ⟨fun ⟨⟨h1, h2⟩, h3⟩ => ⟨h1, fun k hk => if e : k = n then e ▸ h3 else h2 k (by omega)⟩, fun ⟨h1, h2⟩ => ⟨⟨h1, fun k hk => h2 k (by omega)⟩, h2 n (by omega)⟩⟩
theorem alG_iff {g : Nat → Int32} {nb nch ncr : Nat} : alG g nb nch ncr = true ↔ ((g 1 = 0 ∧ ∀ k, k < nb → brB g k = true) ∧ (∀ k, k < ncr → crB g k = true) ∧ ¬ 999 < g 15 ∧ ¬ 999 < g 17 ∧ nch ≤ 4) := by
  unfold alG alB
  simp only [Bool.and_eq_true, crA_iff, brA_iff, decide_eq_true_eq]
  exact ⟨fun ⟨⟨h1, h2⟩, h3, h4, h5⟩ => ⟨h1, h2, h3, h4, h5⟩, fun ⟨h1, h2, h3, h4, h5⟩ => ⟨⟨h1, h2⟩, h3, h4, h5⟩⟩
section ALX
variable {g g' : Nat → Int32} {nb nb' nch nch' ncr : Nat} {od od' : Bool}
theorem brB_cg {k : Nat} (hk : k < 6) (h : ∀ j, j < 13 → g' j = g j) : brB g' k = brB g k := by
  unfold brB; rw [h _ (by omega), h _ (by omega), h _ (by omega)]
theorem crB_cg {k : Nat} (h1 : g' (28 + 6 * k + 2) = g (28 + 6 * k + 2)) (h2 : g' (28 + 6 * k + 4) = g (28 + 6 * k + 4)) : crB g' k = crB g k := by
  unfold crB; rw [h1, h2]
/-- the flag behind an item -/
theorem fl_of (hal : od = false → alG g nb nch ncr = true) {P : Prop} (h : alG g nb nch ncr = true → (alG g' nb' nch' ncr = true ↔ P)) (hod : od' = false ↔ od = false ∧ P) : (!od && alG g' nb' nch' ncr) = !od' := by
  cases od with
  | true => cases od' with
    | true => rfl
    | false => exact absurd (hod.mp rfl).1 (by decide)
  | false =>
    have h1 := h (hal rfl)
    cases e : alG g' nb' nch' ncr with
    | true => rw [hod.mpr ⟨rfl, h1.mp e⟩]; rfl
    | false => cases od' with
      | true => rfl
      | false => rw [h1.mpr (hod.mp rfl).2] at e; cases e
theorem al_x (hnb : nb ≤ 6) (h1 : ∀ j, j < 13 → g' j = g j) (h2 : ∀ k, k < ncr → g' (28 + 6 * k + 2) = g (28 + 6 * k + 2) ∧ g' (28 + 6 * k + 4) = g (28 + 6 * k + 4)) (h : alG g nb nch ncr = true) : alG g' nb nch' ncr = true ↔ (¬ 999 < g' 15 ∧ ¬ 999 < g' 17 ∧ nch' ≤ 4) := by
  obtain ⟨⟨a1, a2⟩, a3, a4, a5, a6⟩ := alG_iff.mp h
  rw [alG_iff]
  exact ⟨fun z => z.2.2, fun z => ⟨⟨by rw [h1 1 (by decide)]; exact a1, fun k hk => by rw [brB_cg (by omega) h1]; exact a2 k hk⟩, fun k hk => by rw [crB_cg (h2 k hk).1 (h2 k hk).2]; exact a3 k hk, z⟩⟩
theorem od_1 {p : Prop} [Decidable p] : (od || decide p) = false ↔ od = false ∧ ¬ p := by
  cases od <;> simp
theorem al_a {v0 v1 v2 : Int32} (hnb : nb ≤ 6) (hal : od = false → alG g nb nch ncr = true) (hch : nch ≤ 4) : (!od && alG (gA g v0 v1 v2) nb nch ncr) = !(od || decide (999 < v2)) := by
  refine fl_of (P := ¬ 999 < v2) hal (fun h => ?_) od_1
  rw [al_x hnb (fun j hj => by unfold gA; rw [upd_ne (by omega), upd_ne (by omega), upd_ne (by omega)]) (fun k hk => by unfold gA; exact ⟨by rw [upd_ne (by omega), upd_ne (by omega), upd_ne (by omega)], by rw [upd_ne (by omega), upd_ne (by omega), upd_ne (by omega)]⟩) h]
  have e15 : gA g v0 v1 v2 15 = v2 := by unfold gA; exact upd_eq
  have e17 : gA g v0 v1 v2 17 = g 17 := by unfold gA; rw [upd_ne (by omega), upd_ne (by omega), upd_ne (by omega)]
  rw [e15, e17]
  exact ⟨fun z => z.1, fun z => ⟨z, (alG_iff.mp h).2.2.2.1, hch⟩⟩
theorem al_m {v0 v1 : Int32} (hnb : nb ≤ 6) (hal : od = false → alG g nb nch ncr = true) (hch : nch ≤ 4) : (!od && alG (gM g v0 v1) nb nch ncr) = !(od || decide (999 < v1)) := by
  refine fl_of (P := ¬ 999 < v1) hal (fun h => ?_) od_1
  rw [al_x hnb (fun j hj => by unfold gM; rw [upd_ne (by omega), upd_ne (by omega)]) (fun k hk => by unfold gM; exact ⟨by rw [upd_ne (by omega), upd_ne (by omega)], by rw [upd_ne (by omega), upd_ne (by omega)]⟩) h]
  have e15 : gM g v0 v1 15 = g 15 := by unfold gM; rw [upd_ne (by omega), upd_ne (by omega)]
  have e17 : gM g v0 v1 17 = v1 := by unfold gM; exact upd_eq
  rw [e15, e17]
  exact ⟨fun z => z.2.1, fun z => ⟨(alG_iff.mp h).2.2.1, z, hch⟩⟩
theorem al_c {v0 v1 : Int32} (hnb : nb ≤ 6) (hal : od = false → alG g nb nch ncr = true) (hch : nch < 4) : (!od && alG (gCh g nch v0 v1) nb (nch + 1) ncr) = !od := by
  refine fl_of (P := True) hal (fun h => ?_) ⟨fun z => ⟨z, trivial⟩, fun z => z.1⟩
  rw [al_x hnb (fun j hj => by unfold gCh; rw [upd_ne (by omega), upd_ne (by omega), upd_ne (by omega)]) (fun k hk => by unfold gCh; exact ⟨by rw [upd_ne (by omega), upd_ne (by omega), upd_ne (by omega)], by rw [upd_ne (by omega), upd_ne (by omega), upd_ne (by omega)]⟩) h]
  have e : ∀ j, j < 18 → gCh g nch v0 v1 j = g j := fun j hj => by unfold gCh; rw [upd_ne (by omega), upd_ne (by omega), upd_ne (by omega)]
  rw [e 15 (by decide), e 17 (by decide)]
  exact ⟨fun z => trivial, fun z => ⟨(alG_iff.mp h).2.2.1, (alG_iff.mp h).2.2.2.1, by omega⟩⟩
theorem gCr_x {n j : Nat} {kd v0 v1 v2 v3 : Int32} {b : Bool} (h1 : j ≠ 27) (h2 : j < 28 + 6 * n ∨ 28 + 6 * n + 6 ≤ j) : gCr g n kd v0 v1 v2 v3 b j = g j := by
  unfold gCr; rw [upd_ne (by omega), upd_ne (by omega), upd_ne (by omega), upd_ne (by omega), upd_ne (by omega), upd_ne (by omega), upd_ne (by omega)]
theorem gCr_at {n : Nat} {kd v0 v1 v2 v3 : Int32} {b : Bool} : gCr g n kd v0 v1 v2 v3 b (28 + 6 * n + 0) = kd ∧ gCr g n kd v0 v1 v2 v3 b (28 + 6 * n + 1) = v0 ∧ gCr g n kd v0 v1 v2 v3 b (28 + 6 * n + 2) = v1 ∧ gCr g n kd v0 v1 v2 v3 b (28 + 6 * n + 3) = v2 ∧ gCr g n kd v0 v1 v2 v3 b (28 + 6 * n + 4) = v3 ∧ gCr g n kd v0 v1 v2 v3 b (28 + 6 * n + 5) = zB b ∧ gCr g n kd v0 v1 v2 v3 b 27 = nI (n + 1) := by
  unfold gCr
  refine ⟨?_, ?_, ?_, ?_, ?_, ?_, upd_eq⟩
  · rw [upd_ne (by omega), upd_ne (by omega)]; exact upd_eq
  · rw [upd_ne (by omega), upd_ne (by omega), upd_ne (by omega), upd_ne (by omega), upd_ne (by omega), upd_ne (by omega), upd_eq]
  · rw [upd_ne (by omega), upd_ne (by omega), upd_ne (by omega), upd_ne (by omega), upd_ne (by omega), upd_eq]
  · rw [upd_ne (by omega), upd_ne (by omega), upd_ne (by omega), upd_ne (by omega), upd_eq]
  · rw [upd_ne (by omega), upd_ne (by omega), upd_ne (by omega), upd_eq]
  · rw [upd_ne (by omega), upd_eq]
theorem al_r {kd v0 v1 v2 v3 : Int32} {b : Bool} (hnb : nb ≤ 6) (hch : nch ≤ 4) (hal : od = false → alG g nb nch ncr = true) : (!od && alG (gCr g ncr kd v0 v1 v2 v3 b) nb nch (ncr + 1)) = !((od || decide (999 < v1)) || decide (999 < v3)) := by
  obtain ⟨-, -, r2, -, r4, -, -⟩ := gCr_at (g := g) (n := ncr) (kd := kd) (v0 := v0) (v1 := v1) (v2 := v2) (v3 := v3) (b := b)
  have hcr : crB (gCr g ncr kd v0 v1 v2 v3 b) ncr = (decide (¬ 999 < v1) && decide (¬ 999 < v3)) := by unfold crB; rw [r2, r4]
  have hlo : ∀ j, j < 27 → gCr g ncr kd v0 v1 v2 v3 b j = g j := fun j hj => gCr_x (by omega) (by omega)
  cases od with
  | true => rfl
  | false =>
    obtain ⟨⟨a1, a2⟩, a3, a4, a5, a6⟩ := alG_iff.mp (hal rfl)
    show alG _ _ _ _ = !(decide _ || decide _)
    cases e : alG (gCr g ncr kd v0 v1 v2 v3 b) nb nch (ncr + 1) with
    | true =>
      have h9 := (alG_iff.mp e).2.1 ncr (by omega)
      rw [hcr, Bool.and_eq_true, decide_eq_true_eq, decide_eq_true_eq] at h9
      rw [decide_eq_false h9.1, decide_eq_false h9.2]; rfl
    | false =>
      by_cases z1 : 999 < v1
      · rw [decide_eq_true z1]; rfl
      · by_cases z2 : 999 < v3
        · rw [decide_eq_true z2, Bool.or_true]; rfl
        · have : alG (gCr g ncr kd v0 v1 v2 v3 b) nb nch (ncr + 1) = true := alG_iff.mpr ⟨⟨by rw [hlo 1 (by decide)]; exact a1, fun k hk => by rw [brB_cg (by omega) (fun j hj => hlo j (by omega))]; exact a2 k hk⟩, fun k hk => by
              by_cases ek : k = ncr
              · subst ek; rw [hcr, decide_eq_true z1, decide_eq_true z2]; rfl
              · rw [crB_cg (gCr_x (by omega) (by omega)) (gCr_x (by omega) (by omega))]; exact a3 k (by omega), by rw [hlo 15 (by decide)]; exact a4, by rw [hlo 17 (by decide)]; exact a5, hch⟩
          rw [this] at e; cases e
end ALX
/-! ranges -/
theorem RNG.up {g : Nat → Int32} {j : Nat} {v : Int32} (h : RNG g) (hv : ∃ n, n ≤ 9999 ∧ v = nI n) (hj : (∀ k, k < 6 → j ≠ 28 + 6 * k + 5) ∨ v = 0 ∨ v = 1) : RNG (upd g j v) := by
  refine ⟨fun i hi => ?_, fun k hk => ?_⟩
  · by_cases e : i = j
    · subst e; rw [upd_eq]; exact hv
    · rw [upd_ne e]; exact h.1 i hi
  · by_cases e : 28 + 6 * k + 5 = j
    · rcases hj with z | z
      · exact absurd e.symm (z k hk)
      · rw [e, upd_eq]; exact z
    · rw [upd_ne e]; exact h.2 k hk
theorem nV_r {t : Nat → Int32} {ln p i : Nat} (h : sK t ln p i ≤ ln) : ∃ n, n ≤ 9999 ∧ nV t ln p i = nI n := ⟨_, (nuN_of h).2, rfl⟩
theorem nu_any {t : Nat → Int32} {ln p : Nat} : ∃ n, n ≤ 9999 ∧ nuA t p (nuD t ln p) = nI n := by
  by_cases h : p ≤ ln
  · exact ⟨_, (nuN_of h).2, (nuN_of h).1⟩
  · refine ⟨0, by decide, ?_⟩
    have hd : dgB t ln p = false := by unfold dgB heV; rw [if_neg (by omega)]; decide
    rw [nuD_0 hd]; rfl
section RNX
variable {t : Nat → Int32} {ln : Nat} {g : Nat → Int32}
theorem RNG.a {v0 v1 v2 : Int32} (h : RNG g) (h0 : ∃ n, n ≤ 9999 ∧ v0 = nI n) (h1 : ∃ n, n ≤ 9999 ∧ v1 = nI n) (h2 : ∃ n, n ≤ 9999 ∧ v2 = nI n) : RNG (gA g v0 v1 v2) :=
  ((h.up h0 (Or.inl (fun k hk => by omega))).up h1 (Or.inl (fun k hk => by omega))).up h2 (Or.inl (fun k hk => by omega))
theorem RNG.m {v0 v1 : Int32} (h : RNG g) (h0 : ∃ n, n ≤ 9999 ∧ v0 = nI n) (h1 : ∃ n, n ≤ 9999 ∧ v1 = nI n) : RNG (gM g v0 v1) :=
  (h.up h0 (Or.inl (fun k hk => by omega))).up h1 (Or.inl (fun k hk => by omega))
theorem RNG.c {n : Nat} {v0 v1 : Int32} (h : RNG g) (hn : n < 4) (h0 : ∃ n, n ≤ 9999 ∧ v0 = nI n) (h1 : ∃ n, n ≤ 9999 ∧ v1 = nI n) : RNG (gCh g n v0 v1) :=
  ((h.up h0 (Or.inl (fun k hk => by omega))).up h1 (Or.inl (fun k hk => by omega))).up ⟨n + 1, by omega, rfl⟩ (Or.inl (fun k hk => by omega))
theorem RNG.r {n kd : Nat} {v0 v1 v2 v3 : Int32} {b : Bool} (h : RNG g) (hn : n < 6) (hk : kd < 3) (h0 : ∃ n, n ≤ 9999 ∧ v0 = nI n) (h1 : ∃ n, n ≤ 9999 ∧ v1 = nI n) (h2 : ∃ n, n ≤ 9999 ∧ v2 = nI n) (h3 : ∃ n, n ≤ 9999 ∧ v3 = nI n) : RNG (gCr g n (nI kd) v0 v1 v2 v3 b) := by
  unfold gCr
  refine RNG.up (RNG.up (RNG.up (RNG.up (RNG.up (RNG.up (RNG.up h h0 (Or.inl (fun k hk => by omega))) h1 (Or.inl (fun k hk => by omega))) h2 (Or.inl (fun k hk => by omega))) h3 (Or.inl (fun k hk => by omega))) ⟨kd, by omega, rfl⟩ (Or.inl (fun k hk => by omega))) ?_ (Or.inr ?_)) ⟨n + 1, by omega, rfl⟩ (Or.inl (fun k hk => by omega))
  · cases b
    · exact ⟨0, by decide, rfl⟩
    · exact ⟨1, by decide, rfl⟩
  · cases b
    · exact Or.inl rfl
    · exact Or.inr rfl
theorem RNG.b : ∀ f p n tr, n ≤ 6 → RNG tr → RNG (trB t ln f p n tr) := by
  intro f
  induction f with
  | zero => intro p n tr hn h; exact h
  | succ f ih =>
    intro p n tr hn h
    have h1 : RNG (trB1 t ln p n tr) := by
      unfold trB1
      split
      · exact (h.up nu_any (Or.inl (fun k hk => by omega))).up nu_any (Or.inl (fun k hk => by omega))
      · exact h
    rw [trB]
    split
    · exact ih _ _ _ (by split <;> omega) h1
    · exact h1.up ⟨_, by split <;> omega, rfl⟩ (Or.inl (fun k hk => by omega))
end RNX
/-! brackets -/
section OBX
variable {t : Nat → Int32} {ln sp N : Nat}
abbrev tB (t : Nat → Int32) (ln sp i : Nat) : Int32 := nuA t (bP t ln sp i) (nuD t ln (bP t ln sp i))
abbrev rB (t : Nat → Int32) (ln sp i : Nat) : Int32 := nuA t (bP t ln sp i + nuD t ln (bP t ln sp i) + 1) (nuD t ln (bP t ln sp i + nuD t ln (bP t ln sp i) + 1))
theorem bkO_iff {od : Bool} {n : Nat} {v last : Int32} (hn : n ≤ 5) : bkO od n v last = false ↔ od = false ∧ (n = 0 → v = 0) ∧ (0 < n → ¬ v ≤ last) := by
  unfold bkO
  rw [decide_eq_false (show ¬ n = 6 by omega), Bool.or_false, Bool.or_eq_false_iff]
  by_cases h : n = 0
  · rw [if_pos h, decide_eq_false_iff_not, Decidable.not_not]
    exact ⟨fun z => ⟨z.1, fun _ => z.2, fun z2 => by omega⟩, fun z => ⟨z.1, z.2.1 h⟩⟩
  · rw [if_neg h, decide_eq_false_iff_not]
    exact ⟨fun z => ⟨z.1, fun z2 => absurd z2 h, fun _ => z.2⟩, fun z => ⟨z.1, z.2.2 (by omega)⟩⟩
theorem odB_val (hN : N ≤ 5) (hA : bcA t ln sp N) (hE : ¬ heC t ln (bQ t ln (bP t ln sp N)) = 44) : ∀ j f k last od, k + j = N → j < f →
    (odB t ln f (bP t ln sp k) k last od = false ↔ od = false ∧ (k = 0 → tB t ln sp k = 0) ∧ (0 < k → ¬ tB t ln sp k ≤ last) ∧ ¬ 999 < rB t ln sp k ∧ ∀ i, k < i → i ≤ N → (¬ tB t ln sp i ≤ tB t ln sp (i - 1) ∧ ¬ 999 < rB t ln sp i)) := by
  intro j
  induction j with
  | zero =>
    intro f k last od hk hf
    obtain rfl : k = N := by omega
    obtain ⟨f, rfl⟩ : ∃ f', f = f' + 1 := ⟨f - 1, by omega⟩
    rw [odB, if_neg hE, Bool.or_eq_false_iff, bkO_iff hN, decide_eq_false_iff_not]
    exact ⟨fun ⟨⟨h1, h2, h3⟩, h4⟩ => ⟨h1, h2, h3, h4, fun i h5 h6 => by omega⟩, fun ⟨h1, h2, h3, h4, _⟩ => ⟨⟨h1, h2, h3⟩, h4⟩⟩
  | succ j ih =>
    intro f k last od hk hf
    obtain ⟨f, rfl⟩ : ∃ f', f = f' + 1 := ⟨f - 1, by omega⟩
    have h44 := hA.2 k (by omega)
    rw [odB, if_pos h44, if_pos (by omega)]
    have h9 := ih f (k + 1) (tB t ln sp k) (bkO od k (tB t ln sp k) last || decide (999 < rB t ln sp k)) (by omega) (by omega)
    refine h9.trans ?_
    rw [Bool.or_eq_false_iff, bkO_iff (by omega), decide_eq_false_iff_not]
    constructor
    · rintro ⟨⟨⟨h1, h2, h3⟩, h4⟩, -, h5, h6, h7⟩
      refine ⟨h1, h2, h3, h4, fun i hi hiN => ?_⟩
      by_cases e : i = k + 1
      · subst e; exact ⟨h5 (by omega), h6⟩
      · exact h7 i (by omega) hiN
    · rintro ⟨h1, h2, h3, h4, h5⟩
      exact ⟨⟨⟨h1, h2, h3⟩, h4⟩, fun z => by omega, fun _ => (h5 (k + 1) (by omega) (by omega)).1, (h5 (k + 1) (by omega) (by omega)).2, fun i hi hiN => h5 i (by omega) hiN⟩
theorem al_b {od : Bool} {g : Nat → Int32} {nb nch ncr : Nat} (hN : N ≤ 5) (hA : bcA t ln sp N) (hE : ¬ heC t ln (bQ t ln (bP t ln sp N)) = 44) (hal : od = false → alG g nb nch ncr = true) (hfu : N < ln + 1) : (!od && alG (trB t ln (ln + 1) sp 0 g) (N + 1) nch ncr) = !(odB t ln (ln + 1) sp 0 (-1) od) := by
  obtain ⟨v1, v2, v3⟩ := trB_val (t := t) (ln := ln) hN hA hE N (ln + 1) 0 g (by omega) hfu (fun i hi => absurd hi (Nat.not_lt_zero _))
  change ∀ x, 13 ≤ x → trB t ln (ln + 1) sp 0 g x = g x at v3
  have ho := odB_val hN hA hE N (ln + 1) 0 (-1) od (by omega) hfu
  refine fl_of (P := tB t ln sp 0 = 0 ∧ ¬ 999 < rB t ln sp 0 ∧ ∀ i, 0 < i → i ≤ N → (¬ tB t ln sp i ≤ tB t ln sp (i - 1) ∧ ¬ 999 < rB t ln sp i)) hal (fun h => ?_) ?_
  · obtain ⟨-, a3, a4, a5, a6⟩ := alG_iff.mp h
    rw [alG_iff]
    have hbr : ∀ k, k < N + 1 → (brB (trB t ln (ln + 1) sp 0 g) k = true ↔ ¬ 999 < rB t ln sp k ∧ (k = 0 ∨ ¬ tB t ln sp k ≤ tB t ln sp (k - 1))) := fun k hk => by
      have e1 : trB t ln (ln + 1) sp 0 g (1 + 2 * k) = tB t ln sp k := (v1 k hk).1
      have e2 : trB t ln (ln + 1) sp 0 g (1 + 2 * k + 1) = rB t ln sp k := (v1 k hk).2
      have e3 : trB t ln (ln + 1) sp 0 g (1 + 2 * (k - 1)) = tB t ln sp (k - 1) := (v1 (k - 1) (by omega)).1
      unfold brB
      rw [e1, e2, e3, Bool.and_eq_true, Bool.or_eq_true, decide_eq_true_eq, decide_eq_true_eq, decide_eq_true_eq]
    have e1 : trB t ln (ln + 1) sp 0 g 1 = tB t ln sp 0 := (v1 0 (by omega)).1
    have e15 : trB t ln (ln + 1) sp 0 g 15 = g 15 := v3 15 (by decide)
    have e17 : trB t ln (ln + 1) sp 0 g 17 = g 17 := v3 17 (by decide)
    constructor
    · rintro ⟨⟨b1, b2⟩, -⟩
      exact ⟨e1 ▸ b1, ((hbr 0 (by omega)).mp (b2 0 (by omega))).1, fun i hi hiN => by
        have := (hbr i (by omega)).mp (b2 i (by omega))
        exact ⟨this.2.resolve_left (by omega), this.1⟩⟩
    · rintro ⟨b1, b2, b3⟩
      refine ⟨⟨by rw [e1]; exact b1, fun k hk => (hbr k hk).mpr ?_⟩, fun k hk => by rw [crB_cg (v3 _ (by omega)) (v3 _ (by omega))]; exact a3 k hk, by rw [e15]; exact a4, by rw [e17]; exact a5, a6⟩
      by_cases e : k = 0
      · subst e; exact ⟨b2, Or.inl rfl⟩
      · exact ⟨(b3 k (by omega) (by omega)).2, Or.inr (b3 k (by omega) (by omega)).1⟩
  · rw [show odB t ln (ln + 1) sp 0 (-1) od = odB t ln (ln + 1) (bP t ln sp 0) 0 (-1) od from rfl, ho]
    exact ⟨fun ⟨h1, h2, _, h4, h5⟩ => ⟨h1, h2 rfl, h4, h5⟩, fun ⟨h1, h2, h4, h5⟩ => ⟨h1, fun _ => h2, fun z => absurd z (Nat.lt_irrefl 0), h4, h5⟩⟩
end OBX
