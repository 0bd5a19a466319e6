/-! plain law: the curve's kinks -/
set_option maxRecDepth 100000
section KP
variable {g : Nat → Int32} {h : Nat → Int64} {B p : Nat}
theorem rnc_of (w : WFg g) : RNC g := ⟨w.1.2.2, w.2.1.2, w.2.2.1.2⟩
theorem cr_eq (hg : RNG g) (w : WFg g) (hh : RNH h B) (hB : B ≤ 2000000000000000000) (hp : p < 6) {e : Nat} (he : e ≤ 10000) : crT g h (nbG g) (nchG g) (ncrG g) p e = crvN g h p e := by
  have hd := w.2.2.2.1 p hp
  unfold crT crvN crvV
  rw [hd.1]
  exact alo_eq hg (rnc_of w) hh hB hp he (by omega)
theorem ki_eq (hg : RNG g) (w : WFg g) (hh : RNH h B) (hB : B ≤ 2000000000000000000) (hp : p < 6) {j : Nat} (h1 : 1 ≤ j) (h2 : j ≤ 9998) : kiS (crT g h (nbG g) (nchG g) (ncrG g) p) 9999 j = kinB g h p j := by
  unfold kiS kbK kinB marV
  rw [cr_eq hg w hh hB hp (by omega), cr_eq hg w hh hB hp (by omega), cr_eq hg w hh hB hp (by omega), decide_eq_true (by omega), Bool.true_and, show j - 1 + 1 = j by omega]
  exact decide_eq_decide.mpr ⟨fun z q => z q.symm, fun z q => z q.symm⟩
theorem ki_0 {c : Nat → Int64} {j : Nat} (hj : j = 0 ∨ 9999 ≤ j) : kiS c 9999 j = false := by unfold kiS; rw [decide_eq_false (by omega), Bool.false_and]
theorem kn_eq (hg : RNG g) (w : WFg g) (hh : RNH h B) (hB : B ≤ 2000000000000000000) (hp : p < 6) : ∀ i, i ≤ 9998 → knkC (crvN g h p) i = nI (cntB (kiS (crT g h (nbG g) (nchG g) (ncrG g) p) 9999) (i + 1)) := by
  intro i
  induction i with
  | zero => intro _; show (0 : Int32) = nI (0 + (if kiS _ 9999 0 = true then 1 else 0)); rw [ki_0 (Or.inl rfl)]; rfl
  | succ i ih =>
    intro hi
    show knkC (crvN g h p) i + _ = nI (cntB _ (i + 1) + (if kiS _ 9999 (i + 1) = true then 1 else 0))
    rw [ih (by omega), ki_eq hg w hh hB hp (by omega) (by omega), ← nI_add]
    congr 1
    unfold kinB marV
    rw [show i + 1 - 1 + 1 = i + 1 by omega, show i + 1 - 1 = i by omega]
    by_cases c : crvN g h p (i + 2) - crvN g h p (i + 1) = crvN g h p (i + 1) - crvN g h p i
    · rw [if_pos c, if_neg (by rw [decide_eq_false (fun z => z c.symm)]; decide)]; rfl
    · rw [if_neg c, if_pos (by rw [decide_eq_true_eq]; exact fun z => c z.symm)]; rfl
theorem knk_eq (hg : RNG g) (w : WFg g) (hh : RNH h B) (hB : B ≤ 2000000000000000000) (hp : p < 6) : nI (cntB (kiS (crT g h (nbG g) (nchG g) (ncrG g) p) 9999) 9999) = knkC (crvN g h p) 9998 := (kn_eq hg w hh hB hp 9998 (Nat.le_refl _)).symm
theorem fst_hit {b : Nat → Bool} {n e x : Nat} (hf : fstN b n e = some x) : e ≤ x ∧ x < e + n ∧ b x = true ∧ ∀ j, e ≤ j → j < x → b j = false := by
  induction n generalizing e with
  | zero => cases hf
  | succ n ih =>
    rw [fstN] at hf
    by_cases c : b e = true
    · rw [if_pos c] at hf; cases hf; exact ⟨Nat.le_refl _, by omega, c, fun j h1 h2 => by omega⟩
    · rw [if_neg c] at hf
      obtain ⟨a1, a2, a3, a4⟩ := ih hf
      refine ⟨by omega, by omega, a3, fun j h1 h2 => ?_⟩
      by_cases q : j = e
      · rw [q]; exact Bool.eq_false_iff.mpr c
      · exact a4 j (by omega) h2
theorem fst_miss {b : Nat → Bool} {n e : Nat} (hf : fstN b n e = none) : ∀ j, e ≤ j → j < e + n → b j = false := by
  induction n generalizing e with
  | zero => intro j h1 h2; omega
  | succ n ih =>
    rw [fstN] at hf
    by_cases c : b e = true
    · rw [if_pos c] at hf; cases hf
    · rw [if_neg c] at hf
      intro j h1 h2
      by_cases q : j = e
      · rw [q]; exact Bool.eq_false_iff.mpr c
      · exact ih hf j (by omega) (by omega)
/-- where the component begins to look -/
theorem nk_of (e : Int32) : ∃ m fr, maxJ 0 (minJ e 9999) = nI m ∧ m ≤ 9999 ∧ fr < 65536 ∧ (¬ 0 ≤ e → fr = 0) ∧ (0 ≤ e → fr = m + 1) ∧ ((fr = 0 ∧ nkS e = 1) ∨ fr = nkS e ∨ (9999 ≤ fr ∧ nkS e = 9999)) := by
  by_cases h0 : 0 ≤ e
  · by_cases h9 : e < 9999
    · obtain ⟨j, hj, rfl⟩ := nI_of2 (x := e) (M := 9999) (n := 9999) (by decide) (fun q => absurd q (Int32.not_lt.mpr h0)) (Int32.le_of_lt h9)
      have hj2 : j < 9999 := (nI_ltI (b := 9999) (by omega) (by decide)).mp h9
      refine ⟨j, j + 1, ?_, by omega, by omega, fun z => absurd h0 z, fun _ => rfl, ?_⟩
      · have e1 : minJ (nI j) 9999 = nI j := minJ_l (b := 9999) (by omega) (by decide)
        rw [e1]
        have := mx_eq (a := 0) (b := j) (by decide) (by omega)
        rw [show nI 0 = (0 : Int32) by decide] at this
        rw [this]
        split
        · rfl
        · congr 1; omega
      · by_cases a1 : j = 0
        · subst a1; exact Or.inr (Or.inl (by rw [nkS_1 (by decide)]))
        · have b1 : 1 ≤ nI j := nI_le (a := 1) (by omega) (by omega)
          by_cases a2 : j < 9998
          · refine Or.inr (Or.inl ?_)
            unfold nkS
            rw [if_neg (Int32.not_lt.mpr b1), if_pos (show nI j < 9998 from (nI_ltI (b := 9998) (by omega) (by decide)).mpr a2), nI_clamp (by omega)]
          · refine Or.inr (Or.inr ⟨by omega, nkS_3 ?_⟩)
            exact nI_le (a := 9998) (by omega) (by omega)
    · have h9' := Int32.not_lt.mp h9
      refine ⟨9999, 10000, ?_, Nat.le_refl _, by decide, fun z => absurd h0 z, fun _ => rfl, Or.inr (Or.inr ⟨by decide, nkS_3 (Int32.le_trans (by decide : (9998 : Int32) ≤ 9999) h9')⟩)⟩
      have e1 : minJ e 9999 = 9999 := by
        unfold minJ
        by_cases q : (9999 : Int32) < e
        · rw [if_pos q]
        · rw [if_neg q]; exact Int32.le_antisymm (Int32.not_lt.mp q) h9'
      rw [e1]; decide
  · refine ⟨0, 0, ?_, by decide, by decide, fun _ => rfl, fun z => absurd z h0, Or.inl ⟨rfl, nkS_1 (fun z => h0 (Int32.le_trans (by decide : (0 : Int32) ≤ 1) z))⟩⟩
    have h0' := Int32.not_le.mp h0
    have e1 : minJ e 9999 = e := by
      unfold minJ
      rw [if_neg (fun q => absurd (Int32.lt_trans q (Int32.lt_trans h0' (by decide : (0 : Int32) < 9999))) (by decide))]
    rw [e1]
    unfold maxJ
    rw [if_neg (fun q => absurd (Int32.lt_trans q h0') (Int32.lt_irrefl))]
    rfl
theorem nk_hit (hg : RNG g) (w : WFg g) (hh : RNH h B) (hB : B ≤ 2000000000000000000) (hp : p < 6) {e : Int32} {fr r : Nat} (hf : (fr = 0 ∧ nkS e = 1) ∨ fr = nkS e ∨ (9999 ≤ fr ∧ nkS e = 9999)) (hs : fstN (kinB g h p) (9999 - nkS e) (nkS e) = some r) (hn : 1 ≤ nkS e) : r < 65536 ∧ fr ≤ r ∧ kiS (crT g h (nbG g) (nchG g) (ncrG g) p) 9999 r = true ∧ ∀ j, fr ≤ j → j < r → kiS (crT g h (nbG g) (nchG g) (ncrG g) p) 9999 j = false := by
  obtain ⟨a1, a2, a3, a4⟩ := fst_hit hs
  refine ⟨by omega, by omega, ?_, fun j h1 h2 => ?_⟩
  · rw [ki_eq hg w hh hB hp (by omega) (by omega)]; exact a3
  · by_cases c : j = 0
    · exact ki_0 (Or.inl c)
    · rw [ki_eq hg w hh hB hp (by omega) (by omega)]
      exact a4 j (by omega) h2
theorem nk_miss (hg : RNG g) (w : WFg g) (hh : RNH h B) (hB : B ≤ 2000000000000000000) (hp : p < 6) {e : Int32} {fr : Nat} (hf : (fr = 0 ∧ nkS e = 1) ∨ fr = nkS e ∨ (9999 ≤ fr ∧ nkS e = 9999)) (hs : fstN (kinB g h p) (9999 - nkS e) (nkS e) = none) (hn : 1 ≤ nkS e) : ∀ j, fr ≤ j → kiS (crT g h (nbG g) (nchG g) (ncrG g) p) 9999 j = false := by
  intro j h1
  by_cases c : j = 0 ∨ 9999 ≤ j
  · exact ki_0 c
  · rw [ki_eq hg w hh hB hp (by omega) (by omega)]
    exact fst_miss hs j (by omega) (by omega)
theorem nkS_pos (e : Int32) : 1 ≤ nkS e := by unfold nkS; split <;> (try split) <;> omega
/-- the parts of the curve -/
theorem cv_eq (hg : RNG g) (w : WFg g) (hh : RNH h B) (hB : B ≤ 2000000000000000000) (hp : p < 6) {e pt : Nat} (he : e ≤ 10000) (hpt : pt < 4 + ncrG g) : cvT g h (nbG g) (nchG g) (ncrG g) p (nI e) pt = prtN g h p e pt := by
  have hd := w.2.2.2.1 p hp
  have hc := rnc_of w
  obtain ⟨o, ho, eo⟩ := hg.1 (64 + 3 * p + 1) (by omega)
  unfold cvT prtN prtV
  rw [eo, nI_add, hd.1]
  by_cases c : pt < 4
  · rw [if_pos c, if_pos c]
    rcases (show pt = 0 ∨ pt = 1 ∨ pt = 2 ∨ pt = 3 by omega) with rfl | rfl | rfl | rfl
    · exact p2_eq (F := 1) hg (by omega) (by omega) _ hc.1
    · exact p3_eq (F := 1) hg (by omega) (by omega)
    · exact p4_eq (F := 1) hg (by omega) (by omega) _ hc.1
    · exact p5_eq (F := 1) hg (by omega) (by omega) _ _ hc.1 hc.2.1
  · rw [if_neg c, if_neg c]
    have h6 := hc.2.2
    have e5 := p5_eq (F := 1) (X := e + o) (e := nI e) (d := nI (dnG g p)) hg (by omega) (by omega) _ _ hc.1 hc.2.1
    show reK g (nI e) (nI (e + o)) (nI (dnG g p)) (nI 1) _ (p5K g (nI e) (nI (e + o)) (nI (dnG g p)) (nI 1) (nbG g) (nchG g)) _ = _
    rw [e5]
    exact re_eq (F := 1) hg (by omega) (by omega) (by omega) (by omega) _ (B := B) (by omega) (fun k hk => hh _ (by omega)) _ _ (by omega)
theorem nI_p1 {e : Nat} (h : 1 ≤ e) : nI e - 1 = nI (e - 1) := by
  obtain ⟨d, rfl⟩ : ∃ d, e = d + 1 := ⟨e - 1, by omega⟩
  rw [← nI_add (a := d) (b := 1)]
  show nI d + 1 - 1 = nI d
  grind
theorem be_iff {a b c : Int64} : (-a + 2 * b - c = 0) ↔ (b - a = c - b) := by
  constructor
  · intro z
    have : b - a - (c - b) = -a + 2 * b - c := by grind
    rw [z] at this
    grind
  · intro z
    grind
theorem bd_eq (hg : RNG g) (w : WFg g) (hh : RNH h B) (hB : B ≤ 2000000000000000000) (hp : p < 6) {e pt : Nat} (he1 : 1 ≤ e) (he : e ≤ 9998) (hpt : pt < 4 + ncrG g) : (beD g h (nbG g) (nchG g) (ncrG g) p (nI e) pt = 0) ↔ bndB g h p e pt = false := by
  have h1 := cv_eq hg w hh hB hp (e := e - 1) (by omega) hpt
  have h2 := cv_eq hg w hh hB hp (e := e) (by omega) hpt
  have h3 := cv_eq hg w hh hB hp (e := e + 1) (by omega) hpt
  unfold beD
  rw [show nI e - 1 = nI (e - 1) from nI_p1 he1, show nI e + 1 = nI (e + 1) from (nI_add (a := e) (b := 1)), h1, h2, h3, be_iff]
  unfold bndB
  exact ⟨fun z => decide_eq_false (fun q => q z), fun z => Classical.not_not.mp (of_decide_eq_false z)⟩
theorem bnd_last {e : Nat} (he1 : 1 ≤ e) : bndB g h p e (3 + ncrG g) = kinB g h p e := by
  unfold bndB kinB marV crvN prtN
  rw [prtV_last, prtV_last, prtV_last, show e - 1 + 1 = e by omega]
theorem cau_eq {b : Nat → Bool} : ∀ {n pt k : Nat}, pt ≤ k → k ≤ pt + n → (∀ j, pt ≤ j → j < k → b j = false) → (k < pt + n → b k = true) → cauN b n pt = k
  | 0, pt, k, h1, h2, _, _ => by show pt = k; omega
  | n + 1, pt, k, h1, h2, h3, h4 => by
    unfold cauN
    by_cases c : pt = k
    · subst c; rw [if_pos (h4 (by omega))]
    · rw [if_neg (by rw [h3 pt (Nat.le_refl _) (by omega)]; decide)]
      exact cau_eq (by omega) (by omega) (fun j a1 a2 => h3 j (by omega) a2) (fun a => h4 (by omega))
theorem kc_eq (hg : RNG g) (w : WFg g) (hh : RNH h B) (hB : B ≤ 2000000000000000000) (hp : p < 6) {e k : Nat} (he1 : 1 ≤ e) (he : e ≤ 9998) (hk : kinB g h p e = true)
    (hq : (k < 4 + ncrG g ∧ ¬ beD g h (nbG g) (nchG g) (ncrG g) p (nI e) k = 0 ∧ ∀ j, j < k → beD g h (nbG g) (nchG g) (ncrG g) p (nI e) j = 0) ∨ (k = 4 + ncrG g - 1 ∧ ∀ j, j < 4 + ncrG g → beD g h (nbG g) (nchG g) (ncrG g) p (nI e) j = 0)) : k = cauN (bndB g h p e) (3 + ncrG g) 0 := by
  rcases hq with ⟨h1, h2, h3⟩ | ⟨-, h3⟩
  · refine (cau_eq (Nat.zero_le _) (by omega) (fun j _ hj => (bd_eq hg w hh hB hp he1 he (by omega)).mp (h3 j hj)) (fun _ => ?_)).symm
    cases e1 : bndB g h p e k
    · exact absurd ((bd_eq hg w hh hB hp he1 he h1).mpr e1) h2
    · rfl
  · have := (bd_eq hg w hh hB hp he1 he (by omega)).mp (h3 (3 + ncrG g) (by omega))
    rw [bnd_last he1, hk] at this; cases this
theorem kb_iff (hg : RNG g) (w : WFg g) (hh : RNH h B) (hB : B ≤ 2000000000000000000) (hp : p < 6) {e : Nat} (he1 : 1 ≤ e) (he : e ≤ 9998) : (beD g h (nbG g) (nchG g) (ncrG g) p (nI e) (3 + ncrG g) = 0) ↔ kinB g h p e = false := by
  rw [bd_eq hg w hh hB hp he1 he (by omega), bnd_last he1]
end KP
