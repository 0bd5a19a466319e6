/-! worlds by their cells: from lists of cells to the predicates of the queries -/
def wdF (a w1 w2 w3 w4 : Nat) (pf v : Nat → Nat) : Nat → Nat := fun i => if i < 10 then [a, w1, w2, w3, w4].getD i 0 else if i < 20 then pf (i - 10) else v (i - 20)
def rdF (R rb r2 r3 r4 e4 r6 eb cb : Nat) (fb f4 f6 nd : Nat → Nat) : Nat → Nat := fun i => if i < 100 then [R, rb, r2, r3, r4, e4, r6, eb, cb].getD i 0 else if i < 200 then fb (i - 100) else if i < 300 then f4 (i - 200) else if i < 400 then f6 (i - 300) else nd (i - 400)
theorem wdF_p {a w1 w2 w3 w4 : Nat} {pf v : Nat → Nat} {p : Nat} (hp : p < 6) : wdF a w1 w2 w3 w4 pf v (10 + p) = pf p := by
  unfold wdF; rw [if_neg (by omega), if_pos (by omega), show 10 + p - 10 = p by omega]
theorem wdF_v {a w1 w2 w3 w4 : Nat} {pf v : Nat → Nat} {p : Nat} : wdF a w1 w2 w3 w4 pf v (20 + p) = v p := by
  unfold wdF; rw [if_neg (by omega), if_neg (by omega), show 20 + p - 20 = p by omega]
section RDF
variable {R rb r2 r3 r4 e4 r6 eb cb : Nat} {fb f4 f6 nd : Nat → Nat} {k : Nat}
theorem rdF_b (h : k < 100) : rdF R rb r2 r3 r4 e4 r6 eb cb fb f4 f6 nd (100 + k) = fb k := by unfold rdF; rw [if_neg (by omega), if_pos (by omega), show 100 + k - 100 = k by omega]
theorem rdF_c (h : k < 100) : rdF R rb r2 r3 r4 e4 r6 eb cb fb f4 f6 nd (200 + k) = f4 k := by unfold rdF; rw [if_neg (by omega), if_neg (by omega), if_pos (by omega), show 200 + k - 200 = k by omega]
theorem rdF_r (h : k < 100) : rdF R rb r2 r3 r4 e4 r6 eb cb fb f4 f6 nd (300 + k) = f6 k := by unfold rdF; rw [if_neg (by omega), if_neg (by omega), if_neg (by omega), if_pos (by omega), show 300 + k - 300 = k by omega]
theorem rdF_n : rdF R rb r2 r3 r4 e4 r6 eb cb fb f4 f6 nd (400 + k) = nd k := by unfold rdF; rw [if_neg (by omega), if_neg (by omega), if_neg (by omega), if_neg (by omega), show 400 + k - 400 = k by omega]
end RDF
/-- the brackets' cells -/
def brS (D : DD) (g : Nat → Int32) (rb nb : Nat) (iv : va_W) : Prop := (nb = 1 ∧ ∃ x, oC rb 18 [.ref x, .ref (D.2.2.1 0)] ∈ iv ∧ oC x 4 [.int (g (1 + 2 * 0)), .int (g (1 + 2 * 0 + 1))] ∈ iv) ∨ (nb ≤ 6 ∧ ∃ (mc : Int32) (e : Nat) (f : Nat → Option Nat) (fb : Nat → Nat), oC rb 12 [.int mc, .ref e, .int (nI nb)] ∈ iv ∧ aC D 3 e (qA 10 f) ∈ iv ∧ ∀ k, k < nb → f k = some (fb k) ∧ oC (fb k) 4 [.int (g (1 + 2 * k)), .int (g (1 + 2 * k + 1))] ∈ iv)
/-- the cells that worlds share -/
def ivS (D : DD) (g : Nat → Int32) (pf : Nat → Nat) (rb nb nch : Nat) (f4 : Nat → Nat) (ncr : Nat) (f6 : Nat → Nat) (iv : va_W) : Prop := aC D 3 (D.2.2.1 1) (qA 0 (fun _ => none)) ∈ iv ∧
  (∀ p, p < 6 → oC (pf p) 5 [.int (g (64 + 3 * p + 0)), .int (g (64 + 3 * p + 1)), .int (g (64 + 3 * p + 2))] ∈ iv) ∧ (∀ k, k < nch → oC (f4 k) 10 [.int (g (19 + 2 * k)), .int (g (19 + 2 * k + 1))] ∈ iv) ∧
  (∀ k, k < ncr → oC (f6 k) 11 [.int (g (28 + 6 * k + 0)), .int (g (28 + 6 * k + 1)), .int (g (28 + 6 * k + 2)), .int (g (28 + 6 * k + 3)), .int (g (28 + 6 * k + 4)), .int (g (28 + 6 * k + 5))] ∈ iv) ∧ brS D g rb nb iv
/-- a world: its own cells W, the shared ones iv -/
def wcS (D : DD) (a : Nat) (g : Nat → Int32) (h : Nat → Int64) (nb nch ncr : Nat) (W iv : va_W) : Prop := ∃ pf rb f4 f6 R U, ruS D R g rb nch f4 ncr f6 U ∧ woS D a g h pf R U W ∧ ivS D g pf rb nb nch f4 ncr f6 iv
theorem ru_of {D : DD} {R : Nat} {g : Nat → Int32} {rb nb nch ncr : Nat} {pf f4 f6 : Nat → Nat} {U iv : va_W} (hr : ruS D R g rb nch f4 ncr f6 U) (hi : ivS D g pf rb nb nch f4 ncr f6 iv) :
    ∃ rd, rd 0 = R ∧ ∀ (K : Nat → Prop) (H : Heap), (∀ q ∈ U ++ iv, va_at D.1 aCl q H ∧ ¬ K q.1) → ruK K D rd g nb nch ncr H := by
  obtain ⟨r2, r3, r4, r6, al, mi, s4, s6, rfl, h4, h6, hal, hmi⟩ := hr
  obtain ⟨i0, i1, i2, i3, i4⟩ := hi
  -- the brackets
  have hb : ∃ eb cb fb, ∀ (K : Nat → Prop) (H : Heap), (∀ q ∈ iv, va_at D.1 aCl q H ∧ ¬ K q.1) → lsK K D cb rb eb nb fb H ∧ (∀ k, k < nb → obK K D 4 [.int (g (1 + 2 * k)), .int (g (1 + 2 * k + 1))] (fb k) H) ∧ nb ≤ 6 := by
    rcases i4 with ⟨rfl, x, b1, b2⟩ | ⟨b0, mc, e, f, fb, b1, b2, b3⟩
    · exact ⟨0, 18, fun _ => x, fun K H hq => ⟨Or.inr ⟨rfl, rfl, hq _ b1⟩, fun k hk => (show k = 0 by omega) ▸ hq _ b2, by omega⟩⟩
    · exact ⟨e, 12, fb, fun K H hq => ⟨Or.inl ⟨rfl, ⟨mc, hq _ b1⟩, 10, f, hq _ b2, by omega, by decide, fun i hi => (b3 i hi).1⟩, fun k hk => hq _ (b3 k hk).2, b0⟩⟩
  obtain ⟨eb, cb, fb, hb⟩ := hb
  -- the charges
  have hc : ∃ e4, ∀ (K : Nat → Prop) (H : Heap), (∀ q ∈ s4 ++ iv, va_at D.1 aCl q H ∧ ¬ K q.1) → alsK K D r4 e4 nch f4 H ∧ nch ≤ 4 := by
    obtain ⟨m, ⟨rfl, rfl⟩ | ⟨c1, c2, e, f, rfl, c3⟩⟩ := h4
    · exact ⟨D.2.2.1 1, fun K H hq => ⟨⟨⟨m, hq _ (List.mem_append_left _ List.mem_cons_self)⟩, 0, fun _ => none, hq _ (List.mem_append_right _ i0), Nat.le_refl _, by decide, fun i hi => absurd hi (Nat.not_lt_zero _)⟩, by omega⟩⟩
    · exact ⟨e, fun K H hq => ⟨⟨⟨m, hq _ (List.mem_append_left _ List.mem_cons_self)⟩, 10, f, hq _ (List.mem_append_left _ (List.mem_cons_of_mem _ List.mem_cons_self)), by omega, by decide, c3⟩, c2⟩⟩
  obtain ⟨e4, hc⟩ := hc
  -- the credits
  have hl : ∃ nd : Nat → Nat, ∀ (K : Nat → Prop) (H : Heap), (∀ q ∈ s6, va_at D.1 aCl q H ∧ ¬ K q.1) → llsK K D r6 ncr nd f6 H ∧ ncr ≤ 2 := by
    obtain ⟨m, ⟨rfl, rfl⟩ | ⟨rfl, b, rfl⟩ | ⟨rfl, b, c, rfl⟩⟩ := h6
    · exact ⟨fun _ => 0, fun K H hq => ⟨⟨⟨m, hq _ List.mem_cons_self⟩, fun i hi => absurd hi (Nat.not_lt_zero _)⟩, by omega⟩⟩
    · exact ⟨fun _ => b, fun K H hq => ⟨⟨⟨m, hq _ List.mem_cons_self⟩, fun i hi => (show i = 0 by omega) ▸ hq _ (List.mem_cons_of_mem _ List.mem_cons_self)⟩, by omega⟩⟩
    · refine ⟨fun i => if i = 0 then b else c, fun K H hq => ⟨⟨⟨m, hq _ List.mem_cons_self⟩, fun i hi => ?_⟩, by omega⟩⟩
      rcases (show i = 0 ∨ i = 1 by omega) with rfl | rfl
      · exact hq _ (List.mem_cons_of_mem _ List.mem_cons_self)
      · exact hq _ (List.mem_cons_of_mem _ (List.mem_cons_of_mem _ List.mem_cons_self))
  obtain ⟨nd, hl⟩ := hl
  refine ⟨rdF R rb r2 r3 r4 e4 r6 eb cb fb f4 f6 nd, rfl, fun K H hq => ?_⟩
  obtain ⟨hb1, hb2, hb3⟩ := hb K H (fun q h => hq q (List.mem_append_right _ h))
  obtain ⟨hc1, hc2⟩ := hc K H (fun q h => hq q (by rcases List.mem_append.mp h with h | h <;> simp [h]))
  obtain ⟨hl1, hl2⟩ := hl K H (fun q h => hq q (by simp [h]))
  have hq3 := fun (i : Nat) (c : Nat × va_E) (h : (oC R 3 [.ref rb, .ref r2, .ref r3, .ref r4, .ref r6] :: aC D 0 r2 (iA 3 al) :: aC D 0 r3 (iA 2 mi) :: (s4 ++ s6))[i]? = some c) => hq c (List.mem_append_left _ (List.mem_of_getElem? h))
  refine ⟨hq3 0 _ rfl, ?_, fun k hk => ?_, ⟨al, hq3 1 _ rfl, hal⟩, ⟨mi, hq3 2 _ rfl, hmi⟩, ?_, fun k hk => ?_, ?_, fun k hk => ?_⟩
  · show lsK K D cb rb eb nb _ H
    rcases hb1 with ⟨e1, m1, cap, f1, e2, e3, e4', e5⟩ | ⟨e1, e2, e3⟩
    · exact Or.inl ⟨e1, m1, cap, f1, e2, e3, e4', fun i hi => (e5 i hi).trans (congrArg some (rdF_b (k := i) (by omega)).symm)⟩
    · exact Or.inr ⟨e1, e2, e3⟩
  · show obK K D 4 _ (rdF _ _ _ _ _ _ _ _ _ _ _ _ _ (100 + k)) H
    rw [rdF_b (by omega)]; exact hb2 k hk
  · show alsK K D r4 e4 nch _ H
    obtain ⟨m1, cap, f1, e2, e3, e4', e5⟩ := hc1
    exact ⟨m1, cap, f1, e2, e3, e4', fun i hi => (e5 i hi).trans (congrArg some (rdF_c (k := i) (by omega)).symm)⟩
  · show obK K D 10 _ (rdF _ _ _ _ _ _ _ _ _ _ _ _ _ (200 + k)) H
    rw [rdF_c (by omega)]; exact hq _ (List.mem_append_right _ (i2 k hk))
  · show llsK K D r6 ncr _ _ H
    have h1 : ∀ i, i < ncr → rdF R rb r2 r3 r4 e4 r6 eb cb fb f4 f6 nd (400 + i) = nd i := fun i _ => rdF_n
    have h2 : ∀ i, i < ncr → rdF R rb r2 r3 r4 e4 r6 eb cb fb f4 f6 nd (300 + i) = f6 i := fun i hi => rdF_r (by omega)
    obtain ⟨⟨m, e1⟩, e2⟩ := hl1
    refine ⟨⟨m, ?_⟩, fun i hi => ?_⟩
    · have : lkF (fun k => rdF R rb r2 r3 r4 e4 r6 eb cb fb f4 f6 nd (400 + k)) ncr = lkF nd ncr ∧ lkL (fun k => rdF R rb r2 r3 r4 e4 r6 eb cb fb f4 f6 nd (400 + k)) ncr = lkL nd ncr := by
        constructor <;> (first | unfold lkF | unfold lkL) <;> simp only [rdF_n]
      rw [this.1, this.2]; exact e1
    · have h3 : nxV (fun k => rdF R rb r2 r3 r4 e4 r6 eb cb fb f4 f6 nd (400 + k)) ncr i = nxV nd ncr i := by unfold nxV; simp only [rdF_n]
      have h4 : pvV (fun k => rdF R rb r2 r3 r4 e4 r6 eb cb fb f4 f6 nd (400 + k)) i = pvV nd i := by unfold pvV; simp only [rdF_n]
      show obK K D 14 [.ref (rdF _ _ _ _ _ _ _ _ _ _ _ _ _ (300 + i)), _, _] (rdF _ _ _ _ _ _ _ _ _ _ _ _ _ (400 + i)) H
      rw [h1 i hi, h2 i hi, h3, h4]; exact e2 i hi
  · show obK K D 11 _ (rdF _ _ _ _ _ _ _ _ _ _ _ _ _ (300 + k)) H
    rw [rdF_r (by omega)]; exact hq _ (List.mem_append_right _ (i3 k hk))
theorem wo_of {D : DD} {a : Nat} {g : Nat → Int32} {h : Nat → Int64} {nb nch ncr : Nat} {W iv : va_W} (hw : wcS D a g h nb nch ncr W iv) :
    ∃ wd rd, wd 0 = a ∧ ∀ (K : Nat → Prop) (H : Heap), (∀ q ∈ W ++ iv, va_at D.1 aCl q H ∧ ¬ K q.1) → woK K D wd rd g h nb nch ncr H := by
  obtain ⟨pf, rb, f4, f6, R, U, hr, ⟨w1, w2, w3, w4, mc, pe, pa, ca, v0, v1, v2, v3, v4, v5, h0, h1, h2, h3, h4, h5, rfl, hpe, hpa, ⟨c0, c1, c2, c3, c4, c5⟩, e0, e1, e2, e3, e4, e5⟩, hi⟩ := hw
  obtain ⟨rd, rfl, hru⟩ := ru_of hr hi
  refine ⟨wdF a w1 w2 w3 w4 pf (fun p => [v0, v1, v2, v3, v4, v5].getD p 0), rd, rfl, fun K H hq => ?_⟩
  have hq3 : ∀ (i : Nat) (c : Nat × va_E), (oC a 2 [.ref (rd 0), .ref w1, .ref w2, .ref w3, .int (g 88)] :: aC D 4 w1 (qA 6 pe) :: aC D 0 w2 (iA 6 pa) :: oC w3 12 [.int mc, .ref w4, .int (nI 6)] :: aC D 3 w4 (qA 10 ca) :: aC D 1 v0 (lA 6 h0) :: aC D 1 v1 (lA 6 h1) :: aC D 1 v2 (lA 6 h2) :: aC D 1 v3 (lA 6 h3) :: aC D 1 v4 (lA 6 h4) :: aC D 1 v5 (lA 6 h5) :: U)[i]? = some c → va_at D.1 aCl c H ∧ ¬ K c.1 := fun i c h => hq c (List.mem_append_left _ (List.mem_of_getElem? h))
  refine ⟨hq3 0 _ rfl, ⟨pe, hq3 1 _ rfl, fun j hj => (hpe j hj).trans (congrArg some (wdF_p hj).symm)⟩, fun p hp => ?_, ⟨pa, hq3 2 _ rfl, hpa⟩, ⟨⟨mc, hq3 3 _ rfl⟩, 10, ca, hq3 4 _ rfl, by decide, by decide, fun i hi => ?_⟩, fun p hp => ?_, hru K H (fun q h => hq q ?_)⟩
  · show obK K D 5 _ (wdF a w1 w2 w3 w4 pf _ (10 + p)) H
    rw [wdF_p hp]; exact hq _ (List.mem_append_right _ (hi.2.1 p hp))
  · show ca i = some (wdF a w1 w2 w3 w4 pf _ (20 + i))
    rw [wdF_v]
    rcases (show i = 0 ∨ i = 1 ∨ i = 2 ∨ i = 3 ∨ i = 4 ∨ i = 5 by omega) with rfl | rfl | rfl | rfl | rfl | rfl <;> assumption
  · show alK K D 6 _ (wdF a w1 w2 w3 w4 pf _ (20 + p)) H
    rw [wdF_v]
    rcases (show p = 0 ∨ p = 1 ∨ p = 2 ∨ p = 3 ∨ p = 4 ∨ p = 5 by omega) with rfl | rfl | rfl | rfl | rfl | rfl
    · exact ⟨h0, hq3 5 _ rfl, e0⟩
    · exact ⟨h1, hq3 6 _ rfl, e1⟩
    · exact ⟨h2, hq3 7 _ rfl, e2⟩
    · exact ⟨h3, hq3 8 _ rfl, e3⟩
    · exact ⟨h4, hq3 9 _ rfl, e4⟩
    · exact ⟨h5, hq3 10 _ rfl, e5⟩
  · rcases List.mem_append.mp h with h | h
    · simp [h]
    · simp [h]
