/-! rules behind one item of a text: the shared cells -/
section IVX
variable {D : DD} {g g' : Nat → Int32} {pf : Nat → Nat} {rb rb' nb nb' nch ncr : Nat} {f4 f6 : Nat → Nat} {iv N : va_W}
theorem ivS.cg2 (h : ivS D g pf rb nb nch f4 ncr f6 iv) (e1 : ∀ j, j < 13 → g' j = g j) (e2 : ∀ j, 18 ≤ j → g' j = g j) : ivS D g' pf rb nb nch f4 ncr f6 iv :=
  ⟨h.1, fun p hp => by rw [e2 _ (by omega), e2 _ (by omega), e2 _ (by omega)]; exact h.2.1 p hp, fun k hk => by rw [e2 _ (by omega), e2 _ (by omega)]; exact h.2.2.1 k hk, fun k hk => by rw [e2 _ (by omega), e2 _ (by omega), e2 _ (by omega), e2 _ (by omega), e2 _ (by omega), e2 _ (by omega)]; exact h.2.2.2.1 k hk, h.2.2.2.2.cg e1 (fun c h => h)⟩
theorem ivS.br (h : ivS D g pf rb nb nch f4 ncr f6 iv) (e2 : ∀ j, 13 ≤ j → g' j = g j) (hb : brS D g' rb' nb' (N ++ iv)) : ivS D g' pf rb' nb' nch f4 ncr f6 (N ++ iv) :=
  ⟨List.mem_append_right _ h.1, fun p hp => by rw [e2 _ (by omega), e2 _ (by omega), e2 _ (by omega)]; exact List.mem_append_right _ (h.2.1 p hp), fun k hk => by rw [e2 _ (by omega), e2 _ (by omega)]; exact List.mem_append_right _ (h.2.2.1 k hk), fun k hk => by rw [e2 _ (by omega), e2 _ (by omega), e2 _ (by omega), e2 _ (by omega), e2 _ (by omega), e2 _ (by omega)]; exact List.mem_append_right _ (h.2.2.2.1 k hk), hb⟩
theorem ivS.ch {c : Nat} (h : ivS D g pf rb nb nch f4 ncr f6 iv) (hc : nch < 4) (e1 : ∀ j, j < 18 → g' j = g j) (e2 : ∀ j, 18 < j → j < 19 + 2 * nch → g' j = g j) (e3 : ∀ j, 27 ≤ j → g' j = g j) : ivS D g' pf rb nb (nch + 1) (va_up f4 nch c) ncr f6 ([oC c 10 [.int (g' (19 + 2 * nch)), .int (g' (19 + 2 * nch + 1))]] ++ iv) :=
  ⟨List.mem_append_right _ h.1, fun p hp => by rw [e3 (64 + 3 * p + 0) (by omega), e3 (64 + 3 * p + 1) (by omega), e3 (64 + 3 * p + 2) (by omega)]; exact List.mem_append_right _ (h.2.1 p hp), fun k hk => by
    by_cases e : k = nch
    · subst e; simp only [va_up, if_true]; exact List.mem_append_left _ List.mem_cons_self
    · simp only [va_up, if_neg e]; rw [e2 (19 + 2 * k) (by omega) (by omega), e2 (19 + 2 * k + 1) (by omega) (by omega)]; exact List.mem_append_right _ (h.2.2.1 k (by omega)), fun k hk => by rw [e3 (28 + 6 * k + 0) (by omega), e3 (28 + 6 * k + 1) (by omega), e3 (28 + 6 * k + 2) (by omega), e3 (28 + 6 * k + 3) (by omega), e3 (28 + 6 * k + 4) (by omega), e3 (28 + 6 * k + 5) (by omega)]; exact List.mem_append_right _ (h.2.2.2.1 k hk), h.2.2.2.2.cg (fun j hj => e1 j (by omega)) (fun c h => List.mem_append_right _ h)⟩
theorem ivS.cr {c : Nat} (h : ivS D g pf rb nb nch f4 ncr f6 iv) (hc : ncr < 6) (hch : nch ≤ 4) (e1 : ∀ j, j < 27 → g' j = g j) (e2 : ∀ j, 28 ≤ j → j < 28 + 6 * ncr → g' j = g j) (e3 : ∀ j, 64 ≤ j → g' j = g j) : ivS D g' pf rb nb nch f4 (ncr + 1) (va_up f6 ncr c) ([oC c 11 [.int (g' (28 + 6 * ncr + 0)), .int (g' (28 + 6 * ncr + 1)), .int (g' (28 + 6 * ncr + 2)), .int (g' (28 + 6 * ncr + 3)), .int (g' (28 + 6 * ncr + 4)), .int (g' (28 + 6 * ncr + 5))]] ++ iv) :=
  ⟨List.mem_append_right _ h.1, fun p hp => by rw [e3 (64 + 3 * p + 0) (by omega), e3 (64 + 3 * p + 1) (by omega), e3 (64 + 3 * p + 2) (by omega)]; exact List.mem_append_right _ (h.2.1 p hp), fun k hk => by rw [e1 (19 + 2 * k) (by omega), e1 (19 + 2 * k + 1) (by omega)]; exact List.mem_append_right _ (h.2.2.1 k hk), fun k hk => by
    by_cases e : k = ncr
    · subst e; simp only [va_up, if_true]; exact List.mem_append_left _ List.mem_cons_self
    · simp only [va_up, if_neg e]; rw [e2 (28 + 6 * k + 0) (by omega) (by omega), e2 (28 + 6 * k + 1) (by omega) (by omega), e2 (28 + 6 * k + 2) (by omega) (by omega), e2 (28 + 6 * k + 3) (by omega) (by omega), e2 (28 + 6 * k + 4) (by omega) (by omega), e2 (28 + 6 * k + 5) (by omega) (by omega)]; exact List.mem_append_right _ (h.2.2.2.1 k (by omega)), h.2.2.2.2.cg (fun j hj => e1 j (by omega)) (fun c h => List.mem_append_right _ h)⟩
/-- the charges' list behind one more -/
theorem chS.e {a b c : Nat} {m : Int32} {f : Nat → Nat} : chS D a (0 + 1) (va_up f 0 c) [oC a 12 [.int m, .ref b, .int (nI 1)], aC D 3 b (qA 10 (va_up (fun _ => none) 0 (some c)))] :=
  ⟨m, Or.inr ⟨by decide, by decide, b, _, rfl, fun i hi => by
    obtain rfl : i = 0 := by omega
    rfl⟩⟩
theorem chS.n {a e n c : Nat} {m : Int32} {f : Nat → Nat} {g4 : Nat → Option Nat} (hn : n < 4) (hg : ∀ i, i < n → g4 i = some (f i)) : chS D a (n + 1) (va_up f n c) [oC a 12 [.int m, .ref e, .int (nI (n + 1))], aC D 3 e (qA 10 (va_up g4 n (some c)))] :=
  ⟨m, Or.inr ⟨by omega, by omega, e, _, rfl, fun i hi => by
    by_cases h : i = n
    · subst h; simp [va_up]
    · simp only [va_up, if_neg h]; exact hg i (by omega)⟩⟩
theorem brS.bk {t : Nat → Int32} {ln sp n l e : Nat} {m : Int32} {f : Nat → Option Nat} {bt : Nat → Nat} {bv : va_W} (hn : n ≤ 5) (hb : bkS t ln sp (n + 1) f bt bv) (hg : ∀ i, i < n + 1 → g' (1 + 2 * i) = nI (bTh t ln sp i) ∧ g' (1 + 2 * i + 1) = nI (bRt t ln sp i)) : brS D g' l (n + 1) ((oC l 12 [.int m, .ref e, .int (nI (n + 1))] :: aC D 3 e (qA 10 f) :: bv) ++ iv) :=
  Or.inr ⟨by omega, m, e, f, bt, by simp, by simp, fun k hk => ⟨(hb k hk).1, by rw [(hg k hk).1, (hg k hk).2]; exact List.mem_append_left _ (List.mem_cons_of_mem _ (List.mem_cons_of_mem _ (hb k hk).2))⟩⟩
end IVX
