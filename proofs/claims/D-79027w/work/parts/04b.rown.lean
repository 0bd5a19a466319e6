section ROWN
variable {s : State} {own : String} {args : Array Value} {cc : ByteArray} {nL : Nat} {P : Nat → List Value → List (Nat × Value) → Prop} {pc : Nat} {st : List Value} {lv : List (Nat × Value)}
theorem Pu.lvs (h : Pu s own args cc nL P) (ks : List Nat) {lv' : List (Nat × Value)} (hl' : lv_pick lv ks = lv') (k : P pc st lv') : P pc st lv := h.goS (fun hx hb hl w => w _ (lv_sub hl ks hl')) k
theorem r_iaddN (a b c q : Nat) (h : Pu s own args cc nL P) (d : decode cc pc = .ok (.iadd, 1)) (hc : a + b = c) (e : pc + 1 = q) (k : P q (.int (nI c) :: st) lv) : P pc (.int (nI b) :: .int (nI a) :: st) lv := by subst hc; refine r_iadd q h d e ?_; rw [nI_add a b]; exact k
theorem r_imulN (a b c q : Nat) (h : Pu s own args cc nL P) (d : decode cc pc = .ok (.imul, 1)) (hc : a * b = c) (e : pc + 1 = q) (k : P q (.int (nI c) :: st) lv) : P pc (.int (nI b) :: .int (nI a) :: st) lv := by subst hc; refine r_imul q h d e ?_; rw [pk_mul a b]; exact k
theorem r_isubN (a b c q : Nat) (h : Pu s own args cc nL P) (d : decode cc pc = .ok (.isub, 1)) (hab : b ≤ a) (hc : a - b = c) (e : pc + 1 = q) (k : P q (.int (nI c) :: st) lv) : P pc (.int (nI b) :: .int (nI a) :: st) lv := by subst hc; refine r_isub q h d e ?_; rw [pk_sub hab]; exact k
theorem r_icmp_eqN (a b q tgt : Nat) {off : Int} (h : Pu s own args cc nL P) (d : decode cc pc = .ok (.if_icmp .eq off, 3)) (ha : a < 2 ^ 31) (hb : b < 2 ^ 31) (ht : (pc : Int) + off = (tgt : Int)) (kt : a = b → P tgt st lv) (e : pc + 3 = q) (kf : a ≠ b → P q st lv) : P pc (.int (nI b) :: .int (nI a) :: st) lv := by
  refine r_icmp_eq q tgt h d ht (fun c => kt ?_) e (fun c => kf ?_)
  · first | simpa only [nI_eq ha hb, nI_ltI ha hb, nI_leI ha hb, nI_ltI hb ha, nI_leI hb ha, ne_eq] using c | (simp only [nI_eq ha hb, nI_ltI ha hb, nI_leI ha hb, nI_ltI hb ha, nI_leI hb ha] at c; omega)
  · first | (simp only [nI_eq ha hb, nI_ltI ha hb, nI_leI ha hb, nI_ltI hb ha, nI_leI hb ha] at c; omega)
theorem r_icmp_neN (a b q tgt : Nat) {off : Int} (h : Pu s own args cc nL P) (d : decode cc pc = .ok (.if_icmp .ne off, 3)) (ha : a < 2 ^ 31) (hb : b < 2 ^ 31) (ht : (pc : Int) + off = (tgt : Int)) (kt : a ≠ b → P tgt st lv) (e : pc + 3 = q) (kf : a = b → P q st lv) : P pc (.int (nI b) :: .int (nI a) :: st) lv := by
  refine r_icmp_ne q tgt h d ht (fun c => kt ?_) e (fun c => kf ?_)
  · first | simpa only [nI_eq ha hb, nI_ltI ha hb, nI_leI ha hb, nI_ltI hb ha, nI_leI hb ha, ne_eq] using c | (simp only [nI_eq ha hb, nI_ltI ha hb, nI_leI ha hb, nI_ltI hb ha, nI_leI hb ha] at c; omega)
  · first | (simp only [nI_eq ha hb, nI_ltI ha hb, nI_leI ha hb, nI_ltI hb ha, nI_leI hb ha] at c; omega)
theorem r_icmp_ltN (a b q tgt : Nat) {off : Int} (h : Pu s own args cc nL P) (d : decode cc pc = .ok (.if_icmp .lt off, 3)) (ha : a < 2 ^ 31) (hb : b < 2 ^ 31) (ht : (pc : Int) + off = (tgt : Int)) (kt : a < b → P tgt st lv) (e : pc + 3 = q) (kf : b ≤ a → P q st lv) : P pc (.int (nI b) :: .int (nI a) :: st) lv := by
  refine r_icmp_lt q tgt h d ht (fun c => kt ?_) e (fun c => kf ?_)
  · first | simpa only [nI_eq ha hb, nI_ltI ha hb, nI_leI ha hb, nI_ltI hb ha, nI_leI hb ha, ne_eq] using c | (simp only [nI_eq ha hb, nI_ltI ha hb, nI_leI ha hb, nI_ltI hb ha, nI_leI hb ha] at c; omega)
  · first | (simp only [nI_eq ha hb, nI_ltI ha hb, nI_leI ha hb, nI_ltI hb ha, nI_leI hb ha] at c; omega)
theorem r_icmp_geN (a b q tgt : Nat) {off : Int} (h : Pu s own args cc nL P) (d : decode cc pc = .ok (.if_icmp .ge off, 3)) (ha : a < 2 ^ 31) (hb : b < 2 ^ 31) (ht : (pc : Int) + off = (tgt : Int)) (kt : b ≤ a → P tgt st lv) (e : pc + 3 = q) (kf : a < b → P q st lv) : P pc (.int (nI b) :: .int (nI a) :: st) lv := by
  refine r_icmp_ge q tgt h d ht (fun c => kt ?_) e (fun c => kf ?_)
  · first | simpa only [nI_eq ha hb, nI_ltI ha hb, nI_leI ha hb, nI_ltI hb ha, nI_leI hb ha, ne_eq] using c | (simp only [nI_eq ha hb, nI_ltI ha hb, nI_leI ha hb, nI_ltI hb ha, nI_leI hb ha] at c; omega)
  · first | (simp only [nI_eq ha hb, nI_ltI ha hb, nI_leI ha hb, nI_ltI hb ha, nI_leI hb ha] at c; omega)
theorem r_icmp_gtN (a b q tgt : Nat) {off : Int} (h : Pu s own args cc nL P) (d : decode cc pc = .ok (.if_icmp .gt off, 3)) (ha : a < 2 ^ 31) (hb : b < 2 ^ 31) (ht : (pc : Int) + off = (tgt : Int)) (kt : b < a → P tgt st lv) (e : pc + 3 = q) (kf : a ≤ b → P q st lv) : P pc (.int (nI b) :: .int (nI a) :: st) lv := by
  refine r_icmp_gt q tgt h d ht (fun c => kt ?_) e (fun c => kf ?_)
  · first | simpa only [nI_eq ha hb, nI_ltI ha hb, nI_leI ha hb, nI_ltI hb ha, nI_leI hb ha, ne_eq] using c | (simp only [nI_eq ha hb, nI_ltI ha hb, nI_leI ha hb, nI_ltI hb ha, nI_leI hb ha] at c; omega)
  · first | (simp only [nI_eq ha hb, nI_ltI ha hb, nI_leI ha hb, nI_ltI hb ha, nI_leI hb ha] at c; omega)
theorem r_icmp_leN (a b q tgt : Nat) {off : Int} (h : Pu s own args cc nL P) (d : decode cc pc = .ok (.if_icmp .le off, 3)) (ha : a < 2 ^ 31) (hb : b < 2 ^ 31) (ht : (pc : Int) + off = (tgt : Int)) (kt : a ≤ b → P tgt st lv) (e : pc + 3 = q) (kf : b < a → P q st lv) : P pc (.int (nI b) :: .int (nI a) :: st) lv := by
  refine r_icmp_le q tgt h d ht (fun c => kt ?_) e (fun c => kf ?_)
  · first | simpa only [nI_eq ha hb, nI_ltI ha hb, nI_leI ha hb, nI_ltI hb ha, nI_leI hb ha, ne_eq] using c | (simp only [nI_eq ha hb, nI_ltI ha hb, nI_leI ha hb, nI_ltI hb ha, nI_leI hb ha] at c; omega)
  · first | (simp only [nI_eq ha hb, nI_ltI ha hb, nI_leI ha hb, nI_ltI hb ha, nI_leI hb ha] at c; omega)
theorem r_if_eqN (a q tgt : Nat) {off : Int} (h : Pu s own args cc nL P) (d : decode cc pc = .ok (.ifCond .eq off, 3)) (ha : a < 2 ^ 31) (ht : (pc : Int) + off = (tgt : Int)) (kt : a = 0 → P tgt st lv) (e : pc + 3 = q) (kf : a ≠ 0 → P q st lv) : P pc (.int (nI a) :: st) lv := by
  have h0 : (0 : Nat) < 2 ^ 31 := by decide
  refine r_if_eq q tgt h d ht (fun c => kt ?_) e (fun c => kf ?_)
  · have c := c
    rw [← nI_0] at c
    simp only [nI_eq ha h0, nI_ltI ha h0, nI_leI ha h0, nI_ltI h0 ha, nI_leI h0 ha] at c; omega
  · have c := c
    rw [← nI_0] at c
    simp only [nI_eq ha h0, nI_ltI ha h0, nI_leI ha h0, nI_ltI h0 ha, nI_leI h0 ha] at c; omega
theorem r_if_neN (a q tgt : Nat) {off : Int} (h : Pu s own args cc nL P) (d : decode cc pc = .ok (.ifCond .ne off, 3)) (ha : a < 2 ^ 31) (ht : (pc : Int) + off = (tgt : Int)) (kt : a ≠ 0 → P tgt st lv) (e : pc + 3 = q) (kf : a = 0 → P q st lv) : P pc (.int (nI a) :: st) lv := by
  have h0 : (0 : Nat) < 2 ^ 31 := by decide
  refine r_if_ne q tgt h d ht (fun c => kt ?_) e (fun c => kf ?_)
  · have c := c
    rw [← nI_0] at c
    simp only [nI_eq ha h0, nI_ltI ha h0, nI_leI ha h0, nI_ltI h0 ha, nI_leI h0 ha] at c; omega
  · have c := c
    rw [← nI_0] at c
    simp only [nI_eq ha h0, nI_ltI ha h0, nI_leI ha h0, nI_ltI h0 ha, nI_leI h0 ha] at c; omega
theorem r_if_gtN (a q tgt : Nat) {off : Int} (h : Pu s own args cc nL P) (d : decode cc pc = .ok (.ifCond .gt off, 3)) (ha : a < 2 ^ 31) (ht : (pc : Int) + off = (tgt : Int)) (kt : 0 < a → P tgt st lv) (e : pc + 3 = q) (kf : a = 0 → P q st lv) : P pc (.int (nI a) :: st) lv := by
  have h0 : (0 : Nat) < 2 ^ 31 := by decide
  refine r_if_gt q tgt h d ht (fun c => kt ?_) e (fun c => kf ?_)
  · have c := c
    rw [← nI_0] at c
    simp only [nI_eq ha h0, nI_ltI ha h0, nI_leI ha h0, nI_ltI h0 ha, nI_leI h0 ha] at c; omega
  · have c := c
    rw [← nI_0] at c
    simp only [nI_eq ha h0, nI_ltI ha h0, nI_leI ha h0, nI_ltI h0 ha, nI_leI h0 ha] at c; omega
theorem r_if_leN (a q tgt : Nat) {off : Int} (h : Pu s own args cc nL P) (d : decode cc pc = .ok (.ifCond .le off, 3)) (ha : a < 2 ^ 31) (ht : (pc : Int) + off = (tgt : Int)) (kt : a = 0 → P tgt st lv) (e : pc + 3 = q) (kf : 0 < a → P q st lv) : P pc (.int (nI a) :: st) lv := by
  have h0 : (0 : Nat) < 2 ^ 31 := by decide
  refine r_if_le q tgt h d ht (fun c => kt ?_) e (fun c => kf ?_)
  · have c := c
    rw [← nI_0] at c
    simp only [nI_eq ha h0, nI_ltI ha h0, nI_leI ha h0, nI_ltI h0 ha, nI_leI h0 ha] at c; omega
  · have c := c
    rw [← nI_0] at c
    simp only [nI_eq ha h0, nI_ltI ha h0, nI_leI ha h0, nI_ltI h0 ha, nI_leI h0 ha] at c; omega
theorem r_if_ltN (a q tgt : Nat) {off : Int} (h : Pu s own args cc nL P) (d : decode cc pc = .ok (.ifCond .lt off, 3)) (ha : a < 2 ^ 31) (ht : (pc : Int) + off = (tgt : Int)) (e : pc + 3 = q) (kf : P q st lv) : P pc (.int (nI a) :: st) lv := r_if_lt q tgt h d ht (fun c => absurd c (nI_pos ha)) e (fun _ => kf)
theorem r_if_geN (a q tgt : Nat) {off : Int} (h : Pu s own args cc nL P) (d : decode cc pc = .ok (.ifCond .ge off, 3)) (ha : a < 2 ^ 31) (ht : (pc : Int) + off = (tgt : Int)) (kt : P tgt st lv) : P pc (.int (nI a) :: st) lv := r_if_ge (pc + 3) tgt h d ht (fun _ => kt) rfl (fun c => absurd (nI_pos' ha) c)
def zB (b : Bool) : Int32 := match b with | true => 1 | false => 0
theorem zB_narrow (b : Bool) : narrow .boolean (.int (zB b)) = .int (zB b) := by cases b <;> rfl
theorem zB_fits (b : Bool) : fits .boolean (.int (zB b)) = true := by cases b <;> rfl
theorem zB_0 {b : Bool} : zB b = 0 ↔ b = false := by cases b <;> simp [zB]
theorem r_if_eqZ (b : Bool) (q tgt : Nat) {off : Int} (h : Pu s own args cc nL P) (d : decode cc pc = .ok (.ifCond .eq off, 3)) (ht : (pc : Int) + off = (tgt : Int)) (kt : b = false → P tgt st lv) (e : pc + 3 = q) (kf : b = true → P q st lv) : P pc (.int (zB b) :: st) lv := r_if_eq q tgt h d ht (fun c => kt (zB_0.mp c)) e (fun c => kf (by cases b; exact absurd rfl c; rfl))
theorem r_if_neZ (b : Bool) (q tgt : Nat) {off : Int} (h : Pu s own args cc nL P) (d : decode cc pc = .ok (.ifCond .ne off, 3)) (ht : (pc : Int) + off = (tgt : Int)) (kt : b = true → P tgt st lv) (e : pc + 3 = q) (kf : b = false → P q st lv) : P pc (.int (zB b) :: st) lv := r_if_ne q tgt h d ht (fun c => kt (by cases b; exact absurd rfl c; rfl)) e (fun c => kf (zB_0.mp c))
theorem lg_s (x y : Int64) : (lg_cmp x y = 0 ↔ x = y) ∧ (lg_cmp x y < 0 ↔ x < y) ∧ (0 < lg_cmp x y ↔ y < x) ∧ (lg_cmp x y ≤ 0 ↔ ¬ y < x) ∧ (0 ≤ lg_cmp x y ↔ ¬ x < y) := by
  unfold lg_cmp
  have tr : x < y ∨ x = y ∨ y < x := by
    rcases Int.lt_trichotomy x.toInt y.toInt with h | h | h
    · exact Or.inl (Int64.lt_iff_toInt_lt.mpr h)
    · exact Or.inr (Or.inl (Int64.toInt_inj.mp h))
    · exact Or.inr (Or.inr (Int64.lt_iff_toInt_lt.mpr h))
  rcases tr with h | h | h
  · have h1 : ¬ x = y := fun e => by subst e; exact absurd (Int64.lt_iff_toInt_lt.mp h) (by omega)
    have h2 : ¬ y < x := fun e => absurd (Int64.lt_iff_toInt_lt.mp h) (by have := Int64.lt_iff_toInt_lt.mp e; omega)
    simp [h, h1, h2] <;> decide
  · subst h
    have h2 : ¬ x < x := fun e => absurd (Int64.lt_iff_toInt_lt.mp e) (by omega)
    simp [h2]
  · have h1 : ¬ x = y := fun e => by subst e; exact absurd (Int64.lt_iff_toInt_lt.mp h) (by omega)
    have h2 : ¬ x < y := fun e => absurd (Int64.lt_iff_toInt_lt.mp h) (by have := Int64.lt_iff_toInt_lt.mp e; omega)
    simp [h, h1, h2] <;> decide
theorem r_lc_eq (q tgt : Nat) {x y : Int64} {off : Int} (h : Pu s own args cc nL P) (d : decode cc pc = .ok (.lcmp, 1)) (d2 : decode cc (pc + 1) = .ok (.ifCond .eq off, 3)) (ht : ((pc + 1 : Nat) : Int) + off = (tgt : Int)) (kt : x = y → P tgt st lv) (e : pc + 1 + 3 = q) (kf : ¬ x = y → P q st lv) : P pc (.long y :: .long x :: st) lv := by
  obtain ⟨s1, s2, s3, s4, s5⟩ := lg_s x y
  refine r_lcmp (pc + 1) h d rfl (r_if_eq q tgt h d2 ht (fun c => kt ?_) e (fun c => kf ?_)) <;> first | (simpa only [s1, s2, s3, s4, s5] using c) | (simp only [s1, s2, s3, s4, s5] at c; first | exact c | exact Decidable.not_not.mp c)
theorem r_lc_ne (q tgt : Nat) {x y : Int64} {off : Int} (h : Pu s own args cc nL P) (d : decode cc pc = .ok (.lcmp, 1)) (d2 : decode cc (pc + 1) = .ok (.ifCond .ne off, 3)) (ht : ((pc + 1 : Nat) : Int) + off = (tgt : Int)) (kt : ¬ x = y → P tgt st lv) (e : pc + 1 + 3 = q) (kf : x = y → P q st lv) : P pc (.long y :: .long x :: st) lv := by
  obtain ⟨s1, s2, s3, s4, s5⟩ := lg_s x y
  refine r_lcmp (pc + 1) h d rfl (r_if_ne q tgt h d2 ht (fun c => kt ?_) e (fun c => kf ?_)) <;> first | (simpa only [s1, s2, s3, s4, s5] using c) | (simp only [s1, s2, s3, s4, s5] at c; first | exact c | exact Decidable.not_not.mp c)
theorem r_lc_lt (q tgt : Nat) {x y : Int64} {off : Int} (h : Pu s own args cc nL P) (d : decode cc pc = .ok (.lcmp, 1)) (d2 : decode cc (pc + 1) = .ok (.ifCond .lt off, 3)) (ht : ((pc + 1 : Nat) : Int) + off = (tgt : Int)) (kt : x < y → P tgt st lv) (e : pc + 1 + 3 = q) (kf : ¬ x < y → P q st lv) : P pc (.long y :: .long x :: st) lv := by
  obtain ⟨s1, s2, s3, s4, s5⟩ := lg_s x y
  refine r_lcmp (pc + 1) h d rfl (r_if_lt q tgt h d2 ht (fun c => kt ?_) e (fun c => kf ?_)) <;> first | (simpa only [s1, s2, s3, s4, s5] using c) | (simp only [s1, s2, s3, s4, s5] at c; first | exact c | exact Decidable.not_not.mp c)
theorem r_lc_ge (q tgt : Nat) {x y : Int64} {off : Int} (h : Pu s own args cc nL P) (d : decode cc pc = .ok (.lcmp, 1)) (d2 : decode cc (pc + 1) = .ok (.ifCond .ge off, 3)) (ht : ((pc + 1 : Nat) : Int) + off = (tgt : Int)) (kt : ¬ x < y → P tgt st lv) (e : pc + 1 + 3 = q) (kf : x < y → P q st lv) : P pc (.long y :: .long x :: st) lv := by
  obtain ⟨s1, s2, s3, s4, s5⟩ := lg_s x y
  refine r_lcmp (pc + 1) h d rfl (r_if_ge q tgt h d2 ht (fun c => kt ?_) e (fun c => kf ?_)) <;> first | (simpa only [s1, s2, s3, s4, s5] using c) | (simp only [s1, s2, s3, s4, s5] at c; first | exact c | exact Decidable.not_not.mp c)
theorem r_lc_gt (q tgt : Nat) {x y : Int64} {off : Int} (h : Pu s own args cc nL P) (d : decode cc pc = .ok (.lcmp, 1)) (d2 : decode cc (pc + 1) = .ok (.ifCond .gt off, 3)) (ht : ((pc + 1 : Nat) : Int) + off = (tgt : Int)) (kt : y < x → P tgt st lv) (e : pc + 1 + 3 = q) (kf : ¬ y < x → P q st lv) : P pc (.long y :: .long x :: st) lv := by
  obtain ⟨s1, s2, s3, s4, s5⟩ := lg_s x y
  refine r_lcmp (pc + 1) h d rfl (r_if_gt q tgt h d2 ht (fun c => kt ?_) e (fun c => kf ?_)) <;> first | (simpa only [s1, s2, s3, s4, s5] using c) | (simp only [s1, s2, s3, s4, s5] at c; first | exact c | exact Decidable.not_not.mp c)
theorem r_lc_le (q tgt : Nat) {x y : Int64} {off : Int} (h : Pu s own args cc nL P) (d : decode cc pc = .ok (.lcmp, 1)) (d2 : decode cc (pc + 1) = .ok (.ifCond .le off, 3)) (ht : ((pc + 1 : Nat) : Int) + off = (tgt : Int)) (kt : ¬ y < x → P tgt st lv) (e : pc + 1 + 3 = q) (kf : y < x → P q st lv) : P pc (.long y :: .long x :: st) lv := by
  obtain ⟨s1, s2, s3, s4, s5⟩ := lg_s x y
  refine r_lcmp (pc + 1) h d rfl (r_if_le q tgt h d2 ht (fun c => kt ?_) e (fun c => kf ?_)) <;> first | (simpa only [s1, s2, s3, s4, s5] using c) | (simp only [s1, s2, s3, s4, s5] at c; first | exact c | exact Decidable.not_not.mp c)
end ROWN
