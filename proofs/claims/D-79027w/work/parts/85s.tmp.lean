set_option maxRecDepth 100000
/-! the curve -/
def crvV (g : Nat → Int32) (h : Nat → Int64) (p : Nat) (e : Int32) : Int64 := aloV g h p e (g (64 + 3 * p + 2))
def crvN (g : Nat → Int32) (h : Nat → Int64) (p e : Nat) : Int64 := crvV g h p (nI e)
def marV (g : Nat → Int32) (h : Nat → Int64) (p e : Nat) : Int64 := crvN g h p (e + 1) - crvN g h p e
def kinB (g : Nat → Int32) (h : Nat → Int64) (p e : Nat) : Bool := decide (¬ marV g h p (e - 1) = marV g h p e)
theorem in_1_98 {e : Nat} (h1 : 1 ≤ e) (h2 : e ≤ 9998) : inB (nI e) 1 9998 = true := by
  simp only [inB, Bool.and_eq_true, decide_eq_true_eq]
  exact ⟨fun q => nI_nlt h1 (by omega) q, fun q => nI_nlt h2 (by omega) q⟩
theorem in_nat1 {x : Int32} (h : inB x 1 9998 = true) : ∃ j, 1 ≤ j ∧ j ≤ 9998 ∧ x = nI j := by
  simp only [inB, Bool.and_eq_true, decide_eq_true_eq] at h
  obtain ⟨j, hj, e⟩ := nI_of2 (x := x) (M := 9998) (n := 9998) (by decide) (fun q => h.1 (Int32.lt_trans q (by decide))) (Int32.not_lt.mp h.2)
  refine ⟨j, ?_, hj, e⟩
  rcases Nat.eq_zero_or_pos j with h0 | h0
  · subst h0; subst e; exact absurd (by decide) h.1
  · exact h0
/-- how many kinks there are up to place i -/
def knkC (c : Nat → Int64) : Nat → Int32
  | 0 => 0
  | i + 1 => knkC c i + (if c (i + 2) - c (i + 1) = c (i + 1) - c i then 0 else 1)
/-- the first place from e on, of n places -/
def fstN (b : Nat → Bool) : Nat → Nat → Option Nat
  | 0, _ => none
  | n + 1, e => if b e = true then some e else fstN b n (e + 1)
def stpS (c : Nat → Int64) : Nat → Int64 × Nat
  | 0 => (c 1 - c 0, 0)
  | i + 1 => if (stpS c i).1 < c (i + 2) - c (i + 1) then (c (i + 2) - c (i + 1), i + 1) else stpS c i
def prtV (g : Nat → Int32) (h : Nat → Int64) (p : Nat) (e : Int32) (pt : Nat) : Int64 := if pt < 4 then txPn g (e + g (64 + 3 * p + 1)) 1 (pt + 2) else lefV g (fun k => h (6 * p + k)) e (e + g (64 + 3 * p + 1)) (g (64 + 3 * p + 2)) 1 (pt - 4 + 1)
def prtN (g : Nat → Int32) (h : Nat → Int64) (p e pt : Nat) : Int64 := prtV g h p (nI e) pt
theorem prtV_last (g : Nat → Int32) (h : Nat → Int64) (p : Nat) (e : Int32) : prtV g h p e (3 + ncrG g) = crvV g h p e := by
  unfold prtV crvV aloV txV lefV
  by_cases h0 : ncrG g = 0
  · rw [h0, if_pos (by omega)]; rfl
  · rw [if_neg (by omega), show 3 + ncrG g - 4 + 1 = ncrG g by omega]
theorem caseL.rest {g : Nat → Int32} {br : Nat → Int64} {e x d f : Int32} {L : TL} (h : caseL g br e x d f L) {k : Nat} (hk : k < ncrG g) : L 7 k = lefV g br e x d f (k + 1) := (h.2.2.2.2.2.2 k hk).2.2.2
/-- a part bends at e -/
def bndB (g : Nat → Int32) (h : Nat → Int64) (p e pt : Nat) : Bool := decide (¬ prtN g h p e pt - prtN g h p (e - 1) pt = prtN g h p (e + 1) pt - prtN g h p e pt)
def cauN (b : Nat → Bool) : Nat → Nat → Nat
  | 0, pt => pt
  | n + 1, pt => if b pt = true then pt else cauN b n (pt + 1)
theorem fstN_some {b : Nat → Bool} {n e x : Nat} (h : fstN b n e = some x) : e ≤ x ∧ x < e + n := by
  induction n generalizing e with
  | zero => cases h
  | succ n ih =>
    rw [fstN] at h
    split at h
    · cases h; omega
    · have := ih h; omega
/-- where nextKink begins -/
def nkS (e : Int32) : Nat := if e < 1 then 1 else if e < 9998 then e.toNatClampNeg + 1 else 9999
theorem nkS_1 {e : Int32} (h : ¬ 1 ≤ e) : nkS e = 1 := by unfold nkS; rw [if_pos (Int32.not_le.mp h)]
theorem nkS_2 {e : Int32} (h : 1 ≤ e) (h2 : ¬ 9998 ≤ e) : e + 1 = nI (nkS e) ∧ nkS e ≤ 9998 := by
  obtain ⟨j, hj, hj2⟩ := nI_of2 (x := e) (M := 9998) (n := 9998) (by decide) (fun q => absurd (Int32.lt_of_lt_of_le q (by decide : (0 : Int32) ≤ 1)) (Int32.not_lt.mpr h)) (Int32.le_of_lt (Int32.not_le.mp h2))
  subst hj2
  have h3 : nI j < 9998 := Int32.not_le.mp h2
  have h4 : j < 9998 := (nI_ltI (b := 9998) (by omega) (by decide)).mp h3
  unfold nkS
  rw [if_neg (Int32.not_lt.mpr h), if_pos h3, nI_clamp (by omega), nI_1]
  exact ⟨rfl, by omega⟩
theorem nkS_3 {e : Int32} (h : 9998 ≤ e) : nkS e = 9999 := by
  unfold nkS
  rw [if_neg (fun q => absurd (Int32.lt_of_le_of_lt (Int32.le_trans (by decide : (1 : Int32) ≤ 9998) h) q) (by intro z; exact Int32.lt_irrefl z)), if_neg (Int32.not_lt.mpr h)]
