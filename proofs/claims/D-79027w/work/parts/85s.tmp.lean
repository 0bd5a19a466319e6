set_option maxRecDepth 100000
/-! the curve -/
def crvV (g : Nat → Int32) (h : Nat → Int64) (p : Nat) (e : Int32) : Int64 := aloV g h p e (g (64 + 3 * p + 2))
def crvN (g : Nat → Int32) (h : Nat → Int64) (p e : Nat) : Int64 := crvV g h p (nI e)
def marV (g : Nat → Int32) (h : Nat → Int64) (p e : Nat) : Int64 := crvN g h p (e + 1) - crvN g h p e
def kinB (g : Nat → Int32) (h : Nat → Int64) (p e : Nat) : Bool := decide (¬ marV g h p (e - 1) = marV g h p e)
theorem in_1_98 {e : Nat} (h1 : 1 ≤ e) (h2 : e ≤ 9998) : inB (nI e) 1 9998 = true := by
  simp only [inB, Bool.and_eq_true, decide_eq_true_eq]
  exact ⟨fun q => nI_nlt h1 (by omega) q, fun q => nI_nlt h2 (by omega) q⟩
theorem in_nat1 {x : Int32} (h : inB x 1 9998 = true) : ∃ j, 1 ≤ j ∧ j ≤ 9998 ∧ x = nI j := by
  simp only [inB, Bool.and_eq_true, decide_eq_true_eq] at h
  obtain ⟨j, hj, e⟩ := nI_of2 (x := x) (M := 9998) (n := 9998) (by decide) (fun q => h.1 (Int32.lt_trans q (by decide))) (Int32.not_lt.mp h.2)
  refine ⟨j, ?_, hj, e⟩
  rcases Nat.eq_zero_or_pos j with h0 | h0
  · subst h0; subst e; exact absurd (by decide) h.1
  · exact h0
/-- how many kinks there are up to place i -/
def knkC (c : Nat → Int64) : Nat → Int32
  | 0 => 0
  | i + 1 => knkC c i + (if c (i + 2) - c (i + 1) = c (i + 1) - c i then 0 else 1)
/-- the first place from e on, of n places -/
def fstN (b : Nat → Bool) : Nat → Nat → Option Nat
  | 0, _ => none
  | n + 1, e => if b e = true then some e else fstN b n (e + 1)
def stpS (c : Nat → Int64) : Nat → Int64 × Nat
  | 0 => (c 1 - c 0, 0)
  | i + 1 => if (stpS c i).1 < c (i + 2) - c (i + 1) then (c (i + 2) - c (i + 1), i + 1) else stpS c i
def prtV (g : Nat → Int32) (h : Nat → Int64) (p : Nat) (e : Int32) (pt : Nat) : Int64 := if pt < 4 then txPn g (e + g (64 + 3 * p + 1)) 1 (pt + 2) else lefV g (fun k => h (6 * p + k)) e (e + g (64 + 3 * p + 1)) (g (64 + 3 * p + 2)) 1 (pt - 4 + 1)
def prtN (g : Nat → Int32) (h : Nat → Int64) (p e pt : Nat) : Int64 := prtV g h p (nI e) pt
theorem prtV_last (g : Nat → Int32) (h : Nat → Int64) (p : Nat) (e : Int32) : prtV g h p e (3 + ncrG g) = crvV g h p e := by
  unfold prtV crvV aloV txV lefV
  by_cases h0 : ncrG g = 0
  · rw [h0, if_pos (by omega)]; rfl
  · rw [if_neg (by omega), show 3 + ncrG g - 4 + 1 = ncrG g by omega]
theorem caseL.rest {g : Nat → Int32} {br : Nat → Int64} {e x d f : Int32} {L : TL} (h : caseL g br e x d f L) {k : Nat} (hk : k < ncrG g) : L 7 k = lefV g br e x d f (k + 1) := (h.2.2.2.2.2.2 k hk).2.2.2
/-- a part bends at e -/
def bndB (g : Nat → Int32) (h : Nat → Int64) (p e pt : Nat) : Bool := decide (¬ prtN g h p e pt - prtN g h p (e - 1) pt = prtN g h p (e + 1) pt - prtN g h p e pt)
def cauN (b : Nat → Bool) : Nat → Nat → Nat
  | 0, pt => pt
  | n + 1, pt => if b pt = true then pt else cauN b n (pt + 1)
theorem fstN_some {b : Nat → Bool} {n e x : Nat} (h : fstN b n e = some x) : e ≤ x ∧ x < e + n := by
  induction n generalizing e with
  | zero => cases h
  | succ n ih =>
    rw [fstN] at h
    split at h
    · cases h; omega
    · have := ih h; omega
/-- where nextKink begins -/
def nkS (e : Int32) : Nat := if e < 1 then 1 else if e < 9998 then e.toNatClampNeg + 1 else 9999
theorem nkS_1 {e : Int32} (h : ¬ 1 ≤ e) : nkS e = 1 := by unfold nkS; rw [if_pos (Int32.not_le.mp h)]
theorem nkS_2 {e : Int32} (h : 1 ≤ e) (h2 : ¬ 9998 ≤ e) : e + 1 = nI (nkS e) ∧ nkS e ≤ 9998 := by
  obtain ⟨j, hj, hj2⟩ := nI_of2 (x := e) (M := 9998) (n := 9998) (by decide) (fun q => absurd (Int32.lt_of_lt_of_le q (by decide : (0 : Int32) ≤ 1)) (Int32.not_lt.mpr h)) (Int32.le_of_lt (Int32.not_le.mp h2))
  subst hj2
  have h3 : nI j < 9998 := Int32.not_le.mp h2
  have h4 : j < 9998 := (nI_ltI (b := 9998) (by omega) (by decide)).mp h3
  unfold nkS
  rw [if_neg (Int32.not_lt.mpr h), if_pos h3, nI_clamp (by omega), nI_1]
  exact ⟨rfl, by omega⟩
theorem nkS_3 {e : Int32} (h : 9998 ≤ e) : nkS e = 9999 := by
  unfold nkS
  rw [if_neg (fun q => absurd (Int32.lt_of_le_of_lt (Int32.le_trans (by decide : (1 : Int32) ≤ 9998) h) q) (by intro z; exact Int32.lt_irrefl z)), if_neg (Int32.not_lt.mpr h)]
/-! a quotient of whole numbers is no NaN -/
def okD : FP.Core.Datum → Prop
  | .nan => False
  | .inf _ => True
  | .fin _ c q => c < 2 ^ 53 ∧ q ≤ 971
theorem okD_settle {s : Bool} {c : Nat} {q : Int} : okD (FP.Core.settle FP.Core.b64 s c q) := by
  unfold FP.Core.settle FP.Core.bound
  have h1 : FP.Core.b64.qmax = 971 := by decide
  have h2 : FP.Core.b64.tails = 2 ^ 52 := by decide
  have h3 : FP.Core.b64.p = 53 := rfl
  rw [h1, h2, h3]
  split <;> split
  · exact ⟨by assumption, by assumption⟩
  · exact trivial
  · exact ⟨by decide, by assumption⟩
  · exact trivial
theorem okD_ratio {s : Bool} {a b : Nat} {e : Int} : okD (FP.Core.roundRatio FP.Core.b64 s a b e) := by
  unfold FP.Core.roundRatio
  split
  · exact ⟨by decide, by decide⟩
  · exact okD_settle
theorem asm_eq (s : Bool) (e t : Nat) : FP.Core.assemble FP.Core.b64 s e t = (s.toNat * 2048 + e) * 2 ^ 52 + t := by
  show (s.toNat * 2 ^ 11 + e) * 2 ^ (53 - 1) + t = _
  rfl
theorem enc_ok {d : FP.Core.Datum} (h : okD d) : FP.Core.encode FP.Core.b64 d < 2 ^ 64 ∧ FP.Core.encode FP.Core.b64 d % 2 ^ 63 ≤ 2047 * 2 ^ 52 := by
  have ht : FP.Core.b64.tails = 2 ^ 52 := by decide
  have he : FP.Core.b64.exps = 2048 := by decide
  have hq : FP.Core.b64.qmin = -1074 := by decide
  cases d with
  | nan => exact absurd h id
  | inf s =>
    show FP.Core.assemble FP.Core.b64 s (FP.Core.b64.exps - 1) 0 < _ ∧ FP.Core.assemble FP.Core.b64 s (FP.Core.b64.exps - 1) 0 % _ ≤ _
    rw [asm_eq, he]
    cases s <;> decide
  | fin s c q =>
    obtain ⟨h1, h2⟩ := h
    have hs : s.toNat ≤ 1 := by cases s <;> decide
    show (if c < FP.Core.b64.tails then _ else _) < _ ∧ (if c < FP.Core.b64.tails then _ else _) % _ ≤ _
    rw [ht]
    split
    · rw [asm_eq]; omega
    · rw [asm_eq, hq]
      have : (q - -1074).toNat ≤ 2045 := by omega
      generalize (q - -1074).toNat = m at this
      omega
theorem val_ok {n : Nat} (h : n % 2 ^ 63 ≤ 2047 * 2 ^ 52) : FP.Core.decode FP.Core.b64 n ≠ .nan := by
  have ht : FP.Core.b64.tails = 2 ^ 52 := by decide
  have he : FP.Core.b64.exps = 2048 := by decide
  unfold FP.Core.decode FP.Core.fieldE FP.Core.fieldT
  rw [ht, he]
  split
  · rename_i c
    rw [if_pos (by omega)]
    intro z; cases z
  · split <;> (intro z; cases z)
theorem dec_nz {s : Bool} {c : Nat} {q : Int} (h1 : c < 2 ^ 53) (h2 : q ≤ 971) (h3 : c ≠ 0) : ∃ t d r, FP.Core.decode FP.Core.b64 (FP.Core.encode FP.Core.b64 (.fin s c q)) = .fin t d r ∧ d ≠ 0 := by
  have ht : FP.Core.b64.tails = 2 ^ 52 := by decide
  have he : FP.Core.b64.exps = 2048 := by decide
  have hq : FP.Core.b64.qmin = -1074 := by decide
  have hs : s.toNat ≤ 1 := by cases s <;> decide
  have e : ∃ m u, FP.Core.encode FP.Core.b64 (.fin s c q) = (s.toNat * 2048 + m) * 2 ^ 52 + u ∧ u < 2 ^ 52 ∧ m ≤ 2046 ∧ (m = 0 → u ≠ 0) := by
    show ∃ m u, (if c < FP.Core.b64.tails then _ else _) = _ ∧ _
    rw [ht]
    split
    · exact ⟨0, c, asm_eq _ _ _, by assumption, by decide, fun _ => h3⟩
    · refine ⟨_, _, asm_eq _ _ _, by omega, by rw [hq]; omega, fun z => by omega⟩
  obtain ⟨m, u, e, h4, h5, h6⟩ := e
  rw [e]
  unfold FP.Core.decode FP.Core.fieldE FP.Core.fieldT
  rw [ht, he]
  have f1 : ((s.toNat * 2048 + m) * 2 ^ 52 + u) / 2 ^ 52 % 2048 = m := by omega
  have f2 : ((s.toNat * 2048 + m) * 2 ^ 52 + u) % 2 ^ 52 = u := by omega
  rw [f1, f2, if_neg (by omega)]
  split
  · rename_i z; exact ⟨_, _, _, rfl, h6 z⟩
  · exact ⟨_, _, _, rfl, by omega⟩
theorem round_nz {i : Int} (h0 : i ≠ 0) (h1 : i.natAbs ≤ 2 ^ 51) : ∃ s c q, FP.Core.round FP.Core.b64 (FP.Core.ofInt i) = .fin s c q ∧ c < 2 ^ 53 ∧ q ≤ 971 ∧ c ≠ 0 := by
  show ∃ s c q, FP.Core.roundRatio FP.Core.b64 (decide (i < 0)) i.natAbs 1 0 = _ ∧ _
  generalize decide (i < 0) = s
  have hn : 1 ≤ i.natAbs := by omega
  generalize i.natAbs = n at h1 hn
  unfold FP.Core.roundRatio
  rw [if_neg (by omega)]
  unfold FP.Core.roundAt
  have hl : FP.Core.leading n 1 ≤ 51 := by
    have : n.log2 < 52 := (Nat.log2_lt (by omega)).mpr (by omega)
    unfold FP.Core.leading
    have e1 : Nat.log2 1 = 0 := by decide
    simp only [e1]
    split <;> omega
  have hq : FP.Core.quantum FP.Core.b64 n 1 0 ≤ -1 := by
    unfold FP.Core.quantum
    have hm : FP.Core.b64.qmin = -1074 := by decide
    have h3 : (FP.Core.b64.p : Int) = 53 := rfl
    rw [hm, h3]
    omega
  generalize FP.Core.quantum FP.Core.b64 n 1 0 = q at hq
  have hd : FP.Core.unitsDen 1 0 q = 1 := by
    unfold FP.Core.unitsDen
    rw [show (q - 0).toNat = 0 by omega]
  have hu : 1 ≤ FP.Core.unitsNum n 0 q := by
    unfold FP.Core.unitsNum
    exact Nat.mul_pos hn (Nat.two_pow_pos _)
  rw [hd]
  generalize FP.Core.unitsNum n 0 q = u at hu
  have hnr : FP.Core.nearest u 1 = u := by
    unfold FP.Core.nearest
    rw [Nat.mod_one, if_pos (by decide), Nat.div_one]
  rw [hnr]
  unfold FP.Core.settle FP.Core.bound
  have g1 : FP.Core.b64.qmax = 971 := by decide
  have g2 : FP.Core.b64.tails = 2 ^ 52 := by decide
  have g3 : FP.Core.b64.p = 53 := rfl
  rw [g1, g2, g3]
  split
  · rw [if_pos (by omega)]; exact ⟨_, _, _, rfl, by assumption, by omega, by omega⟩
  · rw [if_pos (by omega)]; exact ⟨_, _, _, rfl, by decide, by omega, by decide⟩
theorem okD_round {i : Int} : okD (FP.Core.round FP.Core.b64 (FP.Core.ofInt i)) := okD_ratio
theorem l2d_nat (a : Int64) : (FP.Core.l2d a).toNat = FP.Core.encode FP.Core.b64 (FP.Core.round FP.Core.b64 (FP.Core.ofInt a.toInt)) := by
  show (UInt64.ofNat _).toNat = _
  rw [UInt64.toNat_ofNat_of_lt']
  · rfl
  · exact (enc_ok okD_round).1
theorem mil_bd {x : Int32} (h : ¬ x = 0) : ((1000000 : Int64) * x.toInt64).toInt ≠ 0 ∧ ((1000000 : Int64) * x.toInt64).toInt.natAbs ≤ 2 ^ 51 := by
  have h1 := x.toInt_lt
  have h2 := x.le_toInt
  have h3 : x.toInt ≠ 0 := fun z => h (Int32.toInt_inj.mp (by rw [z]; decide))
  have e : ((1000000 : Int64) * x.toInt64).toInt = 1000000 * x.toInt := by
    rw [Int64.toInt_mul, Int32.toInt_toInt64, show (1000000 : Int64).toInt = 1000000 by decide, Int.bmod_eq_of_le (by omega) (by omega)]
  rw [e]
  exact ⟨by omega, by omega⟩
theorem ddiv_n {a : Int64} {x : Int32} (h : ¬ x = 0) : vf_n64 (FP.ddiv (FP.l2d a) (FP.l2d (1000000 * x.toInt64))) := by
  obtain ⟨b1, b2⟩ := mil_bd h
  obtain ⟨s, c, q, e1, c1, c2, c3⟩ := round_nz b1 b2
  obtain ⟨t, d, r, e2, hd⟩ := dec_nz (s := s) c1 c2 c3
  have hx : FP.Core.decode FP.Core.b64 (FP.Core.l2d a).toNat ≠ .nan := by rw [l2d_nat]; exact val_ok (enc_ok okD_round).2
  have key : okD (FP.Core.quotient FP.Core.b64 (FP.Core.decode FP.Core.b64 (FP.Core.l2d a).toNat) (FP.Core.decode FP.Core.b64 (FP.Core.l2d (1000000 * x.toInt64)).toNat)) := by
    rw [l2d_nat (1000000 * x.toInt64), e1, e2]
    generalize FP.Core.decode FP.Core.b64 (FP.Core.l2d a).toNat = y at hx
    cases y with
    | nan => exact absurd rfl hx
    | inf s => exact trivial
    | fin s' c' q' =>
      show okD (if d = 0 then _ else _)
      rw [if_neg hd]
      exact okD_ratio
  obtain ⟨k1, k2⟩ := enc_ok key
  show _ &&& _ ≤ (0x7ff0000000000000 : UInt64)
  rw [UInt64.le_iff_toNat_le, UInt64.toNat_and]
  show (FP.Core.ddiv _ _).toNat &&& 0x7fffffffffffffff ≤ 0x7ff0000000000000
  have e3 : (FP.Core.ddiv (FP.Core.l2d a) (FP.Core.l2d (1000000 * x.toInt64))).toNat = FP.Core.encode FP.Core.b64 (FP.Core.quotient FP.Core.b64 (FP.Core.decode FP.Core.b64 (FP.Core.l2d a).toNat) (FP.Core.decode FP.Core.b64 (FP.Core.l2d (1000000 * x.toInt64)).toNat)) := by
    show (UInt64.ofNat _).toNat = _
    rw [UInt64.toNat_ofNat_of_lt']
    · rfl
    · exact k1
  rw [e3, show (0x7fffffffffffffff : Nat) = 2 ^ 63 - 1 by decide, Nat.and_two_pow_sub_one_eq_mod]
  exact k2
/-- the mean of the dependents -/
def avdV (s : Nat) : UInt32 := FP.fdiv (FP.i2f (nI s)) 1086324736
theorem avd_n : ∀ s, s < 55 → vf_n32 (avdV s) := by unfold vf_n32; decide +kernel
def dsum (g : Nat → Int32) : Nat → Nat
  | 0 => 0
  | p + 1 => dsum g p + dnG g p
theorem dsum_le {g : Nat → Int32} (hg : WFg g) : ∀ p, p ≤ 6 → dsum g p ≤ 9 * p := by
  intro p
  induction p with
  | zero => intro _; exact Nat.le_refl _
  | succ p ih => intro h; have := (hg.2.2.2.1 p (by omega)).2; have := ih (by omega); rw [dsum]; omega
def incG (g : Nat → Int32) (p : Nat) : Int32 := g (64 + 3 * p + 0) + g (64 + 3 * p + 1)
def avrV (g : Nat → Int32) (h : Nat → Int64) (p : Nat) : UInt64 := FP.ddiv (FP.l2d (ownV g h p)) (FP.l2d (1000000 * (incG g p).toInt64))
theorem mil_ne {x : Int32} (h : ¬ x = 0) : ¬ (1000000 : Int64) * x.toInt64 = 0 := by
  intro z
  apply h
  have hx := Int32.toInt_lt x
  have hx2 := Int32.le_toInt x
  have e : ((1000000 : Int64) * x.toInt64).toInt = 1000000 * x.toInt := by
    rw [Int64.toInt_mul, Int32.toInt_toInt64]
    have : (1000000 : Int64).toInt = 1000000 := by decide
    rw [this]
    exact Int.bmod_eq_of_le (by omega) (by omega)
  rw [z] at e
  have : (0 : Int64).toInt = 0 := by decide
  rw [this] at e
  exact Int32.toInt_inj.mp (by have : (0 : Int32).toInt = 0 := by decide
                               omega)
