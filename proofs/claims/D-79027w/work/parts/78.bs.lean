set_option maxRecDepth 100000
/-! bits of words -/
def tb (x : Int64) (j : Nat) : Bool := x.toBitVec.getLsbD j
theorem tb_or {x y : Int64} {j : Nat} : tb (x ||| y) j = (tb x j || tb y j) := by unfold tb; rw [Int64.toBitVec_or, BitVec.getLsbD_or]
theorem tb_and {x y : Int64} {j : Nat} : tb (x &&& y) j = (tb x j && tb y j) := by unfold tb; rw [Int64.toBitVec_and, BitVec.getLsbD_and]
theorem tb_xor {x y : Int64} {j : Nat} : tb (x ^^^ y) j = (tb x j ^^ tb y j) := by unfold tb; rw [Int64.toBitVec_xor, BitVec.getLsbD_xor]
theorem tb_0 {j : Nat} : tb 0 j = false := by show (0#64).getLsbD j = false; exact BitVec.getLsbD_zero
theorem tb_m1 {j : Nat} (h : j < 64) : tb (-1) j = true := by show (BitVec.allOnes 64).getLsbD j = true; rw [BitVec.getLsbD_allOnes]; simp [h]
theorem tb_ext {x y : Int64} (h : ∀ j, j < 64 → tb x j = tb y j) : x = y := by
  refine Int64.toBitVec_inj.mp (BitVec.eq_of_getLsbD_eq (fun i hi => h i hi))
theorem tb_ne {x : Int64} {j : Nat} (h : tb x j = true) : ¬ x = 0 := by rintro rfl; rw [tb_0] at h; cases h
theorem sh_amt {i : Nat} (hi : i < 2 ^ 31) : (nI i).toInt64 &&& 63 = lN (i % 64) := by
  have e1 : (nI i).toInt64 = lN i := by
    refine Int64.toInt_inj.mp ?_
    rw [Int32.toInt_toInt64]
    unfold nI lN
    rw [Int32.toInt_ofNat_of_lt hi, Int64.toInt_ofNat_of_lt (by omega)]
  rw [e1]
  refine Int64.toBitVec_inj.mp ?_
  rw [Int64.toBitVec_and]
  show BitVec.ofNat 64 i &&& 63#64 = BitVec.ofNat 64 (i % 64)
  refine BitVec.eq_of_toNat_eq ?_
  rw [BitVec.toNat_and, BitVec.toNat_ofNat, BitVec.toNat_ofNat, BitVec.toNat_ofNat, show 63 % 2 ^ 64 = 2 ^ 6 - 1 by decide, Nat.and_two_pow_sub_one_eq_mod]
  omega
theorem sh_one : ∀ m, m < 64 → ∀ j, j < 64 → tb (1 <<< lN m) j = decide (j = m) := by unfold tb lN; decide +kernel
theorem sh_m1 : ∀ m, m < 64 → ∀ j, j < 64 → tb ((-1) <<< lN m) j = decide (m ≤ j) := by unfold tb lN; decide +kernel
theorem tb_sh {i j : Nat} (hi : i < 2 ^ 31) (hj : j < 64) : tb (1 <<< ((nI i).toInt64 &&& 63)) j = decide (j = i % 64) := by
  rw [sh_amt hi]; exact sh_one _ (Nat.mod_lt _ (by decide)) j hj
theorem tb_shm {i j : Nat} (hi : i < 2 ^ 31) (hj : j < 64) : tb ((-1) <<< ((nI i).toInt64 &&& 63)) j = decide (i % 64 ≤ j) := by
  rw [sh_amt hi]; exact sh_m1 _ (Nat.mod_lt _ (by decide)) j hj
/-- a set of numbers, as words: N words, W in use -/
def bsI (N W : Nat) (f : Nat → Int64) (S : Nat → Bool) : Prop := W ≤ N ∧ (∀ i, i / 64 < N → tb (f (i / 64)) (i % 64) = S i) ∧ (∀ i, W ≤ i / 64 → S i = false) ∧ (W = 0 ∨ ¬ f (W - 1) = 0)
theorem bs_0 : bsI 1 0 (fun _ => 0) (fun _ => false) := ⟨by decide, fun i _ => tb_0, fun _ _ => rfl, Or.inl rfl⟩
theorem bs_grow {N W N1 : Nat} {f : Nat → Int64} {S : Nat → Bool} (h : bsI N W f S) (hN : N ≤ N1) : bsI N1 W (va_cpy f (fun _ => 0) 0 0 N) S := by
  refine ⟨Nat.le_trans h.1 hN, fun i hi => ?_, h.2.2.1, ?_⟩
  · unfold va_cpy
    by_cases c : i / 64 < N
    · rw [if_pos ⟨Nat.zero_le _, by omega⟩, Nat.zero_add, Nat.sub_zero]; exact h.2.1 i c
    · rw [if_neg (by omega), tb_0, h.2.2.1 i (by have := h.1; omega)]
  · rcases h.2.2.2 with e | e
    · exact Or.inl e
    · by_cases hW : W = 0
      · exact Or.inl hW
      · refine Or.inr ?_
        have := h.1
        unfold va_cpy
        rw [if_pos ⟨Nat.zero_le _, by omega⟩, Nat.zero_add, Nat.sub_zero]; exact e
theorem bs_set {N W i : Nat} {f : Nat → Int64} {S : Nat → Bool} (h : bsI N W f S) (hi : i < 2 ^ 31) (hN : i / 64 < N) : bsI N (if W < i / 64 + 1 then i / 64 + 1 else W) (vp_updL f (i / 64) (f (i / 64) ||| (1 <<< ((nI i).toInt64 &&& 63)))) (fun j => if j = i then true else S j) := by
  have h1 := h.1
  refine ⟨by split <;> omega, fun j hj => ?_, fun j hj => ?_, Or.inr ?_⟩
  · show _ = (if j = i then true else S j)
    unfold vp_updL
    by_cases c : j / 64 = i / 64
    · rw [if_pos c, tb_or, tb_sh hi (Nat.mod_lt _ (by decide)), ← c, h.2.1 j hj]
      by_cases e : j = i
      · subst e; simp
      · rw [if_neg e, decide_eq_false (by omega), Bool.or_false]
    · rw [if_neg c, h.2.1 j hj, if_neg (by rintro rfl; exact c rfl)]
  · have : ¬ j = i := by rintro rfl; split at hj <;> omega
    show (if j = i then true else S j) = false
    rw [if_neg this]
    exact h.2.2.1 j (by split at hj <;> omega)
  · have hw : tb (vp_updL f (i / 64) (f (i / 64) ||| (1 <<< ((nI i).toInt64 &&& 63))) (i / 64)) (i % 64) = true := by
      unfold vp_updL; rw [if_pos rfl, tb_or, tb_sh hi (Nat.mod_lt _ (by decide))]; simp
    by_cases c : W < i / 64 + 1
    · rw [if_pos c, Nat.add_sub_cancel]; exact tb_ne hw
    · rw [if_neg c]
      by_cases e : W - 1 = i / 64
      · rw [e]; exact tb_ne hw
      · unfold vp_updL; rw [if_neg e]; exact h.2.2.2.resolve_left (by omega)
theorem bs_clr {N W i : Nat} {f : Nat → Int64} {S : Nat → Bool} (h : bsI N W f S) (hi : i < 2 ^ 31) (hN : i / 64 < W) (hS : S i = false) : vp_updL f (i / 64) (f (i / 64) &&& ((1 <<< ((nI i).toInt64 &&& 63)) ^^^ -1)) = f := by
  funext k
  unfold vp_updL
  by_cases c : k = i / 64
  · rw [if_pos c, c]
    refine tb_ext (fun j hj => ?_)
    rw [tb_and, tb_xor, tb_sh hi hj, tb_m1 hj]
    by_cases e : j = i % 64
    · have := h.2.1 i (Nat.lt_of_lt_of_le hN h.1)
      rw [e, this, hS]; rfl
    · rw [decide_eq_false e]; simp
  · rw [if_neg c]
theorem bs_same {N W i : Nat} {f : Nat → Int64} {S : Nat → Bool} (h : bsI N W f S) (hS : S i = false) : bsI N W f (fun j => if j = i then false else S j) := by
  have : (fun j => if j = i then false else S j) = S := by
    funext j; by_cases e : j = i
    · subst e; simp [hS]
    · rw [if_neg e]
  rw [this]; exact h
/-! number of trailing zeros -/
theorem nt_nat {a j : Nat} (h1 : a.testBit j = true) (h0 : ∀ i, i < j → a.testBit i = false) : ∃ m, a = 2 ^ (j + 1) * m + 2 ^ j := by
  refine ⟨a / 2 ^ (j + 1), Nat.eq_of_testBit_eq (fun i => ?_)⟩
  rw [Nat.testBit_two_pow_mul_add _ (Nat.pow_lt_pow_right (by decide) (Nat.lt_succ_self j))]
  by_cases c : i < j + 1
  · rw [if_pos c, Nat.testBit_two_pow]
    by_cases e : j = i
    · subst e; simp [h1]
    · rw [h0 i (by omega)]; simp [e]
  · rw [if_neg c, Nat.testBit_div_two_pow]
    congr 1; omega
theorem nt_32 {y : BitVec 32} {j : Nat} (hj : j < 32) (h1 : y.getLsbD j = true) (h0 : ∀ i, i < j → y.getLsbD i = false) : (y ^^^ BitVec.allOnes 32) &&& (y - 1#32) = BitVec.ofNat 32 (2 ^ j - 1) := by
  obtain ⟨m, hm⟩ := nt_nat (a := y.toNat) (j := j) h1 h0
  have hp : 0 < 2 ^ j := Nat.two_pow_pos j
  have e1 : (y - 1#32).toNat = 2 ^ (j + 1) * m + (2 ^ j - 1) := by
    rw [BitVec.toNat_sub_of_le (by rw [BitVec.le_def]; show 1 ≤ y.toNat; omega)]
    show y.toNat - 1 = _; omega
  refine BitVec.eq_of_getLsbD_eq (fun i hi => ?_)
  rw [BitVec.getLsbD_and, BitVec.getLsbD_xor, BitVec.getLsbD_allOnes, BitVec.getLsbD_ofNat]
  have e2 : (y - 1#32).getLsbD i = (if i < j + 1 then (2 ^ j - 1).testBit i else m.testBit (i - (j + 1))) := by
    show (y - 1#32).toNat.testBit i = _
    rw [e1, Nat.testBit_two_pow_mul_add _ (by rw [Nat.pow_succ]; omega)]
  have e3 : y.getLsbD i = (if i < j + 1 then (2 ^ j).testBit i else m.testBit (i - (j + 1))) := by
    show y.toNat.testBit i = _
    rw [hm, Nat.testBit_two_pow_mul_add _ (by rw [Nat.pow_succ]; omega)]
  rw [e2, e3]
  by_cases c : i < j + 1
  · rw [if_pos c, if_pos c, Nat.testBit_two_pow, Nat.testBit_two_pow_sub_one]
    by_cases e : j = i
    · subst e; simp
    · simp [e, hi, show i < j by omega]
  · rw [if_neg c, if_neg c, Nat.testBit_two_pow_sub_one]
    cases hb : m.testBit (i - (j + 1)) <;> simp [hi] <;> omega
theorem nt_lo {x : Int64} {j : Nat} (hj : j < 32) (h1 : tb x j = true) (h0 : ∀ i, i < j → tb x i = false) : ¬ x.toInt32 = 0 ∧ (x.toInt32 ^^^ -1) &&& (x.toInt32 - 1) = nI (2 ^ j - 1) := by
  have hb : ∀ i, i < 32 → x.toInt32.toBitVec.getLsbD i = tb x i := fun i hi => by
    show (x.toBitVec.signExtend 32).getLsbD i = _
    rw [BitVec.getLsbD_signExtend]; simp [hi, show i < 64 by omega, tb]
  constructor
  · intro e
    have := hb j hj
    rw [e, h1] at this
    simp at this
  · refine Int32.toBitVec_inj.mp ?_
    rw [Int32.toBitVec_and, Int32.toBitVec_xor, Int32.toBitVec_sub]
    exact nt_32 hj (by rw [hb j hj]; exact h1) (fun i hi => by rw [hb i (by omega)]; exact h0 i hi)
theorem tb_hi {x : Int64} {i : Nat} (hi : i < 32) : ((x.toUInt64 >>> ((32 : Int32).toInt64.toUInt64 &&& Int64.toUInt64 63)).toInt64).toInt32.toBitVec.getLsbD i = tb x (32 + i) := by
  show ((x.toUInt64 >>> ((32 : Int32).toInt64.toUInt64 &&& Int64.toUInt64 63)).toBitVec.signExtend 32).getLsbD i = _
  rw [show ((32 : Int32).toInt64.toUInt64 &&& Int64.toUInt64 63) = 32 by decide, UInt64.toBitVec_shiftRight, BitVec.getLsbD_signExtend]
  show (decide (i < 32) && if i < 64 then (x.toBitVec >>> ((32#64) % 64)).getLsbD i else _) = _
  rw [if_pos (by omega)]
  rw [show ((32#64) % 64) = 32#64 by decide, BitVec.ushiftRight_eq', show (32#64).toNat = 32 by decide, BitVec.getLsbD_ushiftRight]
  simp [hi, tb]
theorem nt_hi {x : Int64} {j : Nat} (hj : j < 32) (h1 : tb x (32 + j) = true) (h0 : ∀ i, i < 32 + j → tb x i = false) : x.toInt32 = 0 ∧ ((((x.toUInt64 >>> ((32 : Int32).toInt64.toUInt64 &&& Int64.toUInt64 63)).toInt64).toInt32 ^^^ -1) &&& (((x.toUInt64 >>> ((32 : Int32).toInt64.toUInt64 &&& Int64.toUInt64 63)).toInt64).toInt32 - 1)) = nI (2 ^ j - 1) := by
  constructor
  · refine Int32.toBitVec_inj.mp (BitVec.eq_of_getLsbD_eq (fun i hi => ?_))
    show (x.toBitVec.signExtend 32).getLsbD i = _
    rw [BitVec.getLsbD_signExtend]
    have := h0 i (by omega)
    unfold tb at this
    rw [if_pos (show i < 64 by omega), this, Bool.and_false]
    exact BitVec.getLsbD_zero.symm
  · refine Int32.toBitVec_inj.mp ?_
    rw [Int32.toBitVec_and, Int32.toBitVec_xor, Int32.toBitVec_sub]
    exact nt_32 hj (by rw [tb_hi hj]; exact h1) (fun i hi => by rw [tb_hi (by omega)]; exact h0 _ (by omega))

/-! number of bits -/
/-- a number by its digits -/
def ds (w : Nat) (d : Nat → Nat) : Nat → Nat
  | 0 => 0
  | n + 1 => d 0 + 2 ^ w * ds w (fun i => d (i + 1)) n
theorem ds_cg {w : Nat} : ∀ {n : Nat} {d e : Nat → Nat}, (∀ i, i < n → d i = e i) → ds w d n = ds w e n
  | 0, _, _, _ => rfl
  | n + 1, d, e, h => by unfold ds; rw [h 0 (by omega), ds_cg (n := n) (fun i hi => h (i + 1) (by omega))]
theorem ds_lt {w : Nat} : ∀ {n : Nat} {d : Nat → Nat}, (∀ i, i < n → d i < 2 ^ w) → ds w d n < 2 ^ (w * n)
  | 0, _, _ => by simp [ds]
  | n + 1, d, h => by
    have h1 := ds_lt (w := w) (n := n) (d := fun i => d (i + 1)) (fun i hi => h (i + 1) (by omega))
    have h0 := h 0 (by omega)
    unfold ds
    rw [Nat.mul_succ, Nat.pow_add]
    have : 2 ^ w * (ds w (fun i => d (i + 1)) n + 1) ≤ 2 ^ w * 2 ^ (w * n) := Nat.mul_le_mul_left _ h1
    rw [Nat.mul_add] at this
    rw [Nat.mul_comm (2 ^ (w * n))]
    omega
theorem ds_add {w : Nat} : ∀ {n : Nat} {d e : Nat → Nat}, ds w d n + ds w e n = ds w (fun i => d i + e i) n
  | 0, _, _ => rfl
  | n + 1, d, e => by
    unfold ds
    rw [← ds_add (n := n), Nat.mul_add]; omega
theorem ds_sub {w : Nat} {n : Nat} {d e : Nat → Nat} (h : ∀ i, i < n → e i ≤ d i) : ds w d n - ds w e n = ds w (fun i => d i - e i) n := by
  have := ds_add (w := w) (n := n) (d := fun i => d i - e i) (e := e)
  rw [ds_cg (e := d) (fun i hi => Nat.sub_add_cancel (h i hi))] at this
  omega
theorem ds_and {w : Nat} : ∀ {n : Nat} {d e : Nat → Nat}, (∀ i, i < n → d i < 2 ^ w) → (∀ i, i < n → e i < 2 ^ w) → ds w d n &&& ds w e n = ds w (fun i => d i &&& e i) n
  | 0, _, _, _, _ => by simp [ds]
  | n + 1, d, e, h1, h2 => by
    have ih := ds_and (n := n) (d := fun i => d (i + 1)) (e := fun i => e (i + 1)) (fun i hi => h1 (i + 1) (by omega)) (fun i hi => h2 (i + 1) (by omega))
    have a1 := h1 0 (by omega)
    have a2 := h2 0 (by omega)
    unfold ds
    rw [← ih]
    have a3 : d 0 &&& e 0 < 2 ^ w := Nat.and_lt_two_pow _ a2
    refine Nat.eq_of_testBit_eq (fun i => ?_)
    rw [Nat.testBit_and, Nat.add_comm (d 0), Nat.add_comm (e 0), Nat.add_comm (d 0 &&& e 0), Nat.testBit_two_pow_mul_add _ a1, Nat.testBit_two_pow_mul_add _ a2, Nat.testBit_two_pow_mul_add _ a3]
    by_cases c : i < w
    · rw [if_pos c, if_pos c, if_pos c, Nat.testBit_and]
    · rw [if_neg c, if_neg c, if_neg c, Nat.testBit_and]
/-- shifted by whole digits -/
theorem ds_sh {w : Nat} {n : Nat} {d : Nat → Nat} (h : d 0 < 2 ^ w) : ds w d (n + 1) / 2 ^ w = ds w (fun i => d (i + 1)) n := by
  show (d 0 + 2 ^ w * ds w (fun i => d (i + 1)) n) / 2 ^ w = _
  rw [Nat.add_mul_div_left _ _ (Nat.two_pow_pos w), Nat.div_eq_of_lt h, Nat.zero_add]
theorem ds_pad {w : Nat} : ∀ {n : Nat} {d : Nat → Nat}, d n = 0 → ds w d (n + 1) = ds w d n
  | 0, d, h => by unfold ds; rw [h]; simp [ds]
  | n + 1, d, h => by
    show d 0 + 2 ^ w * ds w (fun i => d (i + 1)) (n + 1) = d 0 + 2 ^ w * ds w (fun i => d (i + 1)) n
    rw [ds_pad (n := n) (d := fun i => d (i + 1)) h]
/-- shifted by less than a digit -/
theorem ds_shr {w s : Nat} (hs : s ≤ w) : ∀ {n : Nat} {d : Nat → Nat}, (∀ i, i < n → d i < 2 ^ w) → d n = 0 → ds w d n / 2 ^ s = ds w (fun i => d i / 2 ^ s + 2 ^ (w - s) * (d (i + 1) % 2 ^ s)) n
  | 0, _, _, _ => by simp [ds]
  | n + 1, d, h1, h2 => by
    have ih := ds_shr hs (n := n) (d := fun i => d (i + 1)) (fun i hi => h1 (i + 1) (by omega)) h2
    have e1 : ∃ q, ds w (fun i => d (i + 1)) n = 2 ^ s * q + d 1 % 2 ^ s := by
      cases n with
      | zero => exact ⟨0, by rw [h2]; simp [ds]⟩
      | succ n =>
        refine ⟨d 1 / 2 ^ s + 2 ^ (w - s) * ds w (fun i => d (i + 1 + 1)) n, ?_⟩
        show d 1 + 2 ^ w * ds w (fun i => d (i + 1 + 1)) n = _
        rw [Nat.mul_add, ← Nat.mul_assoc, ← Nat.pow_add, show s + (w - s) = w by omega, Nat.add_right_comm, Nat.div_add_mod (d 1) (2 ^ s)]
    obtain ⟨q, hq⟩ := e1
    show (d 0 + 2 ^ w * ds w (fun i => d (i + 1)) n) / 2 ^ s = _
    have hp := Nat.two_pow_pos s
    have e2 : 2 ^ w = 2 ^ s * 2 ^ (w - s) := by rw [← Nat.pow_add, show s + (w - s) = w by omega]
    have e3 : ds w (fun i => d (i + 1)) n / 2 ^ s = q := by
      rw [hq, Nat.mul_add_div hp, Nat.div_eq_of_lt (Nat.mod_lt _ hp), Nat.add_zero]
    rw [e2, Nat.mul_assoc, Nat.add_mul_div_left _ _ hp]
    show _ = d 0 / 2 ^ s + 2 ^ (w - s) * (d 1 % 2 ^ s) + 2 ^ w * ds w (fun i => d (i + 1) / 2 ^ s + 2 ^ (w - s) * (d (i + 1 + 1) % 2 ^ s)) n
    rw [← ih, e3, hq, Nat.mul_add, ← Nat.mul_assoc, Nat.mul_comm (2 ^ (w - s)) (2 ^ s), ← e2]
    omega

theorem ds_bits : ∀ {n : Nat} {x : Nat}, x < 2 ^ (8 * n) → x = ds 8 (fun i => x / 2 ^ (8 * i) % 256) n
  | 0, x, h => by simp at h; simp [ds, h]
  | n + 1, x, h => by
    have ih := ds_bits (n := n) (x := x / 256) (by rw [Nat.mul_succ, Nat.pow_add] at h; exact Nat.div_lt_of_lt_mul (by rw [Nat.mul_comm]; exact h))
    show x = x / 2 ^ (8 * 0) % 256 + 2 ^ 8 * ds 8 (fun i => x / 2 ^ (8 * (i + 1)) % 256) n
    rw [ds_cg (e := fun i => x / 256 / 2 ^ (8 * i) % 256) (fun i _ => by rw [Nat.mul_succ, Nat.pow_add, Nat.mul_comm, ← Nat.div_div_eq_div_mul]), ← ih]
    simp
    omega
/-- the bits of a byte -/
def pb (b : Nat) : Nat := b % 2 + b / 2 % 2 + b / 4 % 2 + b / 8 % 2 + b / 16 % 2 + b / 32 % 2 + b / 64 % 2 + b / 128 % 2
def b1 (b : Nat) : Nat := b - ((b / 2) &&& 0x55)
def b2 (b : Nat) : Nat := (b1 b &&& 0x33) + ((b1 b / 4) &&& 0x33)
theorem by_1 : ∀ b, b < 256 → ∀ c, c < 2 → (b / 2 + 128 * c) &&& 0x55 = (b / 2) &&& 0x55 := by decide +kernel
theorem by_1' : ∀ b, b < 256 → (b / 2) &&& 0x55 ≤ b := by decide +kernel
theorem by_2 : ∀ b, b < 256 → b1 b < 256 := by decide +kernel
theorem by_3 : ∀ b, b < 256 → ∀ c, c < 4 → (b / 4 + 64 * c) &&& 0x33 = (b / 4) &&& 0x33 := by decide +kernel
theorem by_4 : ∀ b, b < 256 → b2 b % 16 ≤ 4 ∧ b2 b / 16 ≤ 4 ∧ b2 b % 16 + b2 b / 16 = pb b := by decide +kernel
theorem by_5 : ∀ x, x < 5 → ∀ y, y < 5 → ∀ z, z < 5 → (x + 16 * y + (y + 16 * z)) &&& 0x0f = x + y := by decide +kernel

def cntB (S : Nat → Bool) : Nat → Nat
  | 0 => 0
  | n + 1 => cntB S n + (if S n = true then 1 else 0)
theorem cntB_add {S : Nat → Bool} {a : Nat} : ∀ {n : Nat}, cntB S (a + n) = cntB S a + cntB (fun j => S (a + j)) n
  | 0 => rfl
  | n + 1 => by
    show cntB S (a + n) + _ = cntB S a + (cntB (fun j => S (a + j)) n + _)
    rw [cntB_add (n := n), Nat.add_assoc]
    rfl
theorem cntB_cg {S T : Nat → Bool} : ∀ {n : Nat}, (∀ i, i < n → S i = T i) → cntB S n = cntB T n
  | 0, _ => rfl
  | n + 1, h => by unfold cntB; rw [cntB_cg (n := n) (fun i hi => h i (by omega)), h n (by omega)]
theorem cntB_le {S : Nat → Bool} : ∀ {n : Nat}, cntB S n ≤ n
  | 0 => Nat.le_refl _
  | n + 1 => by have := cntB_le (S := S) (n := n); unfold cntB; split <;> omega
theorem ds_shk {w n : Nat} : ∀ (k : Nat) {d : Nat → Nat}, (∀ i, d i < 2 ^ w) → (∀ i, n ≤ i → d i = 0) → ds w d n / 2 ^ (w * k) = ds w (fun i => d (i + k)) n
  | 0, d, _, _ => by rw [Nat.mul_zero, Nat.pow_zero, Nat.div_one]; rfl
  | k + 1, d, h1, h2 => by
    rw [Nat.mul_succ, Nat.pow_add, ← Nat.div_div_eq_div_mul, ds_shk k h1 h2, ← ds_pad (d := fun i => d (i + k)) (h2 (n + k) (by omega)), ds_sh (d := fun i => d (i + k)) (h1 _)]
    exact ds_cg (fun i _ => by rw [Nat.add_right_comm, Nat.add_assoc])
/-- the arithmetic of bitCount, over Nat -/
theorem bc_nat {x : Nat} (h : x < 2 ^ 64) :
    let x1 := x - ((x / 2) &&& 0x5555555555555555)
    let x2 := (x1 &&& 0x3333333333333333) + ((x1 / 4) &&& 0x3333333333333333)
    let x3 := (x2 + x2 / 16) &&& 0x0f0f0f0f0f0f0f0f
    let x4 := x3 + x3 / 256
    let x5 := x4 + x4 / 65536
    let x6 := x5 + x5 / 4294967296
    ((x / 2) &&& 0x5555555555555555) ≤ x ∧ x1 < 2 ^ 64 ∧ x2 < 2 ^ 63 ∧ x2 + x2 / 16 < 2 ^ 64 ∧ x4 < 2 ^ 64 ∧ x5 < 2 ^ 64 ∧ x6 < 2 ^ 64 ∧ x6 % 128 = pb (x % 256) + pb (x / 2 ^ 8 % 256) + pb (x / 2 ^ 16 % 256) + pb (x / 2 ^ 24 % 256) + pb (x / 2 ^ 32 % 256) + pb (x / 2 ^ 40 % 256) + pb (x / 2 ^ 48 % 256) + pb (x / 2 ^ 56 % 256) := by
  intro x1 x2 x3 x4 x5 x6
  let d : Nat → Nat := fun i => x / 2 ^ (8 * i) % 256
  have hd : ∀ i, d i < 256 := fun i => Nat.mod_lt _ (by decide)
  have hd8 : d 8 = 0 := by show x / 2 ^ 64 % 256 = 0; rw [Nat.div_eq_of_lt h]
  have hx : x = ds 8 d 8 := ds_bits (n := 8) h
  have e0 : (x / 2) &&& 0x5555555555555555 = ds 8 (fun i => (d i / 2) &&& 0x55) 8 := by
    rw [hx, show (0x5555555555555555 : Nat) = ds 8 (fun _ => 0x55) 8 by decide]
    have := ds_shr (w := 8) (s := 1) (by decide) (n := 8) (d := d) (fun i _ => hd i) hd8
    rw [show (2 : Nat) ^ 1 = 2 by decide] at this
    rw [this, ds_and (fun i _ => by have := hd i; have : d (i + 1) % 2 < 2 := Nat.mod_lt _ (by decide); show d i / 2 + 128 * (d (i + 1) % 2) < 256; omega) (fun _ _ => by decide)]
    exact ds_cg (fun i _ => by_1 _ (hd i) _ (Nat.mod_lt _ (by decide)))
  have e1 : x1 = ds 8 (fun i => b1 (d i)) 8 := by
    show x - _ = _
    rw [e0]
    conv => lhs; lhs; rw [hx]
    exact ds_sub (fun i _ => by_1' _ (hd i))
  have hb1 : ∀ i, b1 (d i) < 256 := fun i => by_2 _ (hd i)
  have hb8 : b1 (d 8) = 0 := by rw [hd8]; rfl
  have e2 : x2 = ds 8 (fun i => b2 (d i)) 8 := by
    show (x1 &&& _) + ((x1 / 4) &&& _) = _
    rw [e1, show (0x3333333333333333 : Nat) = ds 8 (fun _ => 0x33) 8 by decide]
    have := ds_shr (w := 8) (s := 2) (by decide) (n := 8) (d := fun i => b1 (d i)) (fun i _ => hb1 i) hb8
    rw [show (2 : Nat) ^ 2 = 4 by decide] at this
    rw [this, ds_and (fun i _ => hb1 i) (fun _ _ => by decide), ds_and (fun i _ => by have := hb1 i; have : b1 (d (i + 1)) % 4 < 4 := Nat.mod_lt _ (by decide); show b1 (d i) / 4 + 64 * (b1 (d (i + 1)) % 4) < 256; omega) (fun _ _ => by decide), ds_add]
    exact ds_cg (fun i _ => by show _ + ((b1 (d i) / 4 + 64 * (b1 (d (i + 1)) % 4)) &&& 0x33) = _; rw [by_3 _ (hb1 i) _ (Nat.mod_lt _ (by decide))]; rfl)
  have hp : ∀ i, b2 (d i) % 16 ≤ 4 ∧ b2 (d i) / 16 ≤ 4 ∧ b2 (d i) % 16 + b2 (d i) / 16 = pb (d i) := fun i => by_4 _ (hd i)
  have h28 : b2 (d 8) = 0 := by rw [hd8]; rfl
  have e30 : x2 + x2 / 16 = ds 8 (fun i => b2 (d i) + (b2 (d i) / 16 + 16 * (b2 (d (i + 1)) % 16))) 8 := by
    rw [e2]
    have := ds_shr (w := 8) (s := 4) (by decide) (n := 8) (d := fun i => b2 (d i)) (fun i _ => by have := hp i; show b2 (d i) < 256; omega) h28
    rw [show (2 : Nat) ^ 4 = 16 by decide] at this
    rw [this, ds_add]
  have e3 : x3 = ds 8 (fun i => pb (d i)) 8 := by
    show (x2 + x2 / 16) &&& _ = _
    rw [e30, show (0x0f0f0f0f0f0f0f0f : Nat) = ds 8 (fun _ => 0x0f) 8 by decide, ds_and (fun i _ => by have := hp i; have := hp (i + 1); show b2 (d i) + (b2 (d i) / 16 + 16 * (b2 (d (i + 1)) % 16)) < 256; omega) (fun _ _ => by decide)]
    refine ds_cg (fun i _ => ?_)
    have q1 := hp i
    have q2 := hp (i + 1)
    have := by_5 (b2 (d i) % 16) (by omega) (b2 (d i) / 16) (by omega) (b2 (d (i + 1)) % 16) (by omega)
    rw [show b2 (d i) % 16 + 16 * (b2 (d i) / 16) = b2 (d i) by omega] at this
    show (b2 (d i) + (b2 (d i) / 16 + 16 * (b2 (d (i + 1)) % 16))) &&& 0x0f = pb (d i)
    rw [this]; exact q1.2.2
  have l2 : x2 < 2 ^ 63 := by
    rw [e2]; unfold ds ds ds ds ds ds ds ds ds
    have := hp 0; have := hp 1; have := hp 2; have := hp 3; have := hp 4; have := hp 5; have := hp 6; have := hp 7
    simp only [Nat.zero_add, Nat.reduceAdd, Nat.reducePow]
    omega
  have q : ∀ i, pb (d i) ≤ 8 := fun i => by have := hp i; omega
  have q0 := q 0; have q1 := q 1; have q2 := q 2; have q3 := q 3; have q4 := q 4; have q5 := q 5; have q6 := q 6; have q7 := q 7
  have d9 : ∀ i, 8 ≤ i → d i = 0 := fun i hi => by
    show x / 2 ^ (8 * i) % 256 = 0
    rw [Nat.div_eq_of_lt (Nat.lt_of_lt_of_le h (Nat.pow_le_pow_right (by decide) (by omega)))]
  have z9 : ∀ i, 8 ≤ i → pb (d i) = 0 := fun i hi => by rw [d9 i hi]; rfl
  have e4 : x4 = ds 8 (fun i => pb (d i) + pb (d (i + 1))) 8 := by
    show x3 + x3 / 2 ^ (8 * 1) = _
    rw [e3, ds_shk 1 (fun i => by have := q i; show pb (d i) < 256; omega) z9, ds_add]
  have e5 : x5 = ds 8 (fun i => pb (d i) + pb (d (i + 1)) + (pb (d (i + 2)) + pb (d (i + 2 + 1)))) 8 := by
    show x4 + x4 / 2 ^ (8 * 2) = _
    rw [e4, ds_shk 2 (fun i => by have := q i; have := q (i + 1); show _ < 256; omega) (fun i hi => by show _ + _ = 0; rw [z9 i hi, z9 _ (by omega)]), ds_add]
  have e6 : x6 = ds 8 (fun i => pb (d i) + pb (d (i + 1)) + (pb (d (i + 2)) + pb (d (i + 2 + 1))) + (pb (d (i + 4)) + pb (d (i + 4 + 1)) + (pb (d (i + 4 + 2)) + pb (d (i + 4 + 2 + 1))))) 8 := by
    show x5 + x5 / 2 ^ (8 * 4) = _
    rw [e5, ds_shk 4 (fun i => by have := q i; have := q (i + 1); have := q (i + 2); have := q (i + 2 + 1); show _ < 256; omega) (fun i hi => by show _ + _ + (_ + _) = 0; rw [z9 i hi, z9 _ (by omega), z9 _ (by omega), z9 _ (by omega)]), ds_add]
  have l1 : x1 < 2 ^ 64 := Nat.lt_of_le_of_lt (Nat.sub_le _ _) h
  refine ⟨?_, l1, l2, ?_, ?_, ?_, ?_, ?_⟩
  · rw [e0]
    have : ds 8 (fun i => b1 (d i)) 8 + ds 8 (fun i => (d i / 2) &&& 0x55) 8 = ds 8 d 8 := by
      rw [ds_add]; exact ds_cg (fun i _ => Nat.sub_add_cancel (by_1' _ (hd i)))
    rw [← hx] at this
    omega
  · have : x2 / 16 ≤ x2 := Nat.div_le_self _ _
    omega
  · rw [e4]; exact ds_lt (w := 8) (n := 8) (fun i _ => by have := q i; have := q (i + 1); show _ < 256; omega)
  · rw [e5]; exact ds_lt (w := 8) (n := 8) (fun i _ => by have := q i; have := q (i + 1); have := q (i + 2); have := q (i + 2 + 1); show _ < 256; omega)
  · rw [e6]; exact ds_lt (w := 8) (n := 8) (fun i _ => by have := q i; have := q (i + 1); have := q (i + 2); have := q (i + 2 + 1); have := q (i + 4); have := q (i + 4 + 1); have := q (i + 4 + 2); have := q (i + 4 + 2 + 1); show _ < 256; omega)
  · rw [e6]
    have d0 : d 0 = x % 256 := by show x / 2 ^ 0 % 256 = _; rw [Nat.pow_zero, Nat.div_one]
    show _ = pb (x % 256) + pb (d 1) + pb (d 2) + pb (d 3) + pb (d 4) + pb (d 5) + pb (d 6) + pb (d 7)
    rw [← d0]
    show (pb (d 0) + pb (d 1) + (pb (d 2) + pb (d 3)) + (pb (d 4) + pb (d 5) + (pb (d 6) + pb (d 7))) + 256 * _) % 128 = _
    omega
/-! over words -/
def lsr (x : Int64) (k : Int32) : Int64 := (x.toUInt64 >>> (k.toInt64.toUInt64 &&& Int64.toUInt64 63)).toInt64
def bc1 (x : Int64) : Int64 := x - (lsr x 1 &&& 6148914691236517205)
def bc2 (x : Int64) : Int64 := (x &&& 3689348814741910323) + (lsr x 2 &&& 3689348814741910323)
def bc3 (x : Int64) : Int64 := (x + lsr x 4) &&& 1085102592571150095
def bc4 (x : Int64) : Int64 := x + lsr x 8
def bc5 (x : Int64) : Int64 := x + lsr x 16
def bc6 (x : Int64) : Int64 := x + lsr x 32
abbrev un (x : Int64) : Nat := x.toBitVec.toNat
theorem un_lsr {x : Int64} {k : Int32} (m : Nat) (hm : (k.toInt64.toUInt64 &&& Int64.toUInt64 63) = UInt64.ofNat m) (h : m < 64) : un (lsr x k) = un x / 2 ^ m := by
  show (x.toUInt64 >>> (k.toInt64.toUInt64 &&& Int64.toUInt64 63)).toNat = _
  rw [hm, UInt64.toNat_shiftRight, show (UInt64.ofNat m).toNat = m from UInt64.toNat_ofNat_of_lt' (by rw [UInt64.size]; omega), Nat.mod_eq_of_lt h, Nat.shiftRight_eq_div_pow]
  rfl
theorem un_and {x y : Int64} : un (x &&& y) = un x &&& un y := by show (x &&& y).toBitVec.toNat = _; rw [Int64.toBitVec_and, BitVec.toNat_and]
theorem un_add {x y : Int64} (h : un x + un y < 2 ^ 64) : un (x + y) = un x + un y := by show (x + y).toBitVec.toNat = _; rw [Int64.toBitVec_add, BitVec.toNat_add, Nat.mod_eq_of_lt h]
theorem un_sub {x y : Int64} (h : un y ≤ un x) : un (x - y) = un x - un y := by show (x - y).toBitVec.toNat = _; rw [Int64.toBitVec_sub, BitVec.toNat_sub_of_le (by rw [BitVec.le_def]; exact h)]
theorem pb_cnt {S : Nat → Bool} {b a : Nat} (h : ∀ t, t < 8 → S (a + t) = decide (b / 2 ^ t % 2 = 1)) : cntB (fun j => S (a + j)) 8 = pb b := by
  have z : ∀ t, t < 8 → (if S (a + t) = true then 1 else 0) = b / 2 ^ t % 2 := fun t ht => by
    rw [h t ht]
    by_cases c : b / 2 ^ t % 2 = 1
    · simp [c]
    · rw [decide_eq_false c, if_neg (by decide)]; omega
  show 0 + (if S (a + 0) = true then 1 else 0) + (if S (a + 1) = true then 1 else 0) + (if S (a + 2) = true then 1 else 0) + (if S (a + 3) = true then 1 else 0) + (if S (a + 4) = true then 1 else 0) + (if S (a + 5) = true then 1 else 0) + (if S (a + 6) = true then 1 else 0) + (if S (a + 7) = true then 1 else 0) = _
  rw [z 0 (by decide), z 1 (by decide), z 2 (by decide), z 3 (by decide), z 4 (by decide), z 5 (by decide), z 6 (by decide), z 7 (by decide)]
  unfold pb
  simp
theorem tb_nat {x : Int64} {j : Nat} : tb x j = decide (un x / 2 ^ j % 2 = 1) := by
  show (un x).testBit j = _
  rw [Nat.testBit_eq_decide_div_mod_eq]
theorem bc_eq (x : Int64) : (bc6 (bc5 (bc4 (bc3 (bc2 (bc1 x)))))).toInt32 &&& 127 = nI (cntB (tb x) 64) := by
  obtain ⟨h1, h2, h3, h4, h5, h6, h7, h8⟩ := bc_nat (x := un x) x.toBitVec.isLt
  have m1 : un (6148914691236517205 : Int64) = 0x5555555555555555 := by decide
  have m2 : un (3689348814741910323 : Int64) = 0x3333333333333333 := by decide
  have m3 : un (1085102592571150095 : Int64) = 0x0f0f0f0f0f0f0f0f := by decide
  have a1 : un (bc1 x) = un x - ((un x / 2) &&& 0x5555555555555555) := by
    have r : un (lsr x 1) = un x / 2 := by rw [un_lsr 1 rfl (by decide)]
    unfold bc1
    rw [un_sub (by rw [un_and, r, m1]; exact h1), un_and, r, m1]
  rw [← a1] at h2 h3 h4 h5 h6 h7 h8
  generalize bc1 x = y1 at h2 h3 h4 h5 h6 h7 h8 ⊢
  have a2 : un (bc2 y1) = (un y1 &&& 0x3333333333333333) + ((un y1 / 4) &&& 0x3333333333333333) := by
    have r : un (lsr y1 2) = un y1 / 4 := by rw [un_lsr 2 rfl (by decide)]
    unfold bc2
    rw [un_add (by rw [un_and, un_and, r, m2]; omega), un_and, un_and, r, m2]
  rw [← a2] at h3 h4 h5 h6 h7 h8
  generalize bc2 y1 = y2 at h3 h4 h5 h6 h7 h8 ⊢
  have a3 : un (bc3 y2) = (un y2 + un y2 / 16) &&& 0x0f0f0f0f0f0f0f0f := by
    have r : un (lsr y2 4) = un y2 / 16 := by rw [un_lsr 4 rfl (by decide)]
    unfold bc3
    rw [un_and, un_add (by rw [r]; omega), r, m3]
  rw [← a3] at h5 h6 h7 h8
  generalize bc3 y2 = y3 at h5 h6 h7 h8 ⊢
  have a4 : un (bc4 y3) = un y3 + un y3 / 256 := by
    have r : un (lsr y3 8) = un y3 / 256 := by rw [un_lsr 8 rfl (by decide)]
    unfold bc4
    rw [un_add (by rw [r]; omega), r]
  rw [← a4] at h5 h6 h7 h8
  generalize bc4 y3 = y4 at h5 h6 h7 h8 ⊢
  have a5 : un (bc5 y4) = un y4 + un y4 / 65536 := by
    have r : un (lsr y4 16) = un y4 / 65536 := by rw [un_lsr 16 rfl (by decide)]
    unfold bc5
    rw [un_add (by rw [r]; omega), r]
  rw [← a5] at h6 h7 h8
  generalize bc5 y4 = y5 at h6 h7 h8 ⊢
  have a6 : un (bc6 y5) = un y5 + un y5 / 4294967296 := by
    have r : un (lsr y5 32) = un y5 / 4294967296 := by rw [un_lsr 32 rfl (by decide)]
    unfold bc6
    rw [un_add (by rw [r]; omega), r]
  rw [← a6] at h7 h8
  generalize bc6 y5 = y6 at h7 h8 ⊢
  have hs : ∀ i, i < 8 → cntB (fun j => tb x (8 * i + j)) 8 = pb (un x / 2 ^ (8 * i) % 256) := fun i hi => pb_cnt (fun t ht => by
    rw [tb_nat]
    congr 1
    have : un x / 2 ^ (8 * i) % 256 / 2 ^ t % 2 = un x / 2 ^ (8 * i + t) % 2 := by
      rw [Nat.pow_add, ← Nat.div_div_eq_div_mul]
      rcases (show t = 0 ∨ t = 1 ∨ t = 2 ∨ t = 3 ∨ t = 4 ∨ t = 5 ∨ t = 6 ∨ t = 7 by omega) with rfl | rfl | rfl | rfl | rfl | rfl | rfl | rfl <;> simp only [Nat.reducePow] <;> omega
    rw [this])
  have hc : cntB (tb x) 64 = un y6 % 128 := by
    rw [h8, show (64 : Nat) = 8 * 7 + 8 by decide, cntB_add, hs 7 (by decide), show 8 * 7 = 8 * 6 + 8 by decide, cntB_add, hs 6 (by decide), show 8 * 6 = 8 * 5 + 8 by decide, cntB_add, hs 5 (by decide), show 8 * 5 = 8 * 4 + 8 by decide, cntB_add, hs 4 (by decide), show 8 * 4 = 8 * 3 + 8 by decide, cntB_add, hs 3 (by decide), show 8 * 3 = 8 * 2 + 8 by decide, cntB_add, hs 2 (by decide), show 8 * 2 = 8 * 1 + 8 by decide, cntB_add, hs 1 (by decide), show 8 * 1 = 8 * 0 + 8 by decide, cntB_add, hs 0 (by decide)]
    simp [cntB]
  refine Int32.toBitVec_inj.mp (BitVec.eq_of_toNat_eq ?_)
  rw [Int32.toBitVec_and, BitVec.toNat_and, hc]
  show (y6.toBitVec.signExtend 32).toNat &&& 127 = (un y6 % 128) % 2 ^ 32
  rw [BitVec.signExtend_eq_setWidth_of_le _ (by decide), BitVec.toNat_setWidth, show (127 : Nat) = 2 ^ 7 - 1 by decide, Nat.and_two_pow_sub_one_eq_mod]
  exact (fun z : Nat => (by omega : z % 2 ^ 32 % 2 ^ 7 = z % 128 % 2 ^ 32)) (un y6)
/-! counting over the words in use -/
theorem cnt_word {N W u : Nat} {f : Nat → Int64} {S : Nat → Bool} (h : bsI N W f S) (hu : u < N) : cntB S (64 * (u + 1)) = cntB S (64 * u) + cntB (tb (f u)) 64 := by
  rw [Nat.mul_succ, cntB_add]
  congr 1
  refine cntB_cg (fun j hj => ?_)
  have := h.2.1 (64 * u + j) (by omega)
  rw [show (64 * u + j) / 64 = u by omega, show (64 * u + j) % 64 = j by omega] at this
  exact this.symm
theorem cnt_all {N W n : Nat} {f : Nat → Int64} {S : Nat → Bool} (h : bsI N W f S) (hn : ∀ i, n ≤ i → S i = false) : cntB S (64 * W) = cntB S n := by
  have key : ∀ a b, (∀ i, a ≤ i → S i = false) → cntB S (a + b) = cntB S a := fun a b ha => by
    induction b with
    | zero => rfl
    | succ b ih => show cntB S (a + b) + (if S (a + b) = true then 1 else 0) = _; rw [ih, ha (a + b) (by omega)]; rfl
  have hW : ∀ i, 64 * W ≤ i → S i = false := fun i hi => h.2.2.1 i (by omega)
  rcases Nat.le_total n (64 * W) with c | c
  · rw [show 64 * W = n + (64 * W - n) by omega, key n _ hn]
  · rw [show n = 64 * W + (n - 64 * W) by omega, key _ _ hW]
/-- the first bit of a word -/
theorem tb_first {x : Int64} (h : ¬ x = 0) : ∃ j, j < 64 ∧ tb x j = true ∧ ∀ i, i < j → tb x i = false := by
  have hex : ∃ j, j < 64 ∧ tb x j = true := by
    refine Classical.byContradiction (fun hn => h (tb_ext (fun j hj => ?_)))
    rw [tb_0]
    cases e : tb x j
    · rfl
    · exact absurd ⟨j, hj, e⟩ hn
  have key : ∀ n, (∀ j, j < n → tb x j = false) ∨ ∃ j, j < n ∧ tb x j = true ∧ ∀ i, i < j → tb x i = false := by
    intro n
    induction n with
    | zero => exact Or.inl (fun j hj => absurd hj (Nat.not_lt_zero _))
    | succ n ih =>
      rcases ih with ih | ⟨j, h1, h2⟩
      · cases e : tb x n
        · refine Or.inl (fun j hj => ?_)
          by_cases c : j = n
          · rw [c]; exact e
          · exact ih j (by omega)
        · exact Or.inr ⟨n, Nat.lt_succ_self n, e, ih⟩
      · exact Or.inr ⟨j, Nat.lt_succ_of_lt h1, h2⟩
  rcases key 64 with k | ⟨j, h1, h2⟩
  · obtain ⟨j, h1, h2⟩ := hex
    rw [k j h1] at h2; cases h2
  · exact ⟨j, h1, h2⟩
