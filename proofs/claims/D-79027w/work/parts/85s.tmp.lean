set_option maxRecDepth 100000
abbrev cX8_init : ByteArray := prog_13_method_1_code
def yX8_init : MethodName := ⟨RX8, "<init>", "()V"⟩
def dkwX8_init_6 : List UInt8 := [16, 82, 27, 96, 2, 79, 132, 1, 1, 167, 255, 237, 177]
abbrev dktX8_init_6 : List UInt8 := dkwX8_init_6 ++ []
def dkwX8_init_5 : List UInt8 := [188, 11, 181, 0, 54, 42, 180, 0, 7, 3, 4, 79, 3, 60, 27, 16, 6, 162, 0, 19, 42, 180, 0, 7]
abbrev dktX8_init_5 : List UInt8 := dkwX8_init_5 ++ dktX8_init_6
def dkwX8_init_4 : List UInt8 := [188, 11, 181, 0, 45, 42, 16, 6, 188, 11, 181, 0, 48, 42, 16, 6, 188, 11, 181, 0, 51, 42, 16, 36]
abbrev dktX8_init_4 : List UInt8 := dkwX8_init_4 ++ dktX8_init_5
def dkwX8_init_3 : List UInt8 := [188, 10, 181, 0, 36, 42, 16, 6, 188, 11, 181, 0, 39, 42, 16, 6, 188, 11, 181, 0, 42, 42, 16, 6]
abbrev dktX8_init_3 : List UInt8 := dkwX8_init_3 ++ dktX8_init_4
def dkwX8_init_2 : List UInt8 := [17, 0, 216, 188, 11, 181, 0, 26, 42, 16, 80, 188, 10, 181, 0, 29, 42, 2, 181, 0, 32, 42, 16, 89]
abbrev dktX8_init_2 : List UInt8 := dkwX8_init_2 ++ dktX8_init_3
def dkwX8_init_1 : List UInt8 := [188, 10, 181, 0, 17, 42, 16, 36, 188, 11, 181, 0, 20, 42, 17, 2, 22, 188, 10, 181, 0, 23, 42]
abbrev dktX8_init_1 : List UInt8 := dkwX8_init_1 ++ dktX8_init_2
def dkwX8_init_0 : List UInt8 := [42, 183, 0, 1, 42, 16, 89, 188, 10, 181, 0, 7, 42, 16, 36, 188, 11, 181, 0, 13, 42, 16, 89]
abbrev dktX8_init_0 : List UInt8 := dkwX8_init_0 ++ dktX8_init_1
theorem dksX8_init_0 : cX8_init.data.toList.drop 0 = dktX8_init_0 := by decide +kernel
theorem dksX8_init_1 : cX8_init.data.toList.drop 23 = dktX8_init_1 := dk_seg dksX8_init_0 23 rfl rfl
theorem dksX8_init_2 : cX8_init.data.toList.drop 46 = dktX8_init_2 := dk_seg dksX8_init_1 23 rfl rfl
theorem dksX8_init_3 : cX8_init.data.toList.drop 70 = dktX8_init_3 := dk_seg dksX8_init_2 24 rfl rfl
theorem dksX8_init_4 : cX8_init.data.toList.drop 94 = dktX8_init_4 := dk_seg dksX8_init_3 24 rfl rfl
theorem dksX8_init_5 : cX8_init.data.toList.drop 118 = dktX8_init_5 := dk_seg dksX8_init_4 24 rfl rfl
theorem dksX8_init_6 : cX8_init.data.toList.drop 142 = dktX8_init_6 := dk_seg dksX8_init_5 24 rfl rfl
theorem dX8_init_0 : decode cX8_init 0 = .ok (.aload_n 0, 1) := dk_42 (dk_at dksX8_init_0 0 rfl rfl)
theorem dX8_init_1 : decode cX8_init 1 = .ok (.invokespecial 1, 3) := dk_183 0 1 (dk_at dksX8_init_0 1 rfl rfl)
theorem dX8_init_4 : decode cX8_init 4 = .ok (.aload_n 0, 1) := dk_42 (dk_at dksX8_init_0 4 rfl rfl)
theorem dX8_init_5 : decode cX8_init 5 = .ok (.bipush 89, 2) := dk_16 89 (dk_at dksX8_init_0 5 rfl rfl)
theorem dX8_init_7 : decode cX8_init 7 = .ok (.newarray .int, 2) := dk_188_10 (dk_at dksX8_init_0 7 rfl rfl)
theorem dX8_init_9 : decode cX8_init 9 = .ok (.putfield 7, 3) := dk_181 0 7 (dk_at dksX8_init_0 9 rfl rfl)
theorem dX8_init_12 : decode cX8_init 12 = .ok (.aload_n 0, 1) := dk_42 (dk_at dksX8_init_0 12 rfl rfl)
theorem dX8_init_13 : decode cX8_init 13 = .ok (.bipush 36, 2) := dk_16 36 (dk_at dksX8_init_0 13 rfl rfl)
theorem dX8_init_15 : decode cX8_init 15 = .ok (.newarray .long, 2) := dk_188_11 (dk_at dksX8_init_0 15 rfl rfl)
theorem dX8_init_17 : decode cX8_init 17 = .ok (.putfield 13, 3) := dk_181 0 13 (dk_at dksX8_init_0 17 rfl rfl)
theorem dX8_init_20 : decode cX8_init 20 = .ok (.aload_n 0, 1) := dk_42 (dk_at dksX8_init_0 20 rfl rfl)
theorem dX8_init_21 : decode cX8_init 21 = .ok (.bipush 89, 2) := dk_16 89 (dk_at dksX8_init_0 21 rfl rfl)
theorem dX8_init_23 : decode cX8_init 23 = .ok (.newarray .int, 2) := dk_188_10 (dk_at dksX8_init_1 0 rfl rfl)
theorem dX8_init_25 : decode cX8_init 25 = .ok (.putfield 17, 3) := dk_181 0 17 (dk_at dksX8_init_1 2 rfl rfl)
theorem dX8_init_28 : decode cX8_init 28 = .ok (.aload_n 0, 1) := dk_42 (dk_at dksX8_init_1 5 rfl rfl)
theorem dX8_init_29 : decode cX8_init 29 = .ok (.bipush 36, 2) := dk_16 36 (dk_at dksX8_init_1 6 rfl rfl)
theorem dX8_init_31 : decode cX8_init 31 = .ok (.newarray .long, 2) := dk_188_11 (dk_at dksX8_init_1 8 rfl rfl)
theorem dX8_init_33 : decode cX8_init 33 = .ok (.putfield 20, 3) := dk_181 0 20 (dk_at dksX8_init_1 10 rfl rfl)
theorem dX8_init_36 : decode cX8_init 36 = .ok (.aload_n 0, 1) := dk_42 (dk_at dksX8_init_1 13 rfl rfl)
theorem dX8_init_37 : decode cX8_init 37 = .ok (.sipush 534, 3) := dk_17 2 22 (dk_at dksX8_init_1 14 rfl rfl)
theorem dX8_init_40 : decode cX8_init 40 = .ok (.newarray .int, 2) := dk_188_10 (dk_at dksX8_init_1 17 rfl rfl)
theorem dX8_init_42 : decode cX8_init 42 = .ok (.putfield 23, 3) := dk_181 0 23 (dk_at dksX8_init_1 19 rfl rfl)
theorem dX8_init_45 : decode cX8_init 45 = .ok (.aload_n 0, 1) := dk_42 (dk_at dksX8_init_1 22 rfl rfl)
theorem dX8_init_46 : decode cX8_init 46 = .ok (.sipush 216, 3) := dk_17 0 216 (dk_at dksX8_init_2 0 rfl rfl)
theorem dX8_init_49 : decode cX8_init 49 = .ok (.newarray .long, 2) := dk_188_11 (dk_at dksX8_init_2 3 rfl rfl)
theorem dX8_init_51 : decode cX8_init 51 = .ok (.putfield 26, 3) := dk_181 0 26 (dk_at dksX8_init_2 5 rfl rfl)
theorem dX8_init_54 : decode cX8_init 54 = .ok (.aload_n 0, 1) := dk_42 (dk_at dksX8_init_2 8 rfl rfl)
theorem dX8_init_55 : decode cX8_init 55 = .ok (.bipush 80, 2) := dk_16 80 (dk_at dksX8_init_2 9 rfl rfl)
theorem dX8_init_57 : decode cX8_init 57 = .ok (.newarray .int, 2) := dk_188_10 (dk_at dksX8_init_2 11 rfl rfl)
theorem dX8_init_59 : decode cX8_init 59 = .ok (.putfield 29, 3) := dk_181 0 29 (dk_at dksX8_init_2 13 rfl rfl)
theorem dX8_init_62 : decode cX8_init 62 = .ok (.aload_n 0, 1) := dk_42 (dk_at dksX8_init_2 16 rfl rfl)
theorem dX8_init_63 : decode cX8_init 63 = .ok (.iconst (-1), 1) := dk_2 (dk_at dksX8_init_2 17 rfl rfl)
theorem dX8_init_64 : decode cX8_init 64 = .ok (.putfield 32, 3) := dk_181 0 32 (dk_at dksX8_init_2 18 rfl rfl)
theorem dX8_init_67 : decode cX8_init 67 = .ok (.aload_n 0, 1) := dk_42 (dk_at dksX8_init_2 21 rfl rfl)
theorem dX8_init_68 : decode cX8_init 68 = .ok (.bipush 89, 2) := dk_16 89 (dk_at dksX8_init_2 22 rfl rfl)
theorem dX8_init_70 : decode cX8_init 70 = .ok (.newarray .int, 2) := dk_188_10 (dk_at dksX8_init_3 0 rfl rfl)
theorem dX8_init_72 : decode cX8_init 72 = .ok (.putfield 36, 3) := dk_181 0 36 (dk_at dksX8_init_3 2 rfl rfl)
theorem dX8_init_75 : decode cX8_init 75 = .ok (.aload_n 0, 1) := dk_42 (dk_at dksX8_init_3 5 rfl rfl)
theorem dX8_init_76 : decode cX8_init 76 = .ok (.bipush 6, 2) := dk_16 6 (dk_at dksX8_init_3 6 rfl rfl)
theorem dX8_init_78 : decode cX8_init 78 = .ok (.newarray .long, 2) := dk_188_11 (dk_at dksX8_init_3 8 rfl rfl)
theorem dX8_init_80 : decode cX8_init 80 = .ok (.putfield 39, 3) := dk_181 0 39 (dk_at dksX8_init_3 10 rfl rfl)
theorem dX8_init_83 : decode cX8_init 83 = .ok (.aload_n 0, 1) := dk_42 (dk_at dksX8_init_3 13 rfl rfl)
theorem dX8_init_84 : decode cX8_init 84 = .ok (.bipush 6, 2) := dk_16 6 (dk_at dksX8_init_3 14 rfl rfl)
theorem dX8_init_86 : decode cX8_init 86 = .ok (.newarray .long, 2) := dk_188_11 (dk_at dksX8_init_3 16 rfl rfl)
theorem dX8_init_88 : decode cX8_init 88 = .ok (.putfield 42, 3) := dk_181 0 42 (dk_at dksX8_init_3 18 rfl rfl)
theorem dX8_init_91 : decode cX8_init 91 = .ok (.aload_n 0, 1) := dk_42 (dk_at dksX8_init_3 21 rfl rfl)
theorem dX8_init_92 : decode cX8_init 92 = .ok (.bipush 6, 2) := dk_16 6 (dk_at dksX8_init_3 22 rfl rfl)
theorem dX8_init_94 : decode cX8_init 94 = .ok (.newarray .long, 2) := dk_188_11 (dk_at dksX8_init_4 0 rfl rfl)
theorem dX8_init_96 : decode cX8_init 96 = .ok (.putfield 45, 3) := dk_181 0 45 (dk_at dksX8_init_4 2 rfl rfl)
theorem dX8_init_99 : decode cX8_init 99 = .ok (.aload_n 0, 1) := dk_42 (dk_at dksX8_init_4 5 rfl rfl)
theorem dX8_init_100 : decode cX8_init 100 = .ok (.bipush 6, 2) := dk_16 6 (dk_at dksX8_init_4 6 rfl rfl)
theorem dX8_init_102 : decode cX8_init 102 = .ok (.newarray .long, 2) := dk_188_11 (dk_at dksX8_init_4 8 rfl rfl)
theorem dX8_init_104 : decode cX8_init 104 = .ok (.putfield 48, 3) := dk_181 0 48 (dk_at dksX8_init_4 10 rfl rfl)
theorem dX8_init_107 : decode cX8_init 107 = .ok (.aload_n 0, 1) := dk_42 (dk_at dksX8_init_4 13 rfl rfl)
theorem dX8_init_108 : decode cX8_init 108 = .ok (.bipush 6, 2) := dk_16 6 (dk_at dksX8_init_4 14 rfl rfl)
theorem dX8_init_110 : decode cX8_init 110 = .ok (.newarray .long, 2) := dk_188_11 (dk_at dksX8_init_4 16 rfl rfl)
theorem dX8_init_112 : decode cX8_init 112 = .ok (.putfield 51, 3) := dk_181 0 51 (dk_at dksX8_init_4 18 rfl rfl)
theorem dX8_init_115 : decode cX8_init 115 = .ok (.aload_n 0, 1) := dk_42 (dk_at dksX8_init_4 21 rfl rfl)
theorem dX8_init_116 : decode cX8_init 116 = .ok (.bipush 36, 2) := dk_16 36 (dk_at dksX8_init_4 22 rfl rfl)
theorem dX8_init_118 : decode cX8_init 118 = .ok (.newarray .long, 2) := dk_188_11 (dk_at dksX8_init_5 0 rfl rfl)
theorem dX8_init_120 : decode cX8_init 120 = .ok (.putfield 54, 3) := dk_181 0 54 (dk_at dksX8_init_5 2 rfl rfl)
theorem dX8_init_123 : decode cX8_init 123 = .ok (.aload_n 0, 1) := dk_42 (dk_at dksX8_init_5 5 rfl rfl)
theorem dX8_init_124 : decode cX8_init 124 = .ok (.getfield 7, 3) := dk_180 0 7 (dk_at dksX8_init_5 6 rfl rfl)
theorem dX8_init_127 : decode cX8_init 127 = .ok (.iconst 0, 1) := dk_3 (dk_at dksX8_init_5 9 rfl rfl)
theorem dX8_init_128 : decode cX8_init 128 = .ok (.iconst 1, 1) := dk_4 (dk_at dksX8_init_5 10 rfl rfl)
theorem dX8_init_129 : decode cX8_init 129 = .ok (.iastore, 1) := dk_79 (dk_at dksX8_init_5 11 rfl rfl)
theorem dX8_init_130 : decode cX8_init 130 = .ok (.iconst 0, 1) := dk_3 (dk_at dksX8_init_5 12 rfl rfl)
theorem dX8_init_131 : decode cX8_init 131 = .ok (.istore_n 1, 1) := dk_60 (dk_at dksX8_init_5 13 rfl rfl)
theorem dX8_init_132 : decode cX8_init 132 = .ok (.iload_n 1, 1) := dk_27 (dk_at dksX8_init_5 14 rfl rfl)
theorem dX8_init_133 : decode cX8_init 133 = .ok (.bipush 6, 2) := dk_16 6 (dk_at dksX8_init_5 15 rfl rfl)
theorem dX8_init_135 : decode cX8_init 135 = .ok (.if_icmp .ge 19, 3) := dk_162 0 19 (dk_at dksX8_init_5 17 rfl rfl)
theorem dX8_init_138 : decode cX8_init 138 = .ok (.aload_n 0, 1) := dk_42 (dk_at dksX8_init_5 20 rfl rfl)
theorem dX8_init_139 : decode cX8_init 139 = .ok (.getfield 7, 3) := dk_180 0 7 (dk_at dksX8_init_5 21 rfl rfl)
theorem dX8_init_142 : decode cX8_init 142 = .ok (.bipush 82, 2) := dk_16 82 (dk_at dksX8_init_6 0 rfl rfl)
theorem dX8_init_144 : decode cX8_init 144 = .ok (.iload_n 1, 1) := dk_27 (dk_at dksX8_init_6 2 rfl rfl)
theorem dX8_init_145 : decode cX8_init 145 = .ok (.iadd, 1) := dk_96 (dk_at dksX8_init_6 3 rfl rfl)
theorem dX8_init_146 : decode cX8_init 146 = .ok (.iconst (-1), 1) := dk_2 (dk_at dksX8_init_6 4 rfl rfl)
theorem dX8_init_147 : decode cX8_init 147 = .ok (.iastore, 1) := dk_79 (dk_at dksX8_init_6 5 rfl rfl)
theorem dX8_init_148 : decode cX8_init 148 = .ok (.iinc 1 1, 3) := dk_132 1 1 (dk_at dksX8_init_6 6 rfl rfl)
theorem dX8_init_151 : decode cX8_init 151 = .ok (.goto (-19), 3) := dk_167 255 237 (dk_at dksX8_init_6 9 rfl rfl)
theorem dX8_init_154 : decode cX8_init 154 = .ok (.return_, 1) := dk_177 (dk_at dksX8_init_6 12 rfl rfl)
/-! the curve -/
def crvV (g : Nat → Int32) (h : Nat → Int64) (p : Nat) (e : Int32) : Int64 := aloV g h p e (g (64 + 3 * p + 2))
def crvN (g : Nat → Int32) (h : Nat → Int64) (p e : Nat) : Int64 := crvV g h p (nI e)
def marV (g : Nat → Int32) (h : Nat → Int64) (p e : Nat) : Int64 := crvN g h p (e + 1) - crvN g h p e
def kinB (g : Nat → Int32) (h : Nat → Int64) (p e : Nat) : Bool := decide (¬ marV g h p (e - 1) = marV g h p e)
theorem in_1_98 {e : Nat} (h1 : 1 ≤ e) (h2 : e ≤ 9998) : inB (nI e) 1 9998 = true := by
  simp only [inB, Bool.and_eq_true, decide_eq_true_eq]
  exact ⟨fun q => nI_nlt h1 (by omega) q, fun q => nI_nlt h2 (by omega) q⟩
theorem in_nat1 {x : Int32} (h : inB x 1 9998 = true) : ∃ j, 1 ≤ j ∧ j ≤ 9998 ∧ x = nI j := by
  simp only [inB, Bool.and_eq_true, decide_eq_true_eq] at h
  obtain ⟨j, hj, e⟩ := nI_of2 (x := x) (M := 9998) (n := 9998) (by decide) (fun q => h.1 (Int32.lt_trans q (by decide))) (Int32.not_lt.mp h.2)
  refine ⟨j, ?_, hj, e⟩
  rcases Nat.eq_zero_or_pos j with h0 | h0
  · subst h0; subst e; exact absurd (by decide) h.1
  · exact h0
/-- how many kinks there are up to place i -/
def knkC (c : Nat → Int64) : Nat → Int32
  | 0 => 0
  | i + 1 => knkC c i + (if c (i + 2) - c (i + 1) = c (i + 1) - c i then 0 else 1)
/-- the first place from e on, of n places -/
def fstN (b : Nat → Bool) : Nat → Nat → Option Nat
  | 0, _ => none
  | n + 1, e => if b e = true then some e else fstN b n (e + 1)
def stpS (c : Nat → Int64) : Nat → Int64 × Nat
  | 0 => (c 1 - c 0, 0)
  | i + 1 => if (stpS c i).1 < c (i + 2) - c (i + 1) then (c (i + 2) - c (i + 1), i + 1) else stpS c i
def prtV (g : Nat → Int32) (h : Nat → Int64) (p : Nat) (e : Int32) (pt : Nat) : Int64 := if pt < 4 then txPn g (e + g (64 + 3 * p + 1)) 1 (pt + 2) else lefV g (fun k => h (6 * p + k)) e (e + g (64 + 3 * p + 1)) (g (64 + 3 * p + 2)) 1 (pt - 4 + 1)
def prtN (g : Nat → Int32) (h : Nat → Int64) (p e pt : Nat) : Int64 := prtV g h p (nI e) pt
theorem prtV_last (g : Nat → Int32) (h : Nat → Int64) (p : Nat) (e : Int32) : prtV g h p e (3 + ncrG g) = crvV g h p e := by
  unfold prtV crvV aloV txV lefV
  by_cases h0 : ncrG g = 0
  · rw [h0, if_pos (by omega)]; rfl
  · rw [if_neg (by omega), show 3 + ncrG g - 4 + 1 = ncrG g by omega]
theorem caseL.rest {g : Nat → Int32} {br : Nat → Int64} {e x d f : Int32} {L : TL} (h : caseL g br e x d f L) {k : Nat} (hk : k < ncrG g) : L 7 k = lefV g br e x d f (k + 1) := (h.2.2.2.2.2.2 k hk).2.2.2
/-- a part bends at e -/
def bndB (g : Nat → Int32) (h : Nat → Int64) (p e pt : Nat) : Bool := decide (¬ prtN g h p e pt - prtN g h p (e - 1) pt = prtN g h p (e + 1) pt - prtN g h p e pt)
def cauN (b : Nat → Bool) : Nat → Nat → Nat
  | 0, pt => pt
  | n + 1, pt => if b pt = true then pt else cauN b n (pt + 1)
theorem fstN_some {b : Nat → Bool} {n e x : Nat} (h : fstN b n e = some x) : e ≤ x ∧ x < e + n := by
  induction n generalizing e with
  | zero => cases h
  | succ n ih =>
    rw [fstN] at h
    split at h
    · cases h; omega
    · have := ih h; omega
/-- where nextKink begins -/
def nkS (e : Int32) : Nat := if e < 1 then 1 else if e < 9998 then e.toNatClampNeg + 1 else 9999
theorem nkS_1 {e : Int32} (h : ¬ 1 ≤ e) : nkS e = 1 := by unfold nkS; rw [if_pos (Int32.not_le.mp h)]
theorem nkS_2 {e : Int32} (h : 1 ≤ e) (h2 : ¬ 9998 ≤ e) : e + 1 = nI (nkS e) ∧ nkS e ≤ 9998 := by
  obtain ⟨j, hj, hj2⟩ := nI_of2 (x := e) (M := 9998) (n := 9998) (by decide) (fun q => absurd (Int32.lt_of_lt_of_le q (by decide : (0 : Int32) ≤ 1)) (Int32.not_lt.mpr h)) (Int32.le_of_lt (Int32.not_le.mp h2))
  subst hj2
  have h3 : nI j < 9998 := Int32.not_le.mp h2
  have h4 : j < 9998 := (nI_ltI (b := 9998) (by omega) (by decide)).mp h3
  unfold nkS
  rw [if_neg (Int32.not_lt.mpr h), if_pos h3, nI_clamp (by omega), nI_1]
  exact ⟨rfl, by omega⟩
theorem nkS_3 {e : Int32} (h : 9998 ≤ e) : nkS e = 9999 := by
  unfold nkS
  rw [if_neg (fun q => absurd (Int32.lt_of_le_of_lt (Int32.le_trans (by decide : (1 : Int32) ≤ 9998) h) q) (by intro z; exact Int32.lt_irrefl z)), if_neg (Int32.not_lt.mpr h)]
theorem ddiv_n {a : Int64} {x : Int32} (h : ¬ x = 0) : vf_n64 (FP.ddiv (FP.l2d a) (FP.l2d (1000000 * x.toInt64))) := by
  obtain ⟨b1, b2⟩ := mil_bd h
  obtain ⟨s, c, q, e1, c1, c2, c3⟩ := round_nz b1 b2
  obtain ⟨t, d, r, e2, hd⟩ := dec_nz (s := s) c1 c2 c3
  have hx : FP.Core.decode FP.Core.b64 (FP.Core.l2d a).toNat ≠ .nan := by rw [l2d_nat]; exact val_ok (enc_ok okD_round).2
  have key : okD (FP.Core.quotient FP.Core.b64 (FP.Core.decode FP.Core.b64 (FP.Core.l2d a).toNat) (FP.Core.decode FP.Core.b64 (FP.Core.l2d (1000000 * x.toInt64)).toNat)) := by
    rw [l2d_nat (1000000 * x.toInt64), e1, e2]
    generalize FP.Core.decode FP.Core.b64 (FP.Core.l2d a).toNat = y at hx
    cases y with
    | nan => exact absurd rfl hx
    | inf s => exact trivial
    | fin s' c' q' =>
      show okD (if d = 0 then _ else _)
      rw [if_neg hd]
      exact okD_ratio
  obtain ⟨k1, k2⟩ := enc_ok key
  show _ &&& _ ≤ (0x7ff0000000000000 : UInt64)
  rw [UInt64.le_iff_toNat_le, UInt64.toNat_and]
  show (FP.Core.ddiv _ _).toNat &&& 0x7fffffffffffffff ≤ 0x7ff0000000000000
  have e3 : (FP.Core.ddiv (FP.Core.l2d a) (FP.Core.l2d (1000000 * x.toInt64))).toNat = FP.Core.encode FP.Core.b64 (FP.Core.quotient FP.Core.b64 (FP.Core.decode FP.Core.b64 (FP.Core.l2d a).toNat) (FP.Core.decode FP.Core.b64 (FP.Core.l2d (1000000 * x.toInt64)).toNat)) := by
    show (UInt64.ofNat _).toNat = _
    rw [UInt64.toNat_ofNat_of_lt']
    · rfl
    · exact k1
  rw [e3, show (0x7fffffffffffffff : Nat) = 2 ^ 63 - 1 by decide, Nat.and_two_pow_sub_one_eq_mod]
  exact k2
/-- the mean of the dependents -/
def avdV (s : Nat) : UInt32 := FP.fdiv (FP.i2f (nI s)) 1086324736
theorem avd_n : ∀ s, s < 55 → vf_n32 (avdV s) := by unfold vf_n32; decide +kernel
def dsum (g : Nat → Int32) : Nat → Nat
  | 0 => 0
  | p + 1 => dsum g p + dnG g p
theorem dsum_le {g : Nat → Int32} (hg : WFg g) : ∀ p, p ≤ 6 → dsum g p ≤ 9 * p := by
  intro p
  induction p with
  | zero => intro _; exact Nat.le_refl _
  | succ p ih => intro h; have := (hg.2.2.2.1 p (by omega)).2; have := ih (by omega); rw [dsum]; omega
def incG (g : Nat → Int32) (p : Nat) : Int32 := g (64 + 3 * p + 0) + g (64 + 3 * p + 1)
def avrV (g : Nat → Int32) (h : Nat → Int64) (p : Nat) : UInt64 := FP.ddiv (FP.l2d (ownV g h p)) (FP.l2d (1000000 * (incG g p).toInt64))
theorem mil_ne {x : Int32} (h : ¬ x = 0) : ¬ (1000000 : Int64) * x.toInt64 = 0 := by
  intro z
  apply h
  have hx := Int32.toInt_lt x
  have hx2 := Int32.le_toInt x
  have e : ((1000000 : Int64) * x.toInt64).toInt = 1000000 * x.toInt := by
    rw [Int64.toInt_mul, Int32.toInt_toInt64]
    have : (1000000 : Int64).toInt = 1000000 := by decide
    rw [this]
    exact Int.bmod_eq_of_le (by omega) (by omega)
  rw [z] at e
  have : (0 : Int64).toInt = 0 := by decide
  rw [this] at e
  exact Int32.toInt_inj.mp (by have : (0 : Int32).toInt = 0 := by decide
                               omega)
