/-! plain law: the component's and the reference's numbers are the same, where the rows' entries are in their ranges -/
theorem i64x {a b : Int64} (h : a.toInt = b.toInt) : a = b := Int64.toInt_inj.mp h
theorem lNi {n : Nat} (h : n < 2 ^ 63) : (lN n).toInt = (n : Int) := lg_ofNat_toInt h
theorem lNs {a b : Nat} (ha : a < 2 ^ 62) (hb : b < 2 ^ 62) : (lN a - lN b).toInt = (a : Int) - b := by
  rw [Int64.toInt_sub, lNi (by omega), lNi (by omega)]
  exact Int.bmod_eq_of_le (by omega) (by omega)
theorem i64z : (0 : Int64).toInt = 0 := by decide
theorem maxL_eq (v : Int64) : posL v = maxL 0 v := by
  unfold posL maxL
  simp only [Int64.lt_iff_toInt_lt, i64z]
  split <;> split <;> first | rfl | omega | (apply i64x; rw [i64z]; omega)
theorem minL_eq (a b : Int64) : lesL a b = minL a b := by
  unfold lesL minL
  simp only [Int64.lt_iff_toInt_lt]
  split <;> split <;> first | rfl | omega | (apply i64x; omega)
def RNG (g : Nat → Int32) : Prop := (∀ i, i < 82 → ∃ n, n ≤ 9999 ∧ g i = nI n) ∧ ∀ k, k < 6 → g (28 + 6 * k + 5) = 0 ∨ g (28 + 6 * k + 5) = 1
theorem fmul {F T : Nat} (hF : F ≤ 2) (hT : T ≤ 9999) : (nI F * nI T).toInt64 = (nI T).toInt64 * (nI F).toInt64 := by
  have h : F * T ≤ 2 * 9999 := Nat.mul_le_mul hF hT
  rw [pk_mul, nI_l (by omega), nI_l (by omega), nI_l (by omega), lN_mul, Nat.mul_comm]
theorem abv_eq {X F T : Nat} (hX : X ≤ 100000) (hF : F ≤ 2) (hT : T ≤ 9999) : abvK (nI X) (nI F) (nI T) = if nI X ≤ nI F * nI T then 0 else (nI X - nI F * nI T).toInt64 := by
  have h : F * T ≤ 2 * 9999 := Nat.mul_le_mul hF hT
  unfold abvK maxL
  rw [nI_l (by omega), nI_l (by omega), nI_l (by omega), lN_mul, Nat.mul_comm T F, pk_mul]
  simp only [nI_leI (show X < 2 ^ 31 by omega) (show F * T < 2 ^ 31 by omega), Int64.lt_iff_toInt_lt, i64z, lNs (show X < 2 ^ 62 by omega) (show F * T < 2 ^ 62 by omega)]
  by_cases hc : X ≤ F * T
  · rw [if_pos hc]
    split
    · rfl
    · apply i64x; rw [i64z, lNs (by omega) (by omega)]; omega
  · rw [if_neg hc, if_neg (by omega), pk_sub (by omega), nI_l (by omega), lN_sub (by omega)]
theorem abo_eq (r : Int32) {X F T : Nat} (hX : X ≤ 100000) (hF : F ≤ 2) (hT : T ≤ 9999) : aboL r (nI X) (nI F * nI T) = r.toInt64 * 1000 * abvK (nI X) (nI F) (nI T) := by
  rw [abv_eq hX hF hT]
  unfold aboL
  split
  · rw [Int64.mul_zero]
  · rw [Int64.mul_comm 1000]
theorem p0_eq {g : Nat → Int32} (hg : RNG g) {X F : Nat} (hX : X ≤ 100000) (hF : F ≤ 2) {e d : Int32} : p0K g e (nI X) d (nI F) = txP0 g (nI X) (nI F) := by
  obtain ⟨a, ha, ea⟩ := hg.1 13 (by omega)
  obtain ⟨b, hb, eb⟩ := hg.1 14 (by omega)
  unfold p0K alwK txP0
  rw [maxL_eq, ea, eb, abo_eq _ hX hF hb, fmul hF ha, ← Int64.mul_assoc, Int64.mul_comm 1000000]
theorem p1_eq {g : Nat → Int32} (hg : RNG g) {X F : Nat} (hX : X ≤ 100000) (hF : F ≤ 2) {e d : Int32} : p1K g e (nI X) d (nI F) = txP1 g (nI X) (nI F) := by
  unfold p1K txP1
  rw [maxL_eq, p0_eq hg hX hF, Int64.mul_comm 1000000]
theorem p3_eq {g : Nat → Int32} (hg : RNG g) {X F : Nat} (hX : X ≤ 100000) (hF : F ≤ 2) {e d : Int32} : p3K g e (nI X) d (nI F) = txP3 g (nI X) (nI F) := by
  obtain ⟨b, hb, eb⟩ := hg.1 16 (by omega)
  unfold p3K minK txP3
  rw [eb, abo_eq _ hX hF hb]
theorem sch_eq {g : Nat → Int32} (hg : RNG g) {F : Nat} (hF : F ≤ 2) (nb : Nat) (hb : nb ≤ 6) (tx : Int64) : ∀ k, k ≤ nb → schK g nb tx (nI F) k = schS g nb tx (nI F) k := by
  intro k
  induction k with
  | zero => intro _; rfl
  | succ k ih =>
    intro hk
    obtain ⟨a, ha, ea⟩ := hg.1 (1 + 2 * k) (by omega)
    have e1 : 1000000 * (nI F * g (1 + 2 * k)).toInt64 = (g (1 + 2 * k)).toInt64 * 1000000 * (nI F).toInt64 := by
      rw [ea, fmul hF ha, ← Int64.mul_assoc, Int64.mul_comm 1000000]
    have e2 : lesL tx (schT g nb tx (nI F) k) = minL tx (schKt g nb (nI F) k) := by
      unfold schT schKt
      by_cases hc : k + 1 < nb
      · rw [if_pos hc, if_pos hc, minL_eq]
        obtain ⟨a2, ha2, ea2⟩ := hg.1 (1 + 2 * (k + 1)) (by omega)
        rw [show 1 + 2 * k + 2 = 1 + 2 * (k + 1) by omega, ea2, fmul hF ha2, ← Int64.mul_assoc, Int64.mul_comm 1000000]
      · rw [if_neg hc, if_neg hc]
        unfold lesL minL
        have := Int64.toInt_lt tx
        have e9 : (9223372036854775807 : Int64).toInt = 9223372036854775807 := by decide
        simp only [Int64.lt_iff_toInt_lt, e9]
        rw [if_neg (by omega : ¬ (9223372036854775807 : Int) < tx.toInt)]
        split <;> rfl
    show schK g nb tx (nI F) k + _ = schS g nb tx (nI F) k + _
    rw [ih (by omega), maxL_eq, e1, e2]
theorem p2_eq {g : Nat → Int32} (hg : RNG g) {X F : Nat} (hX : X ≤ 100000) (hF : F ≤ 2) {e d : Int32} (nb : Nat) (hb : nb ≤ 6) : p2K g e (nI X) d (nI F) nb = txP2 g nb (nI X) (nI F) := by
  unfold p2K txP2
  rw [p1_eq hg hX hF, sch_eq hg hF nb hb _ nb (Nat.le_refl _)]
theorem p4_eq {g : Nat → Int32} (hg : RNG g) {X F : Nat} (hX : X ≤ 100000) (hF : F ≤ 2) {e d : Int32} (nb : Nat) (hb : nb ≤ 6) : p4K g e (nI X) d (nI F) nb = txP4 g nb (nI X) (nI F) := by
  unfold p4K txP4 maxL
  rw [p2_eq hg hX hF nb hb, p3_eq hg hX hF]
theorem cha_eq {g : Nat → Int32} (hg : RNG g) {X F : Nat} (hX : X ≤ 100000) (hF : F ≤ 2) (nch : Nat) (hc : nch ≤ 4) : ∀ k, k ≤ nch → chaK g (nI X) (nI F) k = chaS g (nI X) (nI F) k := by
  intro k
  induction k with
  | zero => intro _; rfl
  | succ k ih =>
    intro hk
    obtain ⟨a, ha, ea⟩ := hg.1 (19 + 2 * k) (by omega)
    have h : F * a ≤ 2 * 9999 := Nat.mul_le_mul hF ha
    show chaK g (nI X) (nI F) k + _ = chaS g (nI X) (nI F) k + _
    rw [ih (by omega), ea]
    congr 1
    rw [pk_mul, nI_l (by omega), nI_l (by omega), nI_l (by omega), lN_mul, Nat.mul_comm a F]
    simp only [lN_lt (show X < 2 ^ 31 by omega) (show F * a < 2 ^ 31 by omega), nI_leI (show F * a < 2 ^ 31 by omega) (show X < 2 ^ 31 by omega)]
    by_cases hc : X < F * a
    · rw [if_pos hc, if_neg (by omega)]
    · rw [if_neg hc, if_pos (by omega), Int64.mul_comm 1000000]
theorem p5_eq {g : Nat → Int32} (hg : RNG g) {X F : Nat} (hX : X ≤ 100000) (hF : F ≤ 2) {e d : Int32} (nb nch : Nat) (hb : nb ≤ 6) (hc : nch ≤ 4) : p5K g e (nI X) d (nI F) nb nch = txP5 g nb nch (nI X) (nI F) := by
  unfold p5K txP5
  rw [p4_eq hg hX hF nb hb, cha_eq hg hX hF nch hc nch (Nat.le_refl _)]
theorem va_eq {g : Nat → Int32} (hg : RNG g) {X F : Nat} (hX : X ≤ 100000) (hF : F ≤ 2) (k : Nat) (hk : k < 6) (e d : Int32) : vaK g e (nI X) d (nI F) k = valC g k e (nI X) d (nI F) := by
  obtain ⟨s, hs, es⟩ := hg.1 (28 + 6 * k + 3) (by omega)
  obtain ⟨p, hp, ep⟩ := hg.1 (28 + 6 * k + 2) (by omega)
  have h5 := hg.2 k hk
  unfold vaK valK valC
  rw [maxL_eq]
  congr 1
  show valK1 (crK g k) e d - (g (28 + 6 * k + 4)).toInt64 * 1000 * abvK (nI X) (nI F) (g (28 + 6 * k + 3)) = _
  rw [es, abo_eq _ hX hF hs]
  congr 1
  have e0 : valK0 (crK g k) d = 1000000 * (g (28 + 6 * k + 1)).toInt64 * (if g (28 + 6 * k + 5) = 1 then d else 1).toInt64 := by
    show (g (28 + 6 * k + 1)).toInt64 * 1000000 * (if g (28 + 6 * k + 5) = 0 then (1 : Int32) else d).toInt64 = _
    rw [Int64.mul_comm 1000000]
    rcases h5 with h5 | h5
    · rw [h5, if_pos rfl, if_neg (by decide)]
    · rw [h5, if_neg (by decide), if_pos rfl]
  show (if g (28 + 6 * k + 2) ≤ 0 then valK0 (crK g k) d else minL (valK0 (crK g k) d) ((g (28 + 6 * k + 2)).toInt64 * 1000 * e.toInt64)) = _
  rw [e0, minL_eq, Int64.mul_comm 1000 (g (28 + 6 * k + 2)).toInt64, ep]
  by_cases h0 : p = 0
  · subst h0
    rw [if_pos (show nI 0 ≤ 0 by decide), if_pos (show nI 0 = 0 by decide)]
  · rw [if_neg (nI_nle (by omega) (by omega)), if_neg (nI_ne0 (by omega) (by omega))]
/-! bounds: what is carried stays small, so nothing overflows -/
theorem lNge {n : Nat} (h : n < 2 ^ 63) : 0 ≤ (lN n).toInt := by rw [lNi h]; omega
/-- an amount that is a number up to B -/
def bdL (v : Int64) (B : Nat) : Prop := 0 ≤ v.toInt ∧ v.toInt ≤ B
theorem bd_max0 {v : Int64} {B : Nat} (h : v.toInt ≤ B) : bdL (maxL 0 v) B := by
  unfold bdL maxL
  simp only [Int64.lt_iff_toInt_lt, i64z]
  split
  · rw [i64z]; omega
  · omega
theorem bd_min {a b : Int64} {B : Nat} (h : a.toInt ≤ B) : (minL a b).toInt ≤ B := by
  unfold minL
  simp only [Int64.lt_iff_toInt_lt]
  split <;> omega
theorem bd_add {a b : Int64} {A B : Nat} (ha : bdL a A) (hb : bdL b B) (h : A + B < 2 ^ 63) : bdL (a + b) (A + B) ∧ (a + b).toInt = a.toInt + b.toInt := by
  have e : (a + b).toInt = a.toInt + b.toInt := by
    rw [Int64.toInt_add]
    have h1 := ha.1; have h2 := ha.2; have h3 := hb.1; have h4 := hb.2
    exact Int.bmod_eq_of_le (by omega) (by omega)
  refine ⟨?_, e⟩
  have h1 := ha.1; have h2 := ha.2; have h3 := hb.1; have h4 := hb.2
  unfold bdL
  rw [e]
  omega
theorem bd_sub {a b : Int64} {A B : Nat} (ha : bdL a A) (hb : bdL b B) (h : A + B < 2 ^ 63) : (a - b).toInt = a.toInt - b.toInt := by
  have h1 := ha.1; have h2 := ha.2; have h3 := hb.1; have h4 := hb.2
  rw [Int64.toInt_sub]
  exact Int.bmod_eq_of_le (by omega) (by omega)
theorem bd_lN {n B : Nat} (h : n ≤ B) (hB : B < 2 ^ 63) : bdL (lN n) B := by
  unfold bdL
  rw [lNi (by omega)]
  omega
/-- a credit's value is at most 2·10^11 -/
theorem va_bd {g : Nat → Int32} (hg : RNG g) {X F Dd : Nat} (hX : X ≤ 100000) (hF : F ≤ 2) (hD : Dd ≤ 18) {E : Nat} (hE : E ≤ 100000) (k : Nat) (hk : k < 6) : bdL (vaK g (nI E) (nI X) (nI Dd) (nI F) k) 200000000000 := by
  obtain ⟨a, ha, ea⟩ := hg.1 (28 + 6 * k + 1) (by omega)
  obtain ⟨p, hp, ep⟩ := hg.1 (28 + 6 * k + 4) (by omega)
  obtain ⟨t, ht, et⟩ := hg.1 (28 + 6 * k + 3) (by omega)
  have h0 : bdL (valK0 (crK g k) (nI Dd)) 200000000000 := by
    show bdL ((g (28 + 6 * k + 1)).toInt64 * 1000000 * (if g (28 + 6 * k + 5) = 0 then (1 : Int32) else nI Dd).toInt64) _
    have h1 : ∃ m, m ≤ 18 ∧ (if g (28 + 6 * k + 5) = 0 then (1 : Int32) else nI Dd).toInt64 = lN m := by
      by_cases h : g (28 + 6 * k + 5) = 0
      · exact ⟨1, by omega, by rw [if_pos h]; decide⟩
      · exact ⟨Dd, hD, by rw [if_neg h, nI_l (by omega)]⟩
    obtain ⟨m, hm, em⟩ := h1
    have hh : a * 1000000 * m ≤ 9999 * 1000000 * 18 := Nat.mul_le_mul (Nat.mul_le_mul ha (Nat.le_refl _)) hm
    rw [em, ea, nI_l (by omega), show (1000000 : Int64) = lN 1000000 by decide, lN_mul, lN_mul]
    exact bd_lN (by omega) (by omega)
  have h1 : bdL (valK1 (crK g k) (nI E) (nI Dd)) 200000000000 := by
    unfold valK1
    split
    · exact h0
    · refine ⟨?_, bd_min h0.2⟩
      obtain ⟨u, hu, eu⟩ := hg.1 (28 + 6 * k + 2) (by omega)
      have h3 : bdL ((crK g k 2).toInt64 * 1000 * (nI E).toInt64) 1000000000000 := by
        show bdL ((g (28 + 6 * k + 2)).toInt64 * 1000 * (nI E).toInt64) _
        have hh : u * 1000 * E ≤ 9999 * 1000 * 100000 := Nat.mul_le_mul (Nat.mul_le_mul hu (Nat.le_refl _)) hE
        rw [eu, nI_l (by omega), nI_l (by omega), show (1000 : Int64) = lN 1000 by decide, lN_mul, lN_mul]
        exact bd_lN (by omega) (by omega)
      unfold minL
      split
      · exact h3.1
      · exact h0.1
  have h2 : bdL ((g (28 + 6 * k + 4)).toInt64 * 1000 * abvK (nI X) (nI F) (g (28 + 6 * k + 3))) 1000000000000 := by
    have h : F * t ≤ 2 * 9999 := Nat.mul_le_mul hF ht
    rw [et, abv_eq hX hF ht, ep, nI_l (by omega), show (1000 : Int64) = lN 1000 by decide, lN_mul]
    by_cases hc : nI X ≤ nI F * nI t
    · rw [if_pos hc, Int64.mul_zero]; exact ⟨by rw [i64z]; omega, by rw [i64z]; omega⟩
    · rw [if_neg hc, pk_mul, pk_sub (by rw [pk_mul, nI_leI (by omega) (by omega)] at hc; omega), nI_l (by omega), lN_mul]
      have hh : p * 1000 * (X - F * t) ≤ 9999 * 1000 * 100000 := Nat.mul_le_mul (Nat.mul_le_mul hp (Nat.le_refl _)) (by omega)
      exact bd_lN (by omega) (by omega)
  unfold vaK valK
  refine bd_max0 ?_
  show (valK1 (crK g k) (nI E) (nI Dd) - (g (28 + 6 * k + 4)).toInt64 * 1000 * abvK (nI X) (nI F) (g (28 + 6 * k + 3))).toInt ≤ _
  rw [bd_sub h1 h2 (by omega)]
  have h3 := h1.2; have h4 := h2.1
  omega
/-- used: both ways the same, as what there may be used is no negative number -/
theorem mo_eq {g : Nat → Int32} (hg : RNG g) {X F Dd E : Nat} (hX : X ≤ 100000) (hF : F ≤ 2) (hD : Dd ≤ 18) (hE : E ≤ 100000) (k : Nat) (hk : k < 6) (br : Nat → Int64) {B : Nat} (hB : B ≤ 4000000000000000000) (hb : bdL (br k) B) (rest : Int64) :
    moK g (nI E) (nI X) (nI Dd) (nI F) k (br k) rest = usdC g br k (nI E) (nI X) (nI Dd) (nI F) rest := by
  have e1 : avK g (nI E) (nI X) (nI Dd) (nI F) k (br k) = mayC g br k (nI E) (nI X) (nI Dd) (nI F) := by
    unfold avK mayC; rw [va_eq hg hX hF k hk]
  have h0 : 0 ≤ (avK g (nI E) (nI X) (nI Dd) (nI F) k (br k)).toInt := by
    have hv := va_bd hg hX hF hD hE k hk
    unfold avK
    have hb2 : bdL (if g (28 + 6 * k + 0) = 2 then br k else 0) B := by
      split
      · exact hb
      · exact ⟨by rw [i64z]; omega, by rw [i64z]; omega⟩
    exact (bd_add hv hb2 (by omega)).1.1
  unfold moK usdC
  rw [← e1]
  generalize avK g (nI E) (nI X) (nI Dd) (nI F) k (br k) = a at h0
  split
  · rfl
  · rw [minL_eq, maxL_eq]
    unfold minL maxL
    simp only [Int64.lt_iff_toInt_lt, i64z]
    by_cases c1 : rest.toInt < a.toInt
    · rw [if_pos c1]
      by_cases c2 : rest.toInt < 0
      · rw [if_pos c2]
        simp only [i64z]
        by_cases c3 : (0 : Int) < a.toInt
        · rw [if_pos c3]
        · rw [if_neg c3]; apply i64x; rw [i64z]; omega
      · rw [if_neg c2, if_pos c1]
    · rw [if_neg c1]
      by_cases c2 : rest.toInt < 0
      · omega
      · rw [if_neg c2, if_neg c1, if_neg (by omega)]
theorem re_eq {g : Nat → Int32} (hg : RNG g) {X F Dd E : Nat} (hX : X ≤ 100000) (hF : F ≤ 2) (hD : Dd ≤ 18) (hE : E ≤ 100000) (br : Nat → Int64) {B : Nat} (hB : B ≤ 4000000000000000000) (hb : ∀ k, k < 6 → bdL (br k) B) (p5 : Int64) :
    ∀ k, k ≤ 6 → reK g (nI E) (nI X) (nI Dd) (nI F) br p5 k = lefC g br (nI E) (nI X) (nI Dd) (nI F) p5 k := by
  intro k
  induction k with
  | zero => intro _; rfl
  | succ k ih =>
    intro hk
    show reK g (nI E) (nI X) (nI Dd) (nI F) br p5 k - _ = lefC g br (nI E) (nI X) (nI Dd) (nI F) p5 k - _
    rw [ih (by omega), mo_eq hg hX hF hD hE k (by omega) br hB (hb k (by omega))]
/-- the rows' entries are in their ranges -/
def RNH (h : Nat → Int64) (B : Nat) : Prop := ∀ i, i < 36 → bdL (h i) B
def RNC (g : Nat → Int32) : Prop := nbG g ≤ 6 ∧ nchG g ≤ 4 ∧ ncrG g ≤ 6
theorem tx_eq {g : Nat → Int32} (hg : RNG g) (hc : RNC g) {X F Dd E : Nat} (hX : X ≤ 100000) (hF : F ≤ 2) (hD : Dd ≤ 18) (hE : E ≤ 100000) (br : Nat → Int64) {B : Nat} (hB : B ≤ 4000000000000000000) (hb : ∀ k, k < 6 → bdL (br k) B) :
    reK g (nI E) (nI X) (nI Dd) (nI F) br (p5K g (nI E) (nI X) (nI Dd) (nI F) (nbG g) (nchG g)) (ncrG g) = txV g br (nI E) (nI X) (nI Dd) (nI F) := by
  rw [p5_eq hg hX hF _ _ hc.1 hc.2.1, re_eq hg hX hF hD hE br hB hb _ _ hc.2.2]
  rfl
theorem alo_eq {g : Nat → Int32} {h : Nat → Int64} (hg : RNG g) (hc : RNC g) {B : Nat} (hh : RNH h B) (hB : B ≤ 2000000000000000000) {p E Dd : Nat} (hp : p < 6) (hE : E ≤ 10000) (hD : Dd ≤ 18) : aloT g h (nbG g) (nchG g) (ncrG g) p (nI E) (nI Dd) = aloV g h p (nI E) (nI Dd) := by
  obtain ⟨o, ho, eo⟩ := hg.1 (64 + 3 * p + 1) (by omega)
  unfold aloT aloV
  rw [eo, nI_add]
  exact tx_eq hg hc (F := 1) (by omega) (by omega) hD (by omega) _ (by omega) (fun k hk => hh _ (by omega))
theorem joi_eq {g : Nat → Int32} {h : Nat → Int64} (hg : RNG g) (hc : RNC g) {B : Nat} (hh : RNH h B) (hB : B ≤ 2000000000000000000) {p q : Nat} (hp : p < 6) (hq : q < 6) (hdp : dnG g p ≤ 9 ∧ g (64 + 3 * p + 2) = nI (dnG g p)) (hdq : dnG g q ≤ 9 ∧ g (64 + 3 * q + 2) = nI (dnG g q)) : joT g h (nbG g) (nchG g) (ncrG g) p q = joiV g h p q := by
  obtain ⟨a, ha, ea⟩ := hg.1 (64 + 3 * p + 0) (by omega)
  obtain ⟨b, hb, eb⟩ := hg.1 (64 + 3 * q + 0) (by omega)
  obtain ⟨c, hcc, ec⟩ := hg.1 (64 + 3 * p + 1) (by omega)
  obtain ⟨d, hd, ed⟩ := hg.1 (64 + 3 * q + 1) (by omega)
  have e1 : jE g p q 0 = nI (a + b) := by unfold jE; rw [ea, eb, nI_add]
  have e2 : jE g p q 1 = nI (c + d) := by unfold jE; rw [ec, ed, nI_add]
  have e3 : jE g p q 2 = nI (dnG g p + dnG g q) := by unfold jE; rw [hdp.2, hdq.2, nI_add]
  have f1 : joiE g p q = nI (a + b) := e1
  have f2 : joiX g p q = nI (a + b + (c + d)) := by unfold joiX; rw [f1, ec, ed, nI_add, nI_add, Nat.add_assoc]
  have f3 : joiD g p q = nI (dnG g p + dnG g q) := e3
  unfold joT joiV
  rw [e1, e2, e3, f1, f2, f3, nI_add]
  exact tx_eq hg hc (F := 2) (by omega) (by omega) (by omega) (by omega) _ (B := B + B) (by omega) (fun k hk => (bd_add (hh _ (by omega)) (hh _ (by omega)) (by omega)).1)
theorem dis_eq {g : Nat → Int32} {h : Nat → Int64} (hg : RNG g) (hc : RNC g) {B : Nat} (hh : RNH h B) (hB : B ≤ 2000000000000000000) {a b : Nat} (ha : a < 6) (hb : b < 6) (hda : dnG g a ≤ 9 ∧ g (64 + 3 * a + 2) = nI (dnG g a)) (hdb : dnG g b ≤ 9 ∧ g (64 + 3 * b + 2) = nI (dnG g b)) {i : Nat} (hi : i ≤ dnG g a + dnG g b) : diT g h (nbG g) (nchG g) (ncrG g) a b (nI i) = sepS g h a b i := by
  obtain ⟨ea, h1, e1⟩ := hg.1 (64 + 3 * a + 0) (by omega)
  obtain ⟨eb, h2, e2⟩ := hg.1 (64 + 3 * b + 0) (by omega)
  unfold diT sepS
  rw [hda.2, hdb.2, e1, e2, nI_add, pk_sub hi, alo_eq hg hc hh hB ha (by omega) (by omega), alo_eq hg hc hh hB hb (by omega) (by omega)]
theorem be_eq {g : Nat → Int32} {h : Nat → Int64} (hg : RNG g) (hc : RNC g) {B : Nat} (hh : RNH h B) (hB : B ≤ 2000000000000000000) {a b : Nat} (ha : a < 6) (hb : b < 6) (hda : dnG g a ≤ 9 ∧ g (64 + 3 * a + 2) = nI (dnG g a)) (hdb : dnG g b ≤ 9 ∧ g (64 + 3 * b + 2) = nI (dnG g b)) : ∀ k, k ≤ dnG g a + dnG g b → beT g h (nbG g) (nchG g) (ncrG g) a b k = (apM (sepS g h a b) k).2 := by
  intro k
  induction k with
  | zero => intro _; rfl
  | succ k ih =>
    intro hk
    have h1 := ih (by omega)
    have h2 := apM_le (sepS g h a b) k
    show (if diT g h (nbG g) (nchG g) (ncrG g) a b (nI (k + 1)) < diT g h (nbG g) (nchG g) (ncrG g) a b (nI (beT g h (nbG g) (nchG g) (ncrG g) a b k)) then k + 1 else beT g h (nbG g) (nchG g) (ncrG g) a b k) = (if sepS g h a b (k + 1) < (apM (sepS g h a b) k).1 then (sepS g h a b (k + 1), k + 1) else apM (sepS g h a b) k).2
    rw [h1, dis_eq hg hc hh hB ha hb hda hdb hk, dis_eq hg hc hh hB ha hb hda hdb (i := (apM (sepS g h a b) k).2) (by omega), h2.2]
    split <;> rfl
theorem se_eq {g : Nat → Int32} {h : Nat → Int64} (hg : RNG g) (hc : RNC g) {B : Nat} (hh : RNH h B) (hB : B ≤ 2000000000000000000) {a b : Nat} (ha : a < 6) (hb : b < 6) (hda : dnG g a ≤ 9 ∧ g (64 + 3 * a + 2) = nI (dnG g a)) (hdb : dnG g b ≤ 9 ∧ g (64 + 3 * b + 2) = nI (dnG g b)) {n : Nat} (hn : n = dnG g a + dnG g b) : seT g h (nbG g) (nchG g) (ncrG g) a b n = (apM (sepS g h a b) (dnG g a + dnG g b)).1 := by
  subst hn
  have h2 := apM_le (sepS g h a b) (dnG g a + dnG g b)
  unfold seT
  rw [be_eq hg hc hh hB ha hb hda hdb _ (Nat.le_refl _), dis_eq hg hc hh hB ha hb hda hdb h2.1, h2.2]
/-- a couple, as both see it -/
theorem cpl_of {g : Nat → Int32} (w : WFg g) {p : Nat} (hp : p < 6) (hm : ¬ g (82 + p) = -1) : cpl g p (qG g p) (fiN p (qG g p)) (laN p (qG g p)) (dnG g p + dnG g (qG g p)) := by
  obtain ⟨-, -, -, hd, hq⟩ := w
  rcases hq p hp with h | ⟨h1, h2, h3, h4⟩
  · exact absurd h hm
  · have hl := fiN_lt hp h2
    have d1 := hd p hp
    have d2 := hd _ h2
    refine ⟨hp, h2, hl.1, hl.2, by omega, h1, ?_, fiN_at h1 h4, by rw [d1.1, d2.1, nI_add]⟩
    unfold minJ fiN
    simp only [nI_ltI (show qG g p < 2 ^ 31 by omega) (show p < 2 ^ 31 by omega)]
    split <;> rfl
theorem dn_comm (g : Nat → Int32) (p q : Nat) : dnG g p + dnG g q = dnG g (fiN p q) + dnG g (laN p q) := by unfold fiN laN; split <;> omega
theorem sep_eq {g : Nat → Int32} {h : Nat → Int64} (hg : RNG g) (w : WFg g) {B : Nat} (hh : RNH h B) (hB : B ≤ 2000000000000000000) {p : Nat} (hp : p < 6) (hm : ¬ g (82 + p) = -1) : seT g h (nbG g) (nchG g) (ncrG g) (fiN p (qG g p)) (laN p (qG g p)) (dnG g p + dnG g (qG g p)) = sepV g h p (qG g p) ∧ beT g h (nbG g) (nchG g) (ncrG g) (fiN p (qG g p)) (laN p (qG g p)) (dnG g p + dnG g (qG g p)) = sepN g h p (qG g p) ∧ joT g h (nbG g) (nchG g) (ncrG g) p (qG g p) = joiV g h p (qG g p) := by
  have hc : RNC g := ⟨w.1.2.2, w.2.1.2, w.2.2.1.2⟩
  have c := cpl_of w hp hm
  obtain ⟨-, h2, h3, h4, -⟩ := c
  have hd := w.2.2.2.1
  have a1 := hd _ h3
  have a2 := hd _ h4
  have a3 := hd _ hp
  have a4 := hd _ h2
  refine ⟨?_, ?_, joi_eq hg hc hh hB hp h2 ⟨a3.2, a3.1⟩ ⟨a4.2, a4.1⟩⟩
  · exact se_eq hg hc hh hB h3 h4 ⟨a1.2, a1.1⟩ ⟨a2.2, a2.1⟩ (dn_comm g p (qG g p))
  · rw [dn_comm]
    exact be_eq hg hc hh hB h3 h4 ⟨a1.2, a1.1⟩ ⟨a2.2, a2.1⟩ _ (Nat.le_refl _)
theorem own_eq {g : Nat → Int32} {h : Nat → Int64} (hg : RNG g) (w : WFg g) {B : Nat} (hh : RNH h B) (hB : B ≤ 2000000000000000000) {p : Nat} (hp : p < 6) : owT g h (nbG g) (nchG g) (ncrG g) p = ownV g h p := by
  have hc : RNC g := ⟨w.1.2.2, w.2.1.2, w.2.2.1.2⟩
  obtain ⟨e, he, ee⟩ := hg.1 (64 + 3 * p + 0) (by omega)
  have hd := w.2.2.2.1 p hp
  unfold owT ownV
  rw [ee, hd.1]
  exact alo_eq hg hc hh hB hp (by omega) (by omega)
/-- what the component's arrays hold, as the reference tells it -/
theorem cse_eq {g : Nat → Int32} (hg : RNG g) (hc : RNC g) {X F Dd E : Nat} (hX : X ≤ 100000) (hF : F ≤ 2) (hD : Dd ≤ 18) (hE : E ≤ 100000) (br : Nat → Int64) {B : Nat} (hB : B ≤ 4000000000000000000) (hb : ∀ k, k < 6 → bdL (br k) B) {L : TL} (h : cseK g br (nI E) (nI X) (nI Dd) (nI F) (nbG g) (nchG g) (ncrG g) L) :
    (∀ i, i < 6 → L 1 i = txPn g (nI X) (nI F) i) ∧ ∀ k, k < ncrG g → L 2 k = crpV g br (nI E) (nI X) (nI Dd) (nI F) k 0 ∧ L 3 k = crpV g br (nI E) (nI X) (nI Dd) (nI F) k 1 ∧ L 4 k = crpV g br (nI E) (nI X) (nI Dd) (nI F) k 2 ∧ L 5 k = crpV g br (nI E) (nI X) (nI Dd) (nI F) k 3 ∧ L 6 k = crpV g br (nI E) (nI X) (nI Dd) (nI F) k 4 := by
  obtain ⟨h0, h1, h2, h3, h4, h5, hk⟩ := h
  have hp5 := p5_eq (e := nI E) (d := nI Dd) hg hX hF _ _ hc.1 hc.2.1
  refine ⟨fun i hi => ?_, fun k hkn => ?_⟩
  · rcases (show i = 0 ∨ i = 1 ∨ i = 2 ∨ i = 3 ∨ i = 4 ∨ i = 5 by omega) with rfl | rfl | rfl | rfl | rfl | rfl
    · rw [h0, p0_eq hg hX hF]; rfl
    · rw [h1, p1_eq hg hX hF]; rfl
    · rw [h2, p2_eq hg hX hF _ hc.1]; rfl
    · rw [h3, p3_eq hg hX hF]; rfl
    · rw [h4, p4_eq hg hX hF _ hc.1]; rfl
    · rw [h5, hp5]; rfl
  · have h6 : ncrG g ≤ 6 := hc.2.2
    obtain ⟨k2, k3, k4, k5, k6⟩ := hk k hkn
    have e1 := re_eq hg hX hF hD hE br hB hb (p5K g (nI E) (nI X) (nI Dd) (nI F) (nbG g) (nchG g)) k (by omega)
    have e2 := re_eq hg hX hF hD hE br hB hb (p5K g (nI E) (nI X) (nI Dd) (nI F) (nbG g) (nchG g)) (k + 1) (by omega)
    have e3 := fun rest => mo_eq hg hX hF hD hE k (by omega) br hB (hb k (by omega)) rest
    have e4 := va_eq hg hX hF k (by omega) (nI E) (nI Dd)
    rw [hp5] at e1 e2 k3 k4 k5 k6
    refine ⟨by rw [k2, e4]; rfl, by rw [k3, e1, e3]; rfl, ?_, ?_, by rw [k6, e2]; rfl⟩
    · rw [k4]
      unfold leK
      rw [e1, e3]
      show _ = if g (28 + 6 * k + 0) = nI 0 then _ else _
      rw [show nI 0 = (0 : Int32) by decide]
      by_cases c : g (28 + 6 * k + 0) = 0
      · rw [if_pos c, if_pos c]
        unfold avK
        rw [e4, c, if_neg (by decide)]
        rfl
      · rw [if_neg c, if_neg c]
    · rw [k5]
      unfold leK
      rw [e1, e3]
      show _ = if g (28 + 6 * k + 0) = nI 2 then _ else _
      rw [show nI 2 = (2 : Int32) by decide]
      by_cases c : g (28 + 6 * k + 0) = 2
      · rw [if_pos c, if_pos c]
        unfold avK
        rw [e4, c, if_pos rfl]
        rfl
      · rw [if_neg c, if_neg c]
