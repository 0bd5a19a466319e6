/-! what a computation reckons -/
abbrev crK (g : Nat → Int32) (k : Nat) : Nat → Int32 := fun j => g (28 + 6 * k + j)
def vaK (g : Nat → Int32) (e x d f : Int32) (k : Nat) : Int64 := valK (crK g k) e x d f
def avK (g : Nat → Int32) (e x d f : Int32) (k : Nat) (br : Int64) : Int64 := vaK g e x d f k + (if g (28 + 6 * k + 0) = 2 then br else 0)
def moK (g : Nat → Int32) (e x d f : Int32) (k : Nat) (br rest : Int64) : Int64 := if g (28 + 6 * k + 0) = 1 then avK g e x d f k br else maxL 0 (minL (avK g e x d f k br) rest)
def leK (g : Nat → Int32) (e x d f : Int32) (k : Nat) (br rest : Int64) (kind : Int32) : Int64 := if g (28 + 6 * k + 0) = kind then avK g e x d f k br - moK g e x d f k br rest else 0
def useL (g : Nat → Int32) (L : TL) (e x d f : Int32) (k : Nat) (rest : Int64) : TL := upL (upL (upL (upL (upL L 2 k (vaK g e x d f k)) 3 k (moK g e x d f k (L 0 k) rest)) 4 k (leK g e x d f k (L 0 k) rest 0)) 5 k (leK g e x d f k (L 0 k) rest 2)) 6 k (rest - moK g e x d f k (L 0 k) rest)
def reK (g : Nat → Int32) (e x d f : Int32) (br : Nat → Int64) (p5 : Int64) : Nat → Int64
  | 0 => p5
  | k + 1 => reK g e x d f br p5 k - moK g e x d f k (br k) (reK g e x d f br p5 k)
def ruLk (g : Nat → Int32) (L : TL) (e x d f : Int32) (p5 : Int64) : Nat → TL
  | 0 => L
  | k + 1 => useL g (ruLk g L e x d f p5 k) e x d f k (reK g e x d f (L 0) p5 k)
theorem ruLk_0 (g : Nat → Int32) (L : TL) (e x d f : Int32) (p5 : Int64) : ∀ k, ruLk g L e x d f p5 k 0 = L 0 := by
  intro k
  induction k with
  | zero => rfl
  | succ k ih => rw [← ih]; rfl
def p0K (g : Nat → Int32) (e x d f : Int32) : Int64 := alwK g x f
def p1K (g : Nat → Int32) (e x d f : Int32) : Int64 := maxL 0 (x.toInt64 * 1000000 - p0K g e x d f)
def p2K (g : Nat → Int32) (e x d f : Int32) (nb : Nat) : Int64 := schK g nb (p1K g e x d f) f nb
def p3K (g : Nat → Int32) (e x d f : Int32) : Int64 := minK g x f
def p4K (g : Nat → Int32) (e x d f : Int32) (nb : Nat) : Int64 := maxL (p2K g e x d f nb) (p3K g e x d f)
def p5K (g : Nat → Int32) (e x d f : Int32) (nb nch : Nat) : Int64 := p4K g e x d f nb + chaK g x f nch
def ruLp (g : Nat → Int32) (L : TL) (e x d f : Int32) (nb nch : Nat) : TL := upL (upL (upL (upL (upL (upL L 1 0 (p0K g e x d f)) 1 1 (p1K g e x d f)) 1 2 (p2K g e x d f nb)) 1 3 (p3K g e x d f)) 1 4 (p4K g e x d f nb)) 1 5 (p5K g e x d f nb nch)
theorem ruLp_oth (g : Nat → Int32) (L : TL) (e x d f : Int32) (nb nch j : Nat) (h : j ≠ 1) : ruLp g L e x d f nb nch j = L j := by simp [ruLp, va_up, h]
def ruL (g : Nat → Int32) (L : TL) (e x d f : Int32) (nb nch ncr : Nat) : TL := ruLk g (ruLp g L e x d f nb nch) e x d f (p5K g e x d f nb nch) ncr
def ruV (g : Nat → Int32) (L : TL) (e x d f : Int32) (nb nch ncr : Nat) : Int64 := reK g e x d f (L 0) (p5K g e x d f nb nch) ncr
/-- what the arrays hold behind a computation -/
def cseK (g : Nat → Int32) (br : Nat → Int64) (e x d f : Int32) (nb nch ncr : Nat) (L : TL) : Prop :=
  L 1 0 = p0K g e x d f ∧ L 1 1 = p1K g e x d f ∧ L 1 2 = p2K g e x d f nb ∧ L 1 3 = p3K g e x d f ∧ L 1 4 = p4K g e x d f nb ∧ L 1 5 = p5K g e x d f nb nch ∧
  ∀ k, k < ncr → L 2 k = vaK g e x d f k ∧ L 3 k = moK g e x d f k (br k) (reK g e x d f br (p5K g e x d f nb nch) k) ∧ L 4 k = leK g e x d f k (br k) (reK g e x d f br (p5K g e x d f nb nch) k) 0 ∧ L 5 k = leK g e x d f k (br k) (reK g e x d f br (p5K g e x d f nb nch) k) 2 ∧ L 6 k = reK g e x d f br (p5K g e x d f nb nch) (k + 1)
theorem reK_congr {g : Nat → Int32} {e x d f : Int32} {br br' : Nat → Int64} {p5 : Int64} : ∀ k, (∀ j, j < k → br j = br' j) → reK g e x d f br p5 k = reK g e x d f br' p5 k := by
  intro k
  induction k with
  | zero => intro _; rfl
  | succ k ih =>
    intro h
    have h1 := ih (fun j hj => h j (by omega))
    have h2 := h k (by omega)
    simp only [reK, h1, h2]
theorem ruLk_oth (g : Nat → Int32) (L : TL) (e x d f : Int32) (p5 : Int64) (j : Nat) (h : j < 2) : ∀ k, ruLk g L e x d f p5 k j = L j := by
  intro k
  induction k with
  | zero => rfl
  | succ k ih =>
    rw [← ih]
    simp [ruLk, useL, va_up, show j ≠ 2 by omega, show j ≠ 3 by omega, show j ≠ 4 by omega, show j ≠ 5 by omega, show j ≠ 6 by omega]
theorem ruLk_in (g : Nat → Int32) (L : TL) (e x d f : Int32) (p5 : Int64) : ∀ n k, k < n → ruLk g L e x d f p5 n 2 k = vaK g e x d f k ∧ ruLk g L e x d f p5 n 3 k = moK g e x d f k (L 0 k) (reK g e x d f (L 0) p5 k) ∧ ruLk g L e x d f p5 n 4 k = leK g e x d f k (L 0 k) (reK g e x d f (L 0) p5 k) 0 ∧ ruLk g L e x d f p5 n 5 k = leK g e x d f k (L 0 k) (reK g e x d f (L 0) p5 k) 2 ∧ ruLk g L e x d f p5 n 6 k = reK g e x d f (L 0) p5 (k + 1) := by
  intro n
  induction n with
  | zero => intro k h; omega
  | succ n ih =>
    intro k h
    by_cases hk : k = n
    · subst hk
      have h0 := congrFun (ruLk_0 g L e x d f p5 k) k
      simp [ruLk, useL, va_up, vp_updL, h0, reK]
    · obtain ⟨h1, h2, h3, h4, h5⟩ := ih k (by omega)
      simp [ruLk, useL, va_up, vp_updL, hk, h1, h2, h3, h4, h5]
theorem run_post (g : Nat → Int32) (br : Nat → Int64) (L : TL) (e x d f : Int32) (nb nch ncr : Nat) (h6 : ncr ≤ 6) (hL : ∀ j, j < 6 → L 0 j = br j) :
    ruV g L e x d f nb nch ncr = reK g e x d f br (p5K g e x d f nb nch) ncr ∧ cseK g br e x d f nb nch ncr (ruL g L e x d f nb nch ncr) := by
  have hc : ∀ k, k ≤ ncr → reK g e x d f (L 0) (p5K g e x d f nb nch) k = reK g e x d f br (p5K g e x d f nb nch) k := fun k hk => reK_congr k (fun j hj => hL j (by omega))
  refine ⟨hc _ (Nat.le_refl _), ?_, ?_, ?_, ?_, ?_, ?_, fun k hk => ?_⟩
  · unfold ruL; rw [ruLk_oth _ _ _ _ _ _ _ _ (by decide)]; simp [ruLp, va_up, vp_updL]
  · unfold ruL; rw [ruLk_oth _ _ _ _ _ _ _ _ (by decide)]; simp [ruLp, va_up, vp_updL]
  · unfold ruL; rw [ruLk_oth _ _ _ _ _ _ _ _ (by decide)]; simp [ruLp, va_up, vp_updL]
  · unfold ruL; rw [ruLk_oth _ _ _ _ _ _ _ _ (by decide)]; simp [ruLp, va_up, vp_updL]
  · unfold ruL; rw [ruLk_oth _ _ _ _ _ _ _ _ (by decide)]; simp [ruLp, va_up, vp_updL]
  · unfold ruL; rw [ruLk_oth _ _ _ _ _ _ _ _ (by decide)]; simp [ruLp, va_up, vp_updL]
  · unfold ruL
    obtain ⟨h1, h2, h3, h4, h5⟩ := ruLk_in g (ruLp g L e x d f nb nch) e x d f (p5K g e x d f nb nch) ncr k hk
    have h0 : ruLp g L e x d f nb nch 0 = L 0 := ruLp_oth _ _ _ _ _ _ _ _ _ (by decide)
    rw [h0] at h2 h3 h4 h5
    rw [hL k (by omega), hc k (by omega)] at h2 h3 h4
    rw [hc (k + 1) (by omega)] at h5
    exact ⟨h1, h2, h3, h4, h5⟩

theorem lk_X6_88 : GoodIn lw_all (wsV RX6 88 yX12_value.cls yX12_value (ws_ yX12_value cX12_value 4 (some .long))) := lw_V q1944 q1945 q1946 q160 q1947
theorem yk_X12_value : yOk yX12_value 1 := by decide +kernel
set_option maxHeartbeats 4000000 in
theorem kc_X6_use (D : DD) (l : Launch) (kd : Nat → Nat) (hN : kwN kd) {Q : Heap → Prop} (hQ : kQ kd Q) {K0 : Nat → Prop} (rd : Nat → Nat) (g : Nat → Int32) (nb nch ncr : Nat) (hr : ∀ {H : Heap}, Q H → ruK K0 D rd g nb nch ncr H) (hnb : nb ≤ 6) (hch : nch ≤ 4) (hcr : ncr ≤ 6) (k : Nat) (hk : k < ncr) (rest : Int64) (L : TL) (C : TC) : Kc D l yX6_use cX6_use 11 (some .long) 3 67 kd Q [.ref (kd 0), .ref (rd (300 + k)), .int (nI k), .long rest] L C (fun r L' C' => r = some (.long (rest - moK g (C 0) (C 1) (C 2) (C 3) k (L 0 k) rest)) ∧ L' = useL g L (C 0) (C 1) (C 2) (C 3) k rest ∧ C' = C) := by
  refine Kc.of hN hQ (by decide) (Nat.le_of_ble_eq_true rfl) (fun s K hK hR => ?_)
  show K L C 0 [] [(0, .ref (kd 0)), (1, .ref (rd (300 + k))), (2, .int (nI k)), (3, .long rest)]
  refine r_aload_n 1 1 (hK.pu _ _) dX6_use_0 rfl rfl ?_
  refine r_aload_n 2 0 (hK.pu _ _) dX6_use_1 rfl rfl ?_
  refine k_getc 5 hK 0 (.ref (kd 1)) (by decide) (Or.inl q524) (Or.inl rfl) rfl dX6_use_2 rfl ?_
  refine k_callp 8 hK (fun _ hh z => cp_X12_value D l (rd (300 + k)) (crK g k) ((hr z).r (by omega)) (kd 1) (C 0) (C 1) (C 2) (C 3) (hh.2.1.fld 0 rfl) (hh.2.1.fld 1 rfl) (hh.2.1.fld 2 rfl) (hh.2.1.fld 3 rfl)) lk_X6_88 1 yk_X12_value rfl ⟨by decide, by decide⟩ (fun _ hh z => (((hr z).r (k := k) (by omega)).fld 0 rfl)) rfl rfl (Nat.le_of_ble_eq_true rfl) dX6_use_5 rfl ?_
  refine r_lstore 10 [(5, .long (vaK g (C 0) (C 1) (C 2) (C 3) k)), (0, .ref (kd 0)), (1, .ref (rd (300 + k))), (2, .int (nI k)), (3, .long rest)] (hK.pu _ _) dX6_use_8 (by decide) rfl rfl ?_
  refine r_lload 12 0 (hK.pu _ _) dX6_use_10 rfl rfl ?_
  refine r_aload_n 13 2 (hK.pu _ _) dX6_use_12 rfl rfl ?_
  refine k_getq 16 hK (T := TX12) (C' := RX12) 0 (v := .int (g (28 + 6 * k + 0))) okX12 (fun _ z => (((hr z).r (k := k) (by omega)).fld 0 rfl)) rfl (by decide) (Or.inr ⟨_, nw_q2295⟩) (Or.inl rfl) dX6_use_13 rfl ?_
  refine r_iconst 17 2 (hK.pu _ _) dX6_use_16 (by decide) rfl ?_
  have hj_17 : K L C 33 [.long (if g (28 + 6 * k + 0) = 2 then L 0 k else 0), .long (vaK g (C 0) (C 1) (C 2) (C 3) k)] [(5, .long (vaK g (C 0) (C 1) (C 2) (C 3) k)), (0, .ref (kd 0)), (1, .ref (rd (300 + k))), (2, .int (nI k)), (3, .long rest)] := by
    refine r_ladd 34 (hK.pu _ _) dX6_use_33 rfl ?_
    refine r_eql (avK g (C 0) (C 1) (C 2) (C 3) k (L 0 k)) (rfl) ?_
    refine r_lstore 36 [(7, .long (avK g (C 0) (C 1) (C 2) (C 3) k (L 0 k))), (5, .long (vaK g (C 0) (C 1) (C 2) (C 3) k)), (0, .ref (kd 0)), (1, .ref (rd (300 + k))), (2, .int (nI k)), (3, .long rest)] (hK.pu _ _) dX6_use_34 (by decide) rfl rfl ?_
    refine r_aload_n 37 3 (hK.pu _ _) dX6_use_36 rfl rfl ?_
    refine k_getq 40 hK (T := TX12) (C' := RX12) 0 (v := .int (g (28 + 6 * k + 0))) okX12 (fun _ z => (((hr z).r (k := k) (by omega)).fld 0 rfl)) rfl (by decide) (Or.inr ⟨_, nw_q2295⟩) (Or.inl rfl) dX6_use_37 rfl ?_
    refine r_iconst 41 1 (hK.pu _ _) dX6_use_40 (by decide) rfl ?_
    have hj_41 : K L C 59 [.long (moK g (C 0) (C 1) (C 2) (C 3) k (L 0 k) rest)] [(7, .long (avK g (C 0) (C 1) (C 2) (C 3) k (L 0 k))), (5, .long (vaK g (C 0) (C 1) (C 2) (C 3) k)), (0, .ref (kd 0)), (1, .ref (rd (300 + k))), (2, .int (nI k)), (3, .long rest)] := by
      refine r_lstore 61 [(9, .long (moK g (C 0) (C 1) (C 2) (C 3) k (L 0 k) rest)), (7, .long (avK g (C 0) (C 1) (C 2) (C 3) k (L 0 k))), (5, .long (vaK g (C 0) (C 1) (C 2) (C 3) k)), (0, .ref (kd 0)), (1, .ref (rd (300 + k))), (2, .int (nI k)), (3, .long rest)] (hK.pu _ _) dX6_use_59 (by decide) rfl rfl ?_
      refine r_aload_n 62 3 (hK.pu _ _) dX6_use_61 rfl rfl ?_
      refine k_getc 65 hK 2 (.ref (kd 4)) (by decide) (Or.inl q528) (Or.inl rfl) rfl dX6_use_62 rfl ?_
      refine r_iload_n 66 5 (hK.pu _ _) dX6_use_65 rfl rfl ?_
      refine r_lload 68 2 (hK.pu _ _) dX6_use_66 rfl rfl ?_
      refine k_last 69 hK 2 k (by decide) rfl (by show k < 6; omega) dX6_use_68 rfl ?_
      refine r_aload_n 70 3 (hK.pu _ _) dX6_use_69 rfl rfl ?_
      refine k_getc 73 hK 3 (.ref (kd 5)) (by decide) (Or.inl q529) (Or.inl rfl) rfl dX6_use_70 rfl ?_
      refine r_iload_n 74 5 (hK.pu _ _) dX6_use_73 rfl rfl ?_
      refine r_lload 76 0 (hK.pu _ _) dX6_use_74 rfl rfl ?_
      refine k_last 77 hK 3 k (by decide) rfl (by show k < 6; omega) dX6_use_76 rfl ?_
      refine r_aload_n 78 3 (hK.pu _ _) dX6_use_77 rfl rfl ?_
      refine k_getc 81 hK 4 (.ref (kd 6)) (by decide) (Or.inl q530) (Or.inl rfl) rfl dX6_use_78 rfl ?_
      refine r_iload_n 82 5 (hK.pu _ _) dX6_use_81 rfl rfl ?_
      refine r_aload_n 83 4 (hK.pu _ _) dX6_use_82 rfl rfl ?_
      refine k_getq 86 hK (T := TX12) (C' := RX12) 0 (v := .int (g (28 + 6 * k + 0))) okX12 (fun _ z => (((hr z).r (k := k) (by omega)).fld 0 rfl)) rfl (by decide) (Or.inr ⟨_, nw_q2295⟩) (Or.inl rfl) dX6_use_83 rfl ?_
      have hj_86 : K (upL (upL L 2 k (vaK g (C 0) (C 1) (C 2) (C 3) k)) 3 k (moK g (C 0) (C 1) (C 2) (C 3) k (L 0 k) rest)) C 98 [.long (leK g (C 0) (C 1) (C 2) (C 3) k (L 0 k) rest 0), .int (nI k), .ref (kd 6)] [(9, .long (moK g (C 0) (C 1) (C 2) (C 3) k (L 0 k) rest)), (7, .long (avK g (C 0) (C 1) (C 2) (C 3) k (L 0 k))), (5, .long (vaK g (C 0) (C 1) (C 2) (C 3) k)), (0, .ref (kd 0)), (1, .ref (rd (300 + k))), (2, .int (nI k)), (3, .long rest)] := by
        refine k_last 99 hK 4 k (by decide) rfl (by show k < 6; omega) dX6_use_98 rfl ?_
        refine r_aload_n 100 3 (hK.pu _ _) dX6_use_99 rfl rfl ?_
        refine k_getc 103 hK 5 (.ref (kd 7)) (by decide) (Or.inl q531) (Or.inl rfl) rfl dX6_use_100 rfl ?_
        refine r_iload_n 104 5 (hK.pu _ _) dX6_use_103 rfl rfl ?_
        refine r_aload_n 105 4 (hK.pu _ _) dX6_use_104 rfl rfl ?_
        refine k_getq 108 hK (T := TX12) (C' := RX12) 0 (v := .int (g (28 + 6 * k + 0))) okX12 (fun _ z => (((hr z).r (k := k) (by omega)).fld 0 rfl)) rfl (by decide) (Or.inr ⟨_, nw_q2295⟩) (Or.inl rfl) dX6_use_105 rfl ?_
        refine r_iconst 109 2 (hK.pu _ _) dX6_use_108 (by decide) rfl ?_
        have hj_109 : K (upL (upL (upL L 2 k (vaK g (C 0) (C 1) (C 2) (C 3) k)) 3 k (moK g (C 0) (C 1) (C 2) (C 3) k (L 0 k) rest)) 4 k (leK g (C 0) (C 1) (C 2) (C 3) k (L 0 k) rest 0)) C 121 [.long (leK g (C 0) (C 1) (C 2) (C 3) k (L 0 k) rest 2), .int (nI k), .ref (kd 7)] [(9, .long (moK g (C 0) (C 1) (C 2) (C 3) k (L 0 k) rest)), (7, .long (avK g (C 0) (C 1) (C 2) (C 3) k (L 0 k))), (5, .long (vaK g (C 0) (C 1) (C 2) (C 3) k)), (0, .ref (kd 0)), (1, .ref (rd (300 + k))), (2, .int (nI k)), (3, .long rest)] := by
          refine k_last 122 hK 5 k (by decide) rfl (by show k < 6; omega) dX6_use_121 rfl ?_
          refine r_aload_n 123 3 (hK.pu _ _) dX6_use_122 rfl rfl ?_
          refine k_getc 126 hK 6 (.ref (kd 8)) (by decide) (Or.inl q533) (Or.inl rfl) rfl dX6_use_123 rfl ?_
          refine r_iload_n 127 5 (hK.pu _ _) dX6_use_126 rfl rfl ?_
          refine r_lload_n 128 6 (hK.pu _ _) dX6_use_127 rfl rfl ?_
          refine r_lload 130 0 (hK.pu _ _) dX6_use_128 rfl rfl ?_
          refine r_lsub 131 (hK.pu _ _) dX6_use_130 rfl ?_
          refine k_last 132 hK 6 k (by decide) rfl (by show k < 6; omega) dX6_use_131 rfl ?_
          refine r_lload_n 133 6 (hK.pu _ _) dX6_use_132 rfl rfl ?_
          refine r_lload 135 0 (hK.pu _ _) dX6_use_133 rfl rfl ?_
          refine r_lsub 136 (hK.pu _ _) dX6_use_135 rfl ?_
          exact KR.lg hR dX6_use_136 ⟨rfl, rfl, rfl⟩
        refine r_icmp_ne 112 120 (hK.pu _ _) dX6_use_109 (by decide) (fun c109 => ?_) rfl (fun c109 => ?_)
        · refine r_lconst 121 0 (hK.pu _ _) dX6_use_120 (by decide) rfl ?_
          refine r_eql (leK g (C 0) (C 1) (C 2) (C 3) k (L 0 k) rest 2) (by unfold leK; first | rw [if_pos c109] | rw [if_neg c109]) ?_
          exact hj_109
        · refine r_lload 114 1 (hK.pu _ _) dX6_use_112 rfl rfl ?_
          refine r_lload 116 0 (hK.pu _ _) dX6_use_114 rfl rfl ?_
          refine r_lsub 117 (hK.pu _ _) dX6_use_116 rfl ?_
          refine r_goto 121 (hK.pu _ _) dX6_use_117 (by decide) ?_
          refine r_eql (leK g (C 0) (C 1) (C 2) (C 3) k (L 0 k) rest 2) (by unfold leK; first | rw [if_pos c109] | rw [if_neg c109]) ?_
          exact hj_109
      refine r_if_ne 89 97 (hK.pu _ _) dX6_use_86 (by decide) (fun c86 => ?_) rfl (fun c86 => ?_)
      · refine r_lconst 98 0 (hK.pu _ _) dX6_use_97 (by decide) rfl ?_
        refine r_eql (leK g (C 0) (C 1) (C 2) (C 3) k (L 0 k) rest 0) (by unfold leK; first | rw [if_pos c86] | rw [if_neg c86]) ?_
        exact hj_86
      · refine r_lload 91 1 (hK.pu _ _) dX6_use_89 rfl rfl ?_
        refine r_lload 93 0 (hK.pu _ _) dX6_use_91 rfl rfl ?_
        refine r_lsub 94 (hK.pu _ _) dX6_use_93 rfl ?_
        refine r_goto 98 (hK.pu _ _) dX6_use_94 (by decide) ?_
        refine r_eql (leK g (C 0) (C 1) (C 2) (C 3) k (L 0 k) rest 0) (by unfold leK; first | rw [if_pos c86] | rw [if_neg c86]) ?_
        exact hj_86
    refine r_icmp_ne 44 49 (hK.pu _ _) dX6_use_41 (by decide) (fun c41 => ?_) rfl (fun c41 => ?_)
    · refine r_lconst 50 0 (hK.pu _ _) dX6_use_49 (by decide) rfl ?_
      refine r_lload 52 0 (hK.pu _ _) dX6_use_50 rfl rfl ?_
      refine r_lload_n 53 5 (hK.pu _ _) dX6_use_52 rfl rfl ?_
      refine k_minL 56 hK q1953 ⟨by decide, by decide⟩ (Nat.le_of_ble_eq_true rfl) dX6_use_53 rfl ?_
      refine k_maxL 59 hK q1913 ⟨by decide, by decide⟩ (Nat.le_of_ble_eq_true rfl) dX6_use_56 rfl ?_
      refine r_eql (moK g (C 0) (C 1) (C 2) (C 3) k (L 0 k) rest) (by unfold moK; first | rw [if_pos c41] | rw [if_neg c41]) ?_
      exact hj_41
    · refine r_lload 46 0 (hK.pu _ _) dX6_use_44 rfl rfl ?_
      refine r_goto 59 (hK.pu _ _) dX6_use_46 (by decide) ?_
      refine r_eql (moK g (C 0) (C 1) (C 2) (C 3) k (L 0 k) rest) (by unfold moK; first | rw [if_pos c41] | rw [if_neg c41]) ?_
      exact hj_41
  refine r_icmp_ne 20 32 (hK.pu _ _) dX6_use_17 (by decide) (fun c17 => ?_) rfl (fun c17 => ?_)
  · refine r_lconst 33 0 (hK.pu _ _) dX6_use_32 (by decide) rfl ?_
    refine r_eql (if g (28 + 6 * k + 0) = 2 then L 0 k else 0) (by first | rw [if_pos c17] | rw [if_neg c17]) ?_
    exact hj_17
  · refine r_aload_n 21 1 (hK.pu _ _) dX6_use_20 rfl rfl ?_
    refine k_getc 24 hK 0 (.ref (kd 1)) (by decide) (Or.inl q524) (Or.inl rfl) rfl dX6_use_21 rfl ?_
    refine k_gets 27 hK 4 (.ref (kd 2)) (by decide) (Or.inr ⟨_, nw_q511⟩) (Or.inl rfl) rfl dX6_use_24 rfl ?_
    refine r_iload_n 28 3 (hK.pu _ _) dX6_use_27 rfl rfl ?_
    refine k_lald 29 hK 0 k (by decide) rfl (by show k < 6; omega) dX6_use_28 rfl ?_
    refine r_goto 33 (hK.pu _ _) dX6_use_29 (by decide) ?_
    refine r_eql (if g (28 + 6 * k + 0) = 2 then L 0 k else 0) (by first | rw [if_pos c17] | rw [if_neg c17]) ?_
    exact hj_17
theorem lk_X6_37 : GoodIn lw_all (wsV RX6 37 yX3_allowanceLeft.cls yX3_allowanceLeft (ws_ yX3_allowanceLeft cX3_allowanceLeft 2 (some .long))) := lw_V q1898 q1899 q1900 q104 q1901
theorem yk_X3_allowanceLeft : yOk yX3_allowanceLeft 1 := by decide +kernel
theorem lk_X6_58 : GoodIn lw_all (wsV RX6 58 yX3_scheduled.cls yX3_scheduled (ws_ yX3_scheduled cX3_scheduled 11 (some .long))) := lw_V q1914 q1915 q1916 q104 q1917
theorem yk_X3_scheduled : yOk yX3_scheduled 2 := by decide +kernel
theorem lk_X6_62 : GoodIn lw_all (wsV RX6 62 yX3_minimum.cls yX3_minimum (ws_ yX3_minimum cX3_minimum 2 (some .long))) := lw_V q1926 q1927 q1928 q104 q1929
theorem yk_X3_minimum : yOk yX3_minimum 1 := by decide +kernel
theorem lk_X6_65 : GoodIn lw_all (wsV RX6 65 yX3_charged.cls yX3_charged (ws_ yX3_charged cX3_charged 6 (some .long))) := lw_V q1930 q1931 q1932 q104 q1933
theorem yk_X3_charged : yOk yX3_charged 1 := by decide +kernel
theorem lk_X6_72 : GoodIn lw_all (wsV RX6 72 yJ10_size.cls yJ10_size (ws_ yJ10_size cJ10_size 1 (some .int))) := lw_V q1937 q588 q589 q116 q590
theorem yk_J10_size : yOk yJ10_size 0 := by decide +kernel
theorem lk_X6_78 : GoodIn lw_all (wsV RX6 78 yJ10_get.cls yJ10_get (ws_ yJ10_get cJ10_get 2 (Option.some (ClassFile.FieldType.object "java/lang/Object")))) := lw_V q1938 q1402 q3930 q116 q1403
theorem yk_J10_get : yOk yJ10_get 1 := by decide +kernel
theorem lk_X6_84 : GoodIn lw_all (wsV RX6 84 yX6_use.cls yX6_use (ws_ yX6_use cX6_use 11 (some .long))) := lw_V q1940 q1942 qs25 q123 q1943
theorem yk_X6_use : yOk yX6_use 3 := by decide +kernel
set_option maxHeartbeats 4000000 in
theorem kc_X6_run (D : DD) (l : Launch) (kd : Nat → Nat) (hN : kwN kd) {Q : Heap → Prop} (hQ : kQ kd Q) {K0 : Nat → Prop} (rd : Nat → Nat) (g : Nat → Int32) (nb nch ncr : Nat) (hr : ∀ {H : Heap}, Q H → ruK K0 D rd g nb nch ncr H) (hnb : nb ≤ 6) (hch : nch ≤ 4) (hcr : ncr ≤ 6) (L : TL) (C : TC) : Kc D l yX6_run cX6_run 5 (some .long) 5 150 kd Q [.ref (kd 0), .ref (rd 0)] L C (fun r L' C' => r = some (.long (ruV g L (C 0) (C 1) (C 2) (C 3) nb nch ncr)) ∧ L' = ruL g L (C 0) (C 1) (C 2) (C 3) nb nch ncr ∧ C' = C) := by
  refine Kc.of hN hQ (by decide) (Nat.le_of_ble_eq_true rfl) (fun s K hK hR => ?_)
  show K L C 0 [] [(0, .ref (kd 0)), (1, .ref (rd 0))]
  refine r_aload_n 1 0 (hK.pu _ _) dX6_run_0 rfl rfl ?_
  refine k_getc 4 hK 1 (.ref (kd 3)) (by decide) (Or.inl q526) (Or.inl rfl) rfl dX6_run_1 rfl ?_
  refine r_iconst 5 0 (hK.pu _ _) dX6_run_4 (by decide) rfl ?_
  refine r_aload_n 6 1 (hK.pu _ _) dX6_run_5 rfl rfl ?_
  refine r_aload_n 7 0 (hK.pu _ _) dX6_run_6 rfl rfl ?_
  refine k_getc 10 hK 0 (.ref (kd 1)) (by decide) (Or.inl q524) (Or.inl rfl) rfl dX6_run_7 rfl ?_
  refine k_callp 13 hK (fun _ hh z => cp_X3_allowanceLeft D l rd g nb nch ncr (hr z) (kd 1) (C 1) (C 3) (hh.2.1.fld 1 rfl) (hh.2.1.fld 3 rfl)) lk_X6_37 1 yk_X3_allowanceLeft rfl ⟨by decide, by decide⟩ (fun _ hh z => ((hr z).o.fld 0 rfl)) rfl rfl (Nat.le_of_ble_eq_true rfl) dX6_run_10 rfl ?_
  refine k_last 14 hK 1 0 (by decide) rfl (by decide) dX6_run_13 rfl ?_
  refine r_aload_n 15 0 (hK.pu _ _) dX6_run_14 rfl rfl ?_
  refine k_getc 18 hK 1 (.ref (kd 3)) (by decide) (Or.inl q526) (Or.inl rfl) rfl dX6_run_15 rfl ?_
  refine r_iconst 19 1 (hK.pu _ _) dX6_run_18 (by decide) rfl ?_
  refine r_lconst 20 0 (hK.pu _ _) dX6_run_19 (by decide) rfl ?_
  refine r_aload_n 21 0 (hK.pu _ _) dX6_run_20 rfl rfl ?_
  refine k_getc 24 hK 0 (.ref (kd 1)) (by decide) (Or.inl q524) (Or.inl rfl) rfl dX6_run_21 rfl ?_
  refine k_gets 27 hK 1 (.int (C 1)) (by decide) (Or.inr ⟨_, nw_q503⟩) (Or.inl rfl) rfl dX6_run_24 rfl ?_
  refine r_i2l 28 (hK.pu _ _) dX6_run_27 rfl ?_
  refine r_ldc2 31 (hK.pu _ _) dX6_run_28 q1912 rfl ?_
  refine r_lmul 32 (hK.pu _ _) dX6_run_31 rfl ?_
  refine r_aload_n 33 0 (hK.pu _ _) dX6_run_32 rfl rfl ?_
  refine k_getc 36 hK 1 (.ref (kd 3)) (by decide) (Or.inl q526) (Or.inl rfl) rfl dX6_run_33 rfl ?_
  refine r_iconst 37 0 (hK.pu _ _) dX6_run_36 (by decide) rfl ?_
  refine k_lald 38 hK 1 0 (by decide) rfl (by decide) dX6_run_37 rfl ?_
  refine r_eql (p0K g (C 0) (C 1) (C 2) (C 3)) (upL_same) ?_
  refine r_lsub 39 (hK.pu _ _) dX6_run_38 rfl ?_
  refine k_maxL 42 hK q1913 ⟨by decide, by decide⟩ (Nat.le_of_ble_eq_true rfl) dX6_run_39 rfl ?_
  refine r_eql (p1K g (C 0) (C 1) (C 2) (C 3)) (rfl) ?_
  refine k_last 43 hK 1 1 (by decide) rfl (by decide) dX6_run_42 rfl ?_
  refine r_aload_n 44 0 (hK.pu _ _) dX6_run_43 rfl rfl ?_
  refine k_getc 47 hK 1 (.ref (kd 3)) (by decide) (Or.inl q526) (Or.inl rfl) rfl dX6_run_44 rfl ?_
  refine r_iconst 48 2 (hK.pu _ _) dX6_run_47 (by decide) rfl ?_
  refine r_aload_n 49 1 (hK.pu _ _) dX6_run_48 rfl rfl ?_
  refine r_aload_n 50 0 (hK.pu _ _) dX6_run_49 rfl rfl ?_
  refine k_getc 53 hK 1 (.ref (kd 3)) (by decide) (Or.inl q526) (Or.inl rfl) rfl dX6_run_50 rfl ?_
  refine r_iconst 54 1 (hK.pu _ _) dX6_run_53 (by decide) rfl ?_
  refine k_lald 55 hK 1 1 (by decide) rfl (by decide) dX6_run_54 rfl ?_
  refine r_eql (p1K g (C 0) (C 1) (C 2) (C 3)) (upL_same) ?_
  refine r_aload_n 56 0 (hK.pu _ _) dX6_run_55 rfl rfl ?_
  refine k_getc 59 hK 0 (.ref (kd 1)) (by decide) (Or.inl q524) (Or.inl rfl) rfl dX6_run_56 rfl ?_
  refine k_gets 62 hK 3 (.int (C 3)) (by decide) (Or.inr ⟨_, nw_q508⟩) (Or.inl rfl) rfl dX6_run_59 rfl ?_
  refine k_callp 65 hK (fun _ hh z => cp_X3_scheduled D l rd g nb nch ncr (hr z) hnb (p1K g (C 0) (C 1) (C 2) (C 3)) (C 3)) lk_X6_58 2 yk_X3_scheduled rfl ⟨by decide, by decide⟩ (fun _ hh z => ((hr z).o.fld 0 rfl)) rfl rfl (Nat.le_of_ble_eq_true rfl) dX6_run_62 rfl ?_
  refine r_eql (p2K g (C 0) (C 1) (C 2) (C 3) nb) (rfl) ?_
  refine k_last 66 hK 1 2 (by decide) rfl (by decide) dX6_run_65 rfl ?_
  refine r_aload_n 67 0 (hK.pu _ _) dX6_run_66 rfl rfl ?_
  refine k_getc 70 hK 1 (.ref (kd 3)) (by decide) (Or.inl q526) (Or.inl rfl) rfl dX6_run_67 rfl ?_
  refine r_iconst 71 3 (hK.pu _ _) dX6_run_70 (by decide) rfl ?_
  refine r_aload_n 72 1 (hK.pu _ _) dX6_run_71 rfl rfl ?_
  refine r_aload_n 73 0 (hK.pu _ _) dX6_run_72 rfl rfl ?_
  refine k_getc 76 hK 0 (.ref (kd 1)) (by decide) (Or.inl q524) (Or.inl rfl) rfl dX6_run_73 rfl ?_
  refine k_callp 79 hK (fun _ hh z => cp_X3_minimum D l rd g nb nch ncr (hr z) (kd 1) (C 1) (C 3) (hh.2.1.fld 1 rfl) (hh.2.1.fld 3 rfl)) lk_X6_62 1 yk_X3_minimum rfl ⟨by decide, by decide⟩ (fun _ hh z => ((hr z).o.fld 0 rfl)) rfl rfl (Nat.le_of_ble_eq_true rfl) dX6_run_76 rfl ?_
  refine k_last 80 hK 1 3 (by decide) rfl (by decide) dX6_run_79 rfl ?_
  refine r_aload_n 81 0 (hK.pu _ _) dX6_run_80 rfl rfl ?_
  refine k_getc 84 hK 1 (.ref (kd 3)) (by decide) (Or.inl q526) (Or.inl rfl) rfl dX6_run_81 rfl ?_
  refine r_iconst 85 4 (hK.pu _ _) dX6_run_84 (by decide) rfl ?_
  refine r_aload_n 86 0 (hK.pu _ _) dX6_run_85 rfl rfl ?_
  refine k_getc 89 hK 1 (.ref (kd 3)) (by decide) (Or.inl q526) (Or.inl rfl) rfl dX6_run_86 rfl ?_
  refine r_iconst 90 2 (hK.pu _ _) dX6_run_89 (by decide) rfl ?_
  refine k_lald 91 hK 1 2 (by decide) rfl (by decide) dX6_run_90 rfl ?_
  refine r_eql (p2K g (C 0) (C 1) (C 2) (C 3) nb) ((upL_x (by decide)).trans ((upL_same))) ?_
  refine r_aload_n 92 0 (hK.pu _ _) dX6_run_91 rfl rfl ?_
  refine k_getc 95 hK 1 (.ref (kd 3)) (by decide) (Or.inl q526) (Or.inl rfl) rfl dX6_run_92 rfl ?_
  refine r_iconst 96 3 (hK.pu _ _) dX6_run_95 (by decide) rfl ?_
  refine k_lald 97 hK 1 3 (by decide) rfl (by decide) dX6_run_96 rfl ?_
  refine r_eql (p3K g (C 0) (C 1) (C 2) (C 3)) (upL_same) ?_
  refine k_maxL 100 hK q1913 ⟨by decide, by decide⟩ (Nat.le_of_ble_eq_true rfl) dX6_run_97 rfl ?_
  refine r_eql (p4K g (C 0) (C 1) (C 2) (C 3) nb) (rfl) ?_
  refine k_last 101 hK 1 4 (by decide) rfl (by decide) dX6_run_100 rfl ?_
  refine r_aload_n 102 0 (hK.pu _ _) dX6_run_101 rfl rfl ?_
  refine k_getc 105 hK 1 (.ref (kd 3)) (by decide) (Or.inl q526) (Or.inl rfl) rfl dX6_run_102 rfl ?_
  refine r_iconst 106 5 (hK.pu _ _) dX6_run_105 (by decide) rfl ?_
  refine r_aload_n 107 0 (hK.pu _ _) dX6_run_106 rfl rfl ?_
  refine k_getc 110 hK 1 (.ref (kd 3)) (by decide) (Or.inl q526) (Or.inl rfl) rfl dX6_run_107 rfl ?_
  refine r_iconst 111 4 (hK.pu _ _) dX6_run_110 (by decide) rfl ?_
  refine k_lald 112 hK 1 4 (by decide) rfl (by decide) dX6_run_111 rfl ?_
  refine r_eql (p4K g (C 0) (C 1) (C 2) (C 3) nb) (upL_same) ?_
  refine r_aload_n 113 1 (hK.pu _ _) dX6_run_112 rfl rfl ?_
  refine r_aload_n 114 0 (hK.pu _ _) dX6_run_113 rfl rfl ?_
  refine k_getc 117 hK 0 (.ref (kd 1)) (by decide) (Or.inl q524) (Or.inl rfl) rfl dX6_run_114 rfl ?_
  refine k_callp 120 hK (fun _ hh z => cp_X3_charged D l rd g nb nch ncr (hr z) hch (kd 1) (C 1) (C 3) (hh.2.1.fld 1 rfl) (hh.2.1.fld 3 rfl)) lk_X6_65 1 yk_X3_charged rfl ⟨by decide, by decide⟩ (fun _ hh z => ((hr z).o.fld 0 rfl)) rfl rfl (Nat.le_of_ble_eq_true rfl) dX6_run_117 rfl ?_
  refine r_ladd 121 (hK.pu _ _) dX6_run_120 rfl ?_
  refine r_eql (p5K g (C 0) (C 1) (C 2) (C 3) nb nch) (rfl) ?_
  refine k_last 122 hK 1 5 (by decide) rfl (by decide) dX6_run_121 rfl ?_
  refine r_aload_n 123 0 (hK.pu _ _) dX6_run_122 rfl rfl ?_
  refine k_getc 126 hK 1 (.ref (kd 3)) (by decide) (Or.inl q526) (Or.inl rfl) rfl dX6_run_123 rfl ?_
  refine r_iconst 127 5 (hK.pu _ _) dX6_run_126 (by decide) rfl ?_
  refine k_lald 128 hK 1 5 (by decide) rfl (by decide) dX6_run_127 rfl ?_
  refine r_eql (p5K g (C 0) (C 1) (C 2) (C 3) nb nch) (upL_same) ?_
  refine r_lstore_n 129 [(2, .long (p5K g (C 0) (C 1) (C 2) (C 3) nb nch)), (0, .ref (kd 0)), (1, .ref (rd 0))] (hK.pu _ _) dX6_run_128 rfl (by decide) rfl rfl ?_
  refine k_eqL (L' := ruLp g L (C 0) (C 1) (C 2) (C 3) nb nch) (rfl) ?_
  refine r_iconst 130 0 (hK.pu _ _) dX6_run_129 (by decide) rfl ?_
  refine r_istore 132 [(4, .int 0), (2, .long (p5K g (C 0) (C 1) (C 2) (C 3) nb nch)), (0, .ref (kd 0)), (1, .ref (rd 0))] (hK.pu _ _) dX6_run_130 (by decide) rfl rfl ?_
  have lp_132 : ∀ (m : Nat) (k : Nat), (k ≤ ncr) → (ncr - k) < m → K (ruLk g (ruLp g L (C 0) (C 1) (C 2) (C 3) nb nch) (C 0) (C 1) (C 2) (C 3) (p5K g (C 0) (C 1) (C 2) (C 3) nb nch) k) C 132 [] [(4, .int (nI k)), (2, .long (reK g (C 0) (C 1) (C 2) (C 3) ((ruLp g L (C 0) (C 1) (C 2) (C 3) nb nch) 0) (p5K g (C 0) (C 1) (C 2) (C 3) nb nch) k)), (0, .ref (kd 0)), (1, .ref (rd 0))] := by
    intro m
    induction m with
    | zero => intro k hk hm; exact absurd hm (Nat.not_lt_zero _)
    | succ m ih =>
      intro k hk hm
      refine r_iload 134 0 (hK.pu _ _) dX6_run_132 rfl rfl ?_
      refine r_aload_n 135 3 (hK.pu _ _) dX6_run_134 rfl rfl ?_
      refine k_getq 138 hK (T := TX3) (C' := RX3) 4 (v := .ref (rd 6)) okX3 (fun _ z => ((hr z).o.fld 4 rfl)) rfl (by decide) (Or.inr ⟨_, nw_q318⟩) (Or.inl rfl) dX6_run_135 rfl ?_
      refine k_callp 141 hK (fun _ hh z => cp_J10_size D l (rd 6) ncr (fun k => rd (400 + k)) (fun k => rd (300 + k)) (hr z).rl) lk_X6_72 0 yk_J10_size rfl ⟨by decide, by decide⟩ (fun _ hh z => (hr z).rl.sz) rfl rfl (Nat.le_of_ble_eq_true rfl) dX6_run_138 rfl ?_
      refine r_icmp_geN k ncr 144 170 (hK.pu _ _) dX6_run_141 (by omega) (by omega) (by decide) (fun c141 => ?_) rfl (fun c141 => ?_)
      · have hkn : k = ncr := by omega
        subst hkn
        refine r_lload_n 171 1 (hK.pu _ _) dX6_run_170 rfl rfl ?_
        exact KR.lg hR dX6_run_171 ⟨rfl, rfl, rfl⟩
      · refine r_aload_n 145 2 (hK.pu _ _) dX6_run_144 rfl rfl ?_
        refine r_aload_n 146 3 (hK.pu _ _) dX6_run_145 rfl rfl ?_
        refine k_getq 149 hK (T := TX3) (C' := RX3) 4 (v := .ref (rd 6)) okX3 (fun _ z => ((hr z).o.fld 4 rfl)) rfl (by decide) (Or.inr ⟨_, nw_q318⟩) (Or.inl rfl) dX6_run_146 rfl ?_
        refine r_iload 151 0 (hK.pu _ _) dX6_run_149 rfl rfl ?_
        refine k_callp 154 hK (fun _ hh z => cp_J10_get D l (rd 6) ncr k (fun k => rd (400 + k)) (fun k => rd (300 + k)) (hr z).rl (by omega) (by omega)) lk_X6_78 1 yk_J10_get rfl ⟨by decide, by decide⟩ (fun _ hh z => (hr z).rl.sz) rfl rfl (Nat.le_of_ble_eq_true rfl) dX6_run_151 rfl ?_
        refine k_castq 157 hK (fun _ z => (((hr z).r (k := k) (by omega)).fld 0 rfl)) rfl q1939 dX6_run_154 rfl ?_
        refine r_iload 159 0 (hK.pu _ _) dX6_run_157 rfl rfl ?_
        refine r_lload_n 160 1 (hK.pu _ _) dX6_run_159 rfl rfl ?_
        refine k_d1 163 hK (kc_X6_use D l kd hN hQ rd g nb nch ncr hr hnb hch hcr k (by omega) (reK g (C 0) (C 1) (C 2) (C 3) ((ruLp g L (C 0) (C 1) (C 2) (C 3) nb nch) 0) (p5K g (C 0) (C 1) (C 2) (C 3) nb nch) k) (ruLk g (ruLp g L (C 0) (C 1) (C 2) (C 3) nb nch) (C 0) (C 1) (C 2) (C 3) (p5K g (C 0) (C 1) (C 2) (C 3) nb nch) k) C) lk_X6_84 3 yk_X6_use rfl ⟨by decide, by decide⟩ (fun _ hh z => (hh.1.fld 0 rfl)) rfl rfl (Nat.le_of_ble_eq_true rfl) dX6_run_160 rfl ?_
        refine r_eql (reK g (C 0) (C 1) (C 2) (C 3) ((ruLp g L (C 0) (C 1) (C 2) (C 3) nb nch) 0) (p5K g (C 0) (C 1) (C 2) (C 3) nb nch) (k + 1)) (by rw [ruLk_0]; rfl) ?_
        refine r_lstore_n 164 [(2, .long (reK g (C 0) (C 1) (C 2) (C 3) ((ruLp g L (C 0) (C 1) (C 2) (C 3) nb nch) 0) (p5K g (C 0) (C 1) (C 2) (C 3) nb nch) (k + 1))), (4, .int (nI k)), (0, .ref (kd 0)), (1, .ref (rd 0))] (hK.pu _ _) dX6_run_163 rfl (by decide) rfl rfl ?_
        refine r_iinc 167 (nI (k + 1)) 1 [(4, .int (nI (k + 1))), (2, .long (reK g (C 0) (C 1) (C 2) (C 3) ((ruLp g L (C 0) (C 1) (C 2) (C 3) nb nch) 0) (p5K g (C 0) (C 1) (C 2) (C 3) nb nch) (k + 1))), (0, .ref (kd 0)), (1, .ref (rd 0))] (hK.pu _ _) dX6_run_164 rfl (nI_1 k) (by decide) rfl rfl ?_
        refine r_goto 132 (hK.pu _ _) dX6_run_167 (by decide) ?_
        exact ih (k + 1) (by omega) (by omega)
  exact lp_132 (ncr + 1) 0 (by omega) (by omega)
