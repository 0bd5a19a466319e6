/-! K: the judgement of the computing methods. The computation's object, its case and their seven arrays (L: 0 carried, 1 parts, 2 values, 3 used, 4 lost, 5 kept, 6 rests; C: earned, income, dependents, factor); Q: what else is known and stays -/
set_option maxRecDepth 100000
/-! Math.max, Math.min -/
def maxL (x y : Int64) : Int64 := if y < x then x else y
def minL (x y : Int64) : Int64 := if y < x then y else x
def maxJ (x y : Int32) : Int32 := if x < y then y else x
def minJ (x y : Int32) : Int32 := if y < x then y else x
section JMATH
variable {D : DD} {l : Launch} {s : State} {own : String} {args : Array Value} {cc : ByteArray} {nL : Nat} {R : Room} {nm : String} {A : Nat → Prop} {H0 : Heap} {J : Heap → Nat → Nat → Nat → List Value → List (Nat × Value) → Prop} {H : Heap} {k n pc index : Nat} {rest : List Value} {lv : List (Nat × Value)}
theorem j_maxL (q : Nat) (hJ : Jx D l s own args cc nL R nm A H0 J) {x y : Int64} (hlk : Cond.methodLink own index ⟨"java/lang/Math", "max", "(JJ)J"⟩ ∈ lw_all) (hR : 1 ≤ R.frames ∧ 23 ≤ R.locals) (hrest : (rest.map fun v => v.category).sum ≤ 8) (d : decode cc pc = .ok (.invokestatic index, 3)) (hf : k ≤ R.cells ∧ n ≤ R.slots) (e : pc + 3 = q) (kk : J H k n q (.long (maxL x y) :: rest) lv) : J H k n pc (.long y :: .long x :: rest) lv := by
  subst e
  refine hJ.go fun ls locs hx hb hml hown hts hnm hK hA hOK hl hS ret => ?_
  exact va_mmax_long hx hb (hml.trans hl.1.symm) hown (hts _ hlk) (hts _ q1909) (hts _ q119) (hts _ q1910) hR.1 (by omega) hf.1 hf.2 d (ret _ _ _ _ _ _ kk ls locs hl hS)
theorem j_minL (q : Nat) (hJ : Jx D l s own args cc nL R nm A H0 J) {x y : Int64} (hlk : Cond.methodLink own index ⟨"java/lang/Math", "min", "(JJ)J"⟩ ∈ lw_all) (hR : 1 ≤ R.frames ∧ 23 ≤ R.locals) (hrest : (rest.map fun v => v.category).sum ≤ 8) (d : decode cc pc = .ok (.invokestatic index, 3)) (hf : k ≤ R.cells ∧ n ≤ R.slots) (e : pc + 3 = q) (kk : J H k n q (.long (minL x y) :: rest) lv) : J H k n pc (.long y :: .long x :: rest) lv := by
  subst e
  refine hJ.go fun ls locs hx hb hml hown hts hnm hK hA hOK hl hS ret => ?_
  exact va_mmin_long hx hb (hml.trans hl.1.symm) hown (hts _ hlk) (hts _ q1924) (hts _ q119) (hts _ q1925) hR.1 (by omega) hf.1 hf.2 d (ret _ _ _ _ _ _ kk ls locs hl hS)
theorem j_maxJ (q : Nat) (hJ : Jx D l s own args cc nL R nm A H0 J) {x y : Int32} (hlk : Cond.methodLink own index ⟨"java/lang/Math", "max", "(II)I"⟩ ∈ lw_all) (hR : 1 ≤ R.frames ∧ 21 ≤ R.locals) (hrest : (rest.map fun v => v.category).sum ≤ 8) (d : decode cc pc = .ok (.invokestatic index, 3)) (hf : k ≤ R.cells ∧ n ≤ R.slots) (e : pc + 3 = q) (kk : J H k n q (.int (maxJ x y) :: rest) lv) : J H k n pc (.int y :: .int x :: rest) lv := by
  subst e
  refine hJ.go fun ls locs hx hb hml hown hts hnm hK hA hOK hl hS ret => ?_
  exact va_mmax hx hb (hml.trans hl.1.symm) hown (hts _ hlk) (hts _ q374) (hts _ q119) (hts _ q375) hR.1 (by omega) hf.1 hf.2 d (ret _ _ _ _ _ _ kk ls locs hl hS)
theorem j_minJ (q : Nat) (hJ : Jx D l s own args cc nL R nm A H0 J) {x y : Int32} (hlk : Cond.methodLink own index ⟨"java/lang/Math", "min", "(II)I"⟩ ∈ lw_all) (hR : 1 ≤ R.frames ∧ 21 ≤ R.locals) (hrest : (rest.map fun v => v.category).sum ≤ 8) (d : decode cc pc = .ok (.invokestatic index, 3)) (hf : k ≤ R.cells ∧ n ≤ R.slots) (e : pc + 3 = q) (kk : J H k n q (.int (minJ x y) :: rest) lv) : J H k n pc (.int y :: .int x :: rest) lv := by
  subst e
  refine hJ.go fun ls locs hx hb hml hown hts hnm hK hA hOK hl hS ret => ?_
  exact va_mmin hx hb (hml.trans hl.1.symm) hown (hts _ hlk) (hts _ q439) (hts _ q119) (hts _ q440) hR.1 (by omega) hf.1 hf.2 d (ret _ _ _ _ _ _ kk ls locs hl hS)
end JMATH
def cwF (kd : Nat → Nat) : List Value := [.ref (kd 1), .ref (kd 3), .ref (kd 4), .ref (kd 5), .ref (kd 6), .ref (kd 7), .ref (kd 8)]
def csF (kd : Nat → Nat) (C : TC) : List Value := [.int (C 0), .int (C 1), .int (C 2), .int (C 3), .ref (kd 2)]
def kwN (kd : Nat → Nat) : Prop := ∀ i j, i < 9 → j < 9 → kd i = kd j → i = j
def cw (D : DD) (kd : Nat → Nat) (L : TL) (C : TC) (H : Heap) : Prop := ob D 6 (cwF kd) (kd 0) H ∧ ob D 7 (csF kd C) (kd 1) H ∧ (∀ j, j < 7 → arl D 6 (L j) (kd (2 + j)) H)
def kS (kd : Nat → Nat) : Nat → Prop := fun q => ∃ i, i < 9 ∧ q = kd i
def kA (kd : Nat → Nat) (H0 : Heap) : Nat → Prop := fun q => kS kd q ∨ H0.size ≤ q
theorem cw.putC {D : DD} {kd : Nat → Nat} {L : TL} {C C' : TC} {H H1 : Heap} (hN : kwN kd) (h : cw D kd L C H) (ho : ob D 7 (csF kd C') (kd 1) H1) (hH : hu (kd 1) H H1) : cw D kd L C' H1 :=
  ⟨h.1.kept (hH.2 _ (fun e => absurd (hN 0 1 (by omega) (by omega) e) (by decide))), ho, fun j hj => (h.2.2 j hj).kept (hH.2 _ (fun e => absurd (hN (2 + j) 1 (by omega) (by omega) e) (by omega)))⟩
theorem cw.putL {D : DD} {kd : Nat → Nat} {L : TL} {C : TC} {H H1 : Heap} {j : Nat} {f : Nat → Int64} (hN : kwN kd) (h : cw D kd L C H) (hj : j < 7) (ho : arl D 6 f (kd (2 + j)) H1) (hH : hu (kd (2 + j)) H H1) : cw D kd (va_up L j f) C H1 := by
  refine ⟨h.1.kept (hH.2 _ (fun e => absurd (hN 0 (2 + j) (by omega) (by omega) e) (by omega))), h.2.1.kept (hH.2 _ (fun e => absurd (hN 1 (2 + j) (by omega) (by omega) e) (by omega))), fun i hi => ?_⟩
  by_cases hij : i = j
  · subst hij
    show arl D 6 (if i = i then f else L i) _ H1
    rw [if_pos rfl]; exact ho
  · show arl D 6 (if i = j then f else L i) _ H1
    rw [if_neg hij]
    exact (h.2.2 i hi).kept (hH.2 _ (fun e => hij (by have := hN (2 + i) (2 + j) (by omega) (by omega) e; omega)))
/-- Q isn't touched by what a computation writes -/
def kQ (kd : Nat → Nat) (Q : Heap → Prop) : Prop := ∀ H H1, Q H → fr (kS kd) H H1 → Q H1
theorem hu.tokS {kd : Nat → Nat} {i : Nat} {H H1 : Heap} (hi : i < 9) (h : hu (kd i) H H1) : fr (kS kd) H H1 := ⟨Nat.le_of_eq h.1.symm, fun q _ hq => h.2 q (fun e => hq ⟨i, hi, e⟩)⟩
theorem fr.tokS {kd : Nat → Nat} {H H1 : Heap} (h : fr (kA kd H) H H1) : fr (kS kd) H H1 := ⟨h.1, fun q hq hn => h.2 q hq (fun z => z.elim hn (fun z => absurd hq (Nat.not_lt.mpr z)))⟩
abbrev KJ : Type := TL → TC → Nat → List Value → List (Nat × Value) → Prop
def Kx (D : DD) (l : Launch) (s : State) (own : String) (args : Array Value) (cc : ByteArray) (nL : Nat) (R : Room) (kd : Nat → Nat) (Q : Heap → Prop) (K : KJ) : Prop :=
  ∃ (nm : String) (A : Nat → Prop) (H0 : Heap) (J : Heap → Nat → Nat → Nat → List Value → List (Nat × Value) → Prop), Jx D l s own args cc nL R nm A H0 J ∧ kwN kd ∧ (∀ i, i < 9 → A (kd i)) ∧ kQ kd Q ∧ K = fun L C pc st lv => ∀ H, cw D kd L C H → Q H → J H 0 0 pc st lv
def Kc (D : DD) (l : Launch) (y : MethodName) (b : ByteArray) (Lm : Nat) (ret : Option FieldType) (f lo : Nat) (kd : Nat → Nat) (Q : Heap → Prop) (As : List Value) (L : TL) (C : TC) (Post : Option Value → TL → TC → Prop) : Prop :=
  ∀ H0, cw D kd L C H0 → Q H0 → Ct D l y b Lm ret f 0 0 lo As H0 (fun r H => ∃ L' C', Post r L' C' ∧ cw D kd L' C' H) (kA kd H0)
def KR (b : ByteArray) (ret : Option FieldType) (Post : Option Value → TL → TC → Prop) (K : KJ) : Prop :=
  ∀ (L : TL) (C : TC) (pc : Nat) (lv : List (Nat × Value)),
    (ret = none → decode b pc = .ok (.return_, 1) → Post none L C → K L C pc [] lv) ∧
    (∀ (v : Int32) (ty : FieldType), ret = some ty → narrow ty (.int v) = .int v → decode b pc = .ok (.ireturn, 1) → Post (some (.int v)) L C → K L C pc [.int v] lv) ∧
    (∀ (v : Int64), ret = some .long → decode b pc = .ok (.lreturn, 1) → Post (some (.long v)) L C → K L C pc [.long v] lv) ∧
    (∀ (v : UInt64), ret = some .double → decode b pc = .ok (.dreturn, 1) → Post (some (.double v)) L C → K L C pc [.double v] lv)
theorem Kc.of {D : DD} {l : Launch} {y : MethodName} {b : ByteArray} {Lm : Nat} {ret : Option FieldType} {f lo : Nat} {kd : Nat → Nat} {Q : Heap → Prop} {As : List Value} {L : TL} {C : TC} {Post : Option Value → TL → TC → Prop} (hN : kwN kd) (hQ : kQ kd Q) (hy : plainName y.cls = true) (hAs : (lg_sl As).length ≤ Lm)
    (body : ∀ (s : State) (K : KJ), Kx D l s y.cls As.toArray b Lm (rm_ f 0 0 lo) kd Q K → KR b ret Post K → K L C 0 [] (lv_args 0 As)) : Kc D l y b Lm ret f lo kd Q As L C Post := by
  intro H0 h0 q0
  refine Ct.of hy hAs (fun q h => Or.inr h) (fun s J hJ hR => ?_)
  refine body s (fun L C pc st lv => ∀ H, cw D kd L C H → Q H → J H 0 0 pc st lv) ⟨_, _, _, J, hJ, hN, fun i hi => Or.inl ⟨i, hi, rfl⟩, hQ, rfl⟩ ?_ H0 h0 q0
  intro L' C' pc lv
  refine ⟨fun e d hp H hH _ => ?_, fun v ty e hn d hp H hH _ => ?_, fun v e d hp H hH _ => ?_, fun v e d hp H hH _ => ?_⟩
  · exact (hR H 0 0 pc lv (Nat.le_refl 0) (Nat.le_refl 0)).1 e d ⟨_, _, hp, hH⟩
  · exact (hR H 0 0 pc lv (Nat.le_refl 0) (Nat.le_refl 0)).2.1 v ty e hn d ⟨_, _, hp, hH⟩
  · exact (hR H 0 0 pc lv (Nat.le_refl 0) (Nat.le_refl 0)).2.2.1 v e d ⟨_, _, hp, hH⟩
  · exact (hR H 0 0 pc lv (Nat.le_refl 0) (Nat.le_refl 0)).2.2.2.2.1 v e d ⟨_, _, hp, hH⟩
section KROWS
variable {D : DD} {l : Launch} {s : State} {own : String} {args : Array Value} {cc : ByteArray} {nL : Nat} {R : Room} {kd : Nat → Nat} {Q : Heap → Prop} {K : KJ} {L : TL} {C : TC} {pc : Nat} {st : List Value} {lv : List (Nat × Value)} {b : ByteArray}
theorem Kx.pu (h : Kx D l s own args cc nL R kd Q K) (L : TL) (C : TC) : Pu s own args cc nL (K L C) := by
  obtain ⟨nm, A, H0, J, hJ, hN, hAd, hQ, rfl⟩ := h
  obtain ⟨p, e, m, below, meth, c, Q', hx, hb, hml, ho, ht, hn, hlk, hK, hA, hAs, hOK, rfl⟩ := hJ
  exact ⟨p, l, e, R, m, below, meth, c, Q', fun H' locs k' n' => cw D kd L C H' ∧ Q H' ∧ k' = 0 ∧ n' = 0 ∧ va_S A H0 H' locs, hx, hb, ho, ht, fun pc st lv => ⟨fun w H' locs k' n' ⟨e1, e4, e2, e3, hS⟩ ls hl => by subst e2; subst e3; exact w H' e1 e4 ls locs hl hS, fun w H' e1 e4 ls locs hl hS => w H' locs 0 0 ⟨e1, e4, rfl, rfl, hS⟩ ls hl⟩⟩
theorem KR.v {Post : Option Value → TL → TC → Prop} (h : KR b none Post K) (d : decode b pc = .ok (.return_, 1)) (hp : Post none L C) : K L C pc [] lv := (h L C pc lv).1 rfl d hp
theorem KR.i {Post : Option Value → TL → TC → Prop} {ty : FieldType} {v : Int32} (h : KR b (some ty) Post K) (hn : narrow ty (.int v) = .int v) (d : decode b pc = .ok (.ireturn, 1)) (hp : Post (some (.int v)) L C) : K L C pc [.int v] lv := (h L C pc lv).2.1 v ty rfl hn d hp
theorem KR.lg {Post : Option Value → TL → TC → Prop} {v : Int64} (h : KR b (some .long) Post K) (d : decode b pc = .ok (.lreturn, 1)) (hp : Post (some (.long v)) L C) : K L C pc [.long v] lv := (h L C pc lv).2.2.1 v rfl d hp
theorem KR.db {Post : Option Value → TL → TC → Prop} {v : UInt64} (h : KR b (some .double) Post K) (d : decode b pc = .ok (.dreturn, 1)) (hp : Post (some (.double v)) L C) : K L C pc [.double v] lv := (h L C pc lv).2.2.2 v rfl d hp
/-- a field of an object that stays -/
theorem k_getq (q : Nat) (hK : Kx D l s own args cc nL R kd Q K) {ref C' : String} {T : u_T} {N ci index a : Nat} {ty : Nat → FieldType} (i : Nat) {v : Value} (hcl : clsOk C' T N ty) (ho : ∀ H, Q H → fld D ci a i v H) (hc : aCl[ci]? = some (C', T, N)) (hi : i < N) (hlink : fLk own index ref (T i).2.1 (T i).2.2.1) (hsame : fSm ref (T i)) (d : decode cc pc = .ok (.getfield index, 3)) (e : pc + 3 = q) (kk : K L C q (v :: st) lv) : K L C pc (.ref a :: st) lv := by
  obtain ⟨nm, A, H0, J, hJ, hN, hAd, hQ, rfl⟩ := hK
  intro H hH hq
  exact j_getf q hJ i hcl (ho H hq) hc hi hlink hsame d e (kk H hH hq)
theorem k_getc (q : Nat) (hK : Kx D l s own args cc nL R kd Q K) {ref : String} {index : Nat} (i : Nat) (v : Value) (hi : i < 7) (hlink : fLk own index ref (TX6 i).2.1 (TX6 i).2.2.1) (hsame : fSm ref (TX6 i)) (hv : (cwF kd)[i]? = some v) (d : decode cc pc = .ok (.getfield index, 3)) (e : pc + 3 = q) (kk : K L C q (v :: st) lv) : K L C pc (.ref (kd 0) :: st) lv := by
  obtain ⟨nm, A, H0, J, hJ, hN, hAd, hQ, rfl⟩ := hK
  intro H hH hq
  exact j_get q hJ okX6.1 hH.1 rfl i hi hlink hsame hv d e (kk H hH hq)
theorem k_gets (q : Nat) (hK : Kx D l s own args cc nL R kd Q K) {ref : String} {index : Nat} (i : Nat) (v : Value) (hi : i < 5) (hlink : fLk own index ref (TX7 i).2.1 (TX7 i).2.2.1) (hsame : fSm ref (TX7 i)) (hv : (csF kd C)[i]? = some v) (d : decode cc pc = .ok (.getfield index, 3)) (e : pc + 3 = q) (kk : K L C q (v :: st) lv) : K L C pc (.ref (kd 1) :: st) lv := by
  obtain ⟨nm, A, H0, J, hJ, hN, hAd, hQ, rfl⟩ := hK
  intro H hH hq
  exact j_get q hJ okX7.1 hH.2.1 rfl i hi hlink hsame hv d e (kk H hH hq)
theorem k_puts (q : Nat) (hK : Kx D l s own args cc nL R kd Q K) {ref : String} {index : Nat} (i : Nat) {x : Int32} (hi : i < 5) (hlink : fLk own index ref (TX7 i).2.1 (TX7 i).2.2.1) (hsame : fSm ref (TX7 i)) (hfin : (TX7 i).2.2.2 = false) (hn : narrow (tyX7 i) (.int x) = .int x) (hfit : fits (tyX7 i) (.int x) = true) (hset : (csF kd C).set i (.int x) = csF kd (upC C i x)) (d : decode cc pc = .ok (.putfield index, 3)) (e : pc + 3 = q) (kk : K L (upC C i x) q st lv) : K L C pc (.int x :: .ref (kd 1) :: st) lv := by
  obtain ⟨nm, A, H0, J, hJ, hN, hAd, hQ, rfl⟩ := hK
  intro H hH hq
  refine j_put q hJ okX7 hH.2.1 (hAd 1 (by omega)) rfl i hi hlink hsame hfin hn hfit hi d e fun H1 h1 h2 => ?_
  rw [hset] at h1
  exact kk H1 (hH.putC hN h1 h2) (hQ H H1 hq (h2.tokS (by omega)))
theorem k_lald (q : Nat) (hK : Kx D l s own args cc nL R kd Q K) (j : Nat) {i : Int32} (x : Nat) (hj : j < 7) (hi : i = nI x) (hx : x < 6) (d : decode cc pc = .ok (.laload, 1)) (e : pc + 1 = q) (kk : K L C q (.long (L j x) :: st) lv) : K L C pc (.int i :: .ref (kd (2 + j)) :: st) lv := by
  obtain ⟨nm, A, H0, J, hJ, hN, hAd, hQ, rfl⟩ := hK
  intro H hH hq
  exact j_lald q hJ (hH.2.2 j hj) x hi hx (by omega) d e (kk H hH hq)
theorem k_last (q : Nat) (hK : Kx D l s own args cc nL R kd Q K) (j : Nat) {i : Int32} {v : Int64} (x : Nat) (hj : j < 7) (hi : i = nI x) (hx : x < 6) (d : decode cc pc = .ok (.lastore, 1)) (e : pc + 1 = q) (kk : K (upL L j x v) C q st lv) : K L C pc (.long v :: .int i :: .ref (kd (2 + j)) :: st) lv := by
  obtain ⟨nm, A, H0, J, hJ, hN, hAd, hQ, rfl⟩ := hK
  intro H hH hq
  exact j_last q hJ (hH.2.2 j hj) (hAd _ (by omega)) x hi hx (by omega) d e fun H1 h1 h2 => kk H1 (hH.putL hN hj h1 h2) (hQ H H1 hq (h2.tokS (by omega)))
theorem k_ialdq (q : Nat) (hK : Kx D l s own args cc nL R kd Q K) {N a : Nat} {i x : Int32} (j : Nat) (ho : ∀ H, Q H → eli D N a j x H) (hi : i = nI j) (hj : j < N) (hj2 : j < 2 ^ 31) (d : decode cc pc = .ok (.iaload, 1)) (e : pc + 1 = q) (kk : K L C q (.int x :: st) lv) : K L C pc (.int i :: .ref a :: st) lv := by
  obtain ⟨nm, A, H0, J, hJ, hN, hAd, hQ, rfl⟩ := hK
  intro H hH hq
  exact j_ialde q hJ j (ho H hq) hi hj hj2 d e (kk H hH hq)
theorem k_laldq (q : Nat) (hK : Kx D l s own args cc nL R kd Q K) {N a : Nat} {i : Int32} {x : Int64} (j : Nat) (ho : ∀ H, Q H → ell D N a j x H) (hi : i = nI j) (hj : j < N) (hj2 : j < 2 ^ 31) (d : decode cc pc = .ok (.laload, 1)) (e : pc + 1 = q) (kk : K L C q (.long x :: st) lv) : K L C pc (.int i :: .ref a :: st) lv := by
  obtain ⟨nm, A, H0, J, hJ, hN, hAd, hQ, rfl⟩ := hK
  intro H hH hq
  exact j_lalde q hJ j (ho H hq) hi hj hj2 d e (kk H hH hq)
theorem k_aaldq (q : Nat) (hK : Kx D l s own args cc nL R kd Q K) {N a t : Nat} {C' : String} {i : Int32} {x : Option Nat} (j : Nat) (ho : ∀ H, Q H → elr D t N a j x H) (ht : (aTys D.2.1)[t]? = some (D.2.1 t, .object C')) (hi : i = nI j) (hj : j < N) (hj2 : j < 2 ^ 31) (d : decode cc pc = .ok (.aaload, 1)) (e : pc + 1 = q) (kk : K L C q (va_rf x :: st) lv) : K L C pc (.int i :: .ref a :: st) lv := by
  obtain ⟨nm, A, H0, J, hJ, hN, hAd, hQ, rfl⟩ := hK
  intro H hH hq
  exact j_aalde q hJ j (ho H hq) ht hi hj hj2 d e (kk H hH hq)
theorem k_castq (q : Nat) (hK : Kx D l s own args cc nL R kd Q K) {C' : String} {T : u_T} {N ci a i index : Nat} {v : Value} (ho : ∀ H, Q H → fld D ci a i v H) (hc : aCl[ci]? = some (C', T, N)) (hlk : Cond.classLink own index C' ∈ lw_all) (d : decode cc pc = .ok (.checkcast index, 3)) (e : pc + 3 = q) (kk : K L C q (.ref a :: st) lv) : K L C pc (.ref a :: st) lv := by
  obtain ⟨nm, A, H0, J, hJ, hN, hAd, hQ, rfl⟩ := hK
  intro H hH hq
  exact j_castf q hJ (ho H hq) hc hlk d e (kk H hH hq)
variable {y : MethodName} {Lm f lo index na o : Nat} {ret : Option FieldType} {As rest : List Value}
theorem k_callS {v : Value} (q : Nat) (hK : Kx D l s own args cc nL R kd Q K) (hc : Cs D l y b Lm ret f lo As v) (hw : GoodIn lw_all (va_wsS own index y (ws_ y b Lm ret))) (na : Nat) (hy : yOk y na) (hna : As.length = na) (hR : f + 1 ≤ R.frames ∧ 8 + (Lm + 11) + lo ≤ R.locals) (hst : st = As.reverse ++ rest) (hrest : (rest.map fun v => v.category).sum ≤ 8) (d : decode cc pc = .ok (.invokestatic index, 3)) (e : pc + 3 = q) (kk : K L C q (v :: rest) lv) : K L C pc st lv := by
  obtain ⟨nm, A, H0, J, hJ, hN, hAd, hQ, rfl⟩ := hK
  intro H hH hq
  exact cs_row q hJ hc hw na hy hna hR hst hrest d ⟨Nat.zero_le _, Nat.zero_le _⟩ e (kk H hH hq)
theorem k_maxL (q : Nat) (hK : Kx D l s own args cc nL R kd Q K) {x y : Int64} (hlk : Cond.methodLink own index ⟨"java/lang/Math", "max", "(JJ)J"⟩ ∈ lw_all) (hR : 1 ≤ R.frames ∧ 23 ≤ R.locals) (hrest : (rest.map fun v => v.category).sum ≤ 8) (d : decode cc pc = .ok (.invokestatic index, 3)) (e : pc + 3 = q) (kk : K L C q (.long (maxL x y) :: rest) lv) : K L C pc (.long y :: .long x :: rest) lv := by
  obtain ⟨nm, A, H0, J, hJ, hN, hAd, hQ, rfl⟩ := hK
  intro H hH hq
  exact j_maxL q hJ hlk hR hrest d ⟨Nat.zero_le _, Nat.zero_le _⟩ e (kk H hH hq)
theorem k_minL (q : Nat) (hK : Kx D l s own args cc nL R kd Q K) {x y : Int64} (hlk : Cond.methodLink own index ⟨"java/lang/Math", "min", "(JJ)J"⟩ ∈ lw_all) (hR : 1 ≤ R.frames ∧ 23 ≤ R.locals) (hrest : (rest.map fun v => v.category).sum ≤ 8) (d : decode cc pc = .ok (.invokestatic index, 3)) (e : pc + 3 = q) (kk : K L C q (.long (minL x y) :: rest) lv) : K L C pc (.long y :: .long x :: rest) lv := by
  obtain ⟨nm, A, H0, J, hJ, hN, hAd, hQ, rfl⟩ := hK
  intro H hH hq
  exact j_minL q hJ hlk hR hrest d ⟨Nat.zero_le _, Nat.zero_le _⟩ e (kk H hH hq)
theorem k_maxJ (q : Nat) (hK : Kx D l s own args cc nL R kd Q K) {x y : Int32} (hlk : Cond.methodLink own index ⟨"java/lang/Math", "max", "(II)I"⟩ ∈ lw_all) (hR : 1 ≤ R.frames ∧ 21 ≤ R.locals) (hrest : (rest.map fun v => v.category).sum ≤ 8) (d : decode cc pc = .ok (.invokestatic index, 3)) (e : pc + 3 = q) (kk : K L C q (.int (maxJ x y) :: rest) lv) : K L C pc (.int y :: .int x :: rest) lv := by
  obtain ⟨nm, A, H0, J, hJ, hN, hAd, hQ, rfl⟩ := hK
  intro H hH hq
  exact j_maxJ q hJ hlk hR hrest d ⟨Nat.zero_le _, Nat.zero_le _⟩ e (kk H hH hq)
theorem k_minJ (q : Nat) (hK : Kx D l s own args cc nL R kd Q K) {x y : Int32} (hlk : Cond.methodLink own index ⟨"java/lang/Math", "min", "(II)I"⟩ ∈ lw_all) (hR : 1 ≤ R.frames ∧ 21 ≤ R.locals) (hrest : (rest.map fun v => v.category).sum ≤ 8) (d : decode cc pc = .ok (.invokestatic index, 3)) (e : pc + 3 = q) (kk : K L C q (.int (minJ x y) :: rest) lv) : K L C pc (.int y :: .int x :: rest) lv := by
  obtain ⟨nm, A, H0, J, hJ, hN, hAd, hQ, rfl⟩ := hK
  intro H hH hq
  exact j_minJ q hJ hlk hR hrest d ⟨Nat.zero_le _, Nat.zero_le _⟩ e (kk H hH hq)
theorem k_callps {v : Option Value} (q : Nat) (hK : Kx D l s own args cc nL R kd Q K) (hc : ∀ H, cw D kd L C H → Q H → Cp D l y b Lm ret f lo As H v) (hw : GoodIn lw_all (va_wsS own index y (ws_ y b Lm ret))) (na : Nat) (hy : yOk y na) (hna : As.length = na) (hR : f + 1 ≤ R.frames ∧ 8 + (Lm + 11) + lo ≤ R.locals) (hst : st = As.reverse ++ rest) (hrest : (rest.map fun v => v.category).sum ≤ 8) (d : decode cc pc = .ok (.invokestatic index, 3)) (e : pc + 3 = q) (kk : K L C q (v.toList ++ rest) lv) : K L C pc st lv := by
  obtain ⟨nm, A, H0, J, hJ, hN, hAd, hQ, rfl⟩ := hK
  intro H hH hq
  exact j_callps q hJ (hc H hH hq) hw na hy hna hR hst hrest d ⟨Nat.zero_le _, Nat.zero_le _⟩ e (kk H hH hq)
/-- a call that only answers -/
theorem k_callp {v : Option Value} (q : Nat) (hK : Kx D l s own args cc nL R kd Q K) (hc : ∀ H, cw D kd L C H → Q H → Cp D l y b Lm ret f lo (.ref o :: As) H v) (hw : GoodIn lw_all (wsV own index y.cls y (ws_ y b Lm ret))) (na : Nat) (hy : yOk y na) (hna : As.length = na) (hR : f + 1 ≤ R.frames ∧ 8 + (Lm + 11) + lo ≤ R.locals) {ci i : Nat} {w : Value} {T : u_T} {N : Nat} (ho : ∀ H, cw D kd L C H → Q H → fld D ci o i w H) (hcl : aCl[ci]? = some (y.cls, T, N)) (hst : st = As.reverse ++ .ref o :: rest) (hrest : (rest.map fun v => v.category).sum ≤ 8) (d : decode cc pc = .ok (.invokevirtual index, 3)) (e : pc + 3 = q) (kk : K L C q (v.toList ++ rest) lv) : K L C pc st lv := by
  obtain ⟨nm, A, H0, J, hJ, hN, hAd, hQ, rfl⟩ := hK
  intro H hH hq
  exact j_callp q hJ (hc H hH hq) hw na hy hna hR (ho H hH hq) hcl hst hrest d ⟨Nat.zero_le _, Nat.zero_le _⟩ e (kk H hH hq)
theorem k_call {Post : Option Value → TL → TC → Prop} (q : Nat) (hK : Kx D l s own args cc nL R kd Q K) (hc : Kc D l y b Lm ret f lo kd Q (.ref o :: As) L C Post) (hw : GoodIn lw_all (wsV own index y.cls y (ws_ y b Lm ret))) (na : Nat) (hy : yOk y na) (hna : As.length = na) (hR : f + 1 ≤ R.frames ∧ 8 + (Lm + 11) + lo ≤ R.locals) {ci i : Nat} {w : Value} {T : u_T} {N : Nat} (ho : ∀ H, cw D kd L C H → Q H → fld D ci o i w H) (hcl : aCl[ci]? = some (y.cls, T, N)) (hst : st = As.reverse ++ .ref o :: rest) (hrest : (rest.map fun v => v.category).sum ≤ 8) (d : decode cc pc = .ok (.invokevirtual index, 3)) (e : pc + 3 = q) (kk : ∀ (r : Option Value) (L' : TL) (C' : TC), Post r L' C' → K L' C' q (r.toList ++ rest) lv) : K L C pc st lv := by
  obtain ⟨nm, A, H0, J, hJ, hN, hAd, hQ, rfl⟩ := hK
  intro H hH hq
  obtain ⟨fs, h1, -⟩ := ho H hH hq
  refine j_callV q hJ (hc H hH hq) hw na hy hna hR h1 hcl hst hrest d ⟨Nat.zero_le _, Nat.zero_le _⟩ ?_ e ?_
  · intro x hx
    rcases hx with ⟨i, hi, rfl⟩ | hx
    · exact Or.inl (hAd i hi)
    · exact Or.inr hx
  · intro r H1 ⟨L', C', hp, hH1⟩ hf
    exact kk r L' C' hp H1 hH1 (hQ H H1 hq hf.tokS)
theorem k_d1 {v : Value} {L2 : TL} {C2 : TC} (q : Nat) (hK : Kx D l s own args cc nL R kd Q K) (hc : Kc D l y b Lm ret f lo kd Q (.ref o :: As) L C (fun r L' C' => r = some v ∧ L' = L2 ∧ C' = C2)) (hw : GoodIn lw_all (wsV own index y.cls y (ws_ y b Lm ret))) (na : Nat) (hy : yOk y na) (hna : As.length = na) (hR : f + 1 ≤ R.frames ∧ 8 + (Lm + 11) + lo ≤ R.locals) {ci i : Nat} {w : Value} {T : u_T} {N : Nat} (ho : ∀ H, cw D kd L C H → Q H → fld D ci o i w H) (hcl : aCl[ci]? = some (y.cls, T, N)) (hst : st = As.reverse ++ .ref o :: rest) (hrest : (rest.map fun v => v.category).sum ≤ 8) (d : decode cc pc = .ok (.invokevirtual index, 3)) (e : pc + 3 = q) (kk : K L2 C2 q (v :: rest) lv) : K L C pc st lv :=
  k_call q hK hc hw na hy hna hR ho hcl hst hrest d e (fun r L' C' ⟨e1, e2, e3⟩ => by subst e1; subst e2; subst e3; exact kk)
theorem k_d0 {L2 : TL} {C2 : TC} (q : Nat) (hK : Kx D l s own args cc nL R kd Q K) (hc : Kc D l y b Lm ret f lo kd Q (.ref o :: As) L C (fun r L' C' => r = none ∧ L' = L2 ∧ C' = C2)) (hw : GoodIn lw_all (wsV own index y.cls y (ws_ y b Lm ret))) (na : Nat) (hy : yOk y na) (hna : As.length = na) (hR : f + 1 ≤ R.frames ∧ 8 + (Lm + 11) + lo ≤ R.locals) {ci i : Nat} {w : Value} {T : u_T} {N : Nat} (ho : ∀ H, cw D kd L C H → Q H → fld D ci o i w H) (hcl : aCl[ci]? = some (y.cls, T, N)) (hst : st = As.reverse ++ .ref o :: rest) (hrest : (rest.map fun v => v.category).sum ≤ 8) (d : decode cc pc = .ok (.invokevirtual index, 3)) (e : pc + 3 = q) (kk : K L2 C2 q rest lv) : K L C pc st lv :=
  k_call q hK hc hw na hy hna hR ho hcl hst hrest d e (fun r L' C' ⟨e1, e2, e3⟩ => by subst e1; subst e2; subst e3; exact kk)
theorem k_eqL {L' : TL} (e : L = L') (k : K L' C pc st lv) : K L C pc st lv := e ▸ k
theorem k_eqC {C' : TC} (e : C = C') (k : K L C' pc st lv) : K L C pc st lv := e ▸ k
end KROWS
