/-! T: the judgement of the reference's methods. The reference is one object and 14 arrays; I: its arrays of ints (g kept past text tried), L: its arrays of longs (h keptCarried pastCarried parts brought value used rest next), C: its other fields by their places -/
set_option maxRecDepth 100000
abbrev TI : Type := Nat → Nat → Int32
abbrev TL : Type := Nat → Nat → Int64
abbrev TC : Type := Nat → Int32
def twF (ad : Nat → Nat) (C : TC) : List Value := [.ref (ad 1), .ref (ad 2), .ref (ad 3), .ref (ad 4), .int (C 4), .ref (ad 5), .ref (ad 6), .int (C 7), .int (C 8), .ref (ad 7), .int (C 10), .int (C 11), .int (C 12), .int (C 13), .int (C 14), .ref (ad 8), .ref (ad 9), .ref (ad 10), .ref (ad 11), .ref (ad 12), .ref (ad 13), .int (C 21), .ref (ad 14)]
def aI (j : Nat) : Nat := [1, 3, 5, 7, 8].getD j 0
def zI (j : Nat) : Nat := [89, 89, 534, 80, 89].getD j 0
def aL (j : Nat) : Nat := [2, 4, 6, 9, 10, 11, 12, 13, 14].getD j 0
def zL (j : Nat) : Nat := [36, 36, 216, 6, 6, 6, 6, 6, 36].getD j 0
def twN (ad : Nat → Nat) : Prop := ∀ i j, i < 15 → j < 15 → ad i = ad j → i = j
def tw (D : DD) (ad : Nat → Nat) (I : TI) (L : TL) (C : TC) (H : Heap) : Prop := ob D 0 (twF ad C) (ad 0) H ∧ (∀ j, j < 5 → ari D (zI j) (I j) (ad (aI j)) H) ∧ (∀ j, j < 9 → arl D (zL j) (L j) (ad (aL j)) H)
def twA (ad : Nat → Nat) (H0 : Heap) : Nat → Prop := fun q => (∃ i, i < 15 ∧ q = ad i) ∨ H0.size ≤ q
theorem aI_lt : ∀ j, j < 5 → aI j < 15 ∧ aI j ≠ 0 := by decide
theorem aL_lt : ∀ j, j < 9 → aL j < 15 ∧ aL j ≠ 0 := by decide
theorem aI_inj : ∀ i, i < 5 → ∀ j, j < 5 → aI i = aI j → i = j := by decide
theorem aL_inj : ∀ i, i < 9 → ∀ j, j < 9 → aL i = aL j → i = j := by decide
theorem aIL : ∀ i, i < 5 → ∀ j, j < 9 → aI i ≠ aL j := by decide
theorem zI_lt : ∀ j, j < 5 → zI j < 1000 := by decide
theorem zL_lt : ∀ j, j < 9 → zL j < 1000 := by decide
/-- a scalar field written -/
abbrev upC (C : TC) (k : Nat) (x : Int32) : TC := upd C k x
abbrev upI (I : TI) (j x : Nat) (v : Int32) : TI := va_up I j (upd (I j) x v)
abbrev upL (L : TL) (j x : Nat) (v : Int64) : TL := va_up L j (vp_updL (L j) x v)
theorem tw.putC {D : DD} {ad : Nat → Nat} {I : TI} {L : TL} {C C' : TC} {H H1 : Heap} (hN : twN ad) (h : tw D ad I L C H) (ho : ob D 0 (twF ad C') (ad 0) H1) (hH : hu (ad 0) H H1) : tw D ad I L C' H1 :=
  ⟨ho, fun j hj => (h.2.1 j hj).kept (hH.2 _ (fun e => (aI_lt j hj).2 (hN _ _ (aI_lt j hj).1 (by omega) e))), fun j hj => (h.2.2 j hj).kept (hH.2 _ (fun e => (aL_lt j hj).2 (hN _ _ (aL_lt j hj).1 (by omega) e)))⟩
theorem tw.putI {D : DD} {ad : Nat → Nat} {I : TI} {L : TL} {C : TC} {H H1 : Heap} {j : Nat} {f : Nat → Int32} (hN : twN ad) (h : tw D ad I L C H) (hj : j < 5) (ho : ari D (zI j) f (ad (aI j)) H1) (hH : hu (ad (aI j)) H H1) : tw D ad (va_up I j f) L C H1 := by
  refine ⟨h.1.kept (hH.2 _ (fun e => (aI_lt j hj).2 (hN _ _ (by omega) (aI_lt j hj).1 e).symm)), fun i hi => ?_, fun i hi => (h.2.2 i hi).kept (hH.2 _ (fun e => aIL j hj i hi (hN _ _ (aL_lt i hi).1 (aI_lt j hj).1 e).symm))⟩
  by_cases hij : i = j
  · subst hij
    show ari D (zI i) (if i = i then f else I i) _ H1
    rw [if_pos rfl]; exact ho
  · show ari D (zI i) (if i = j then f else I i) _ H1
    rw [if_neg hij]
    exact (h.2.1 i hi).kept (hH.2 _ (fun e => hij (aI_inj i hi j hj (hN _ _ (aI_lt i hi).1 (aI_lt j hj).1 e))))
theorem tw.putL {D : DD} {ad : Nat → Nat} {I : TI} {L : TL} {C : TC} {H H1 : Heap} {j : Nat} {f : Nat → Int64} (hN : twN ad) (h : tw D ad I L C H) (hj : j < 9) (ho : arl D (zL j) f (ad (aL j)) H1) (hH : hu (ad (aL j)) H H1) : tw D ad I (va_up L j f) C H1 := by
  refine ⟨h.1.kept (hH.2 _ (fun e => (aL_lt j hj).2 (hN _ _ (by omega) (aL_lt j hj).1 e).symm)), fun i hi => (h.2.1 i hi).kept (hH.2 _ (fun e => aIL i hi j hj (hN _ _ (aI_lt i hi).1 (aL_lt j hj).1 e))), fun i hi => ?_⟩
  by_cases hij : i = j
  · subst hij
    show arl D (zL i) (if i = i then f else L i) _ H1
    rw [if_pos rfl]; exact ho
  · show arl D (zL i) (if i = j then f else L i) _ H1
    rw [if_neg hij]
    exact (h.2.2 i hi).kept (hH.2 _ (fun e => hij (aL_inj i hi j hj (hN _ _ (aL_lt i hi).1 (aL_lt j hj).1 e))))
def Tx (D : DD) (l : Launch) (s : State) (own : String) (args : Array Value) (cc : ByteArray) (nL : Nat) (R : Room) (ad : Nat → Nat) (T : TI → TL → TC → Nat → List Value → List (Nat × Value) → Prop) : Prop :=
  ∃ (nm : String) (A : Nat → Prop) (H0 : Heap) (J : Heap → Nat → Nat → Nat → List Value → List (Nat × Value) → Prop), Jx D l s own args cc nL R nm A H0 J ∧ twN ad ∧ (∀ i, i < 15 → A (ad i)) ∧ T = fun I L C pc st lv => ∀ H, tw D ad I L C H → J H 0 0 pc st lv
theorem Tx.pu {D : DD} {l : Launch} {s : State} {own : String} {args : Array Value} {cc : ByteArray} {nL : Nat} {R : Room} {ad : Nat → Nat} {T : TI → TL → TC → Nat → List Value → List (Nat × Value) → Prop} (h : Tx D l s own args cc nL R ad T) (I : TI) (L : TL) (C : TC) : Pu s own args cc nL (T I L C) := by
  obtain ⟨nm, A, H0, J, hJ, hN, hAd, rfl⟩ := h
  obtain ⟨p, e, m, below, meth, c, Q, hx, hb, hml, ho, ht, hn, hlk, hK, hA, hAs, hOK, rfl⟩ := hJ
  exact ⟨p, l, e, R, m, below, meth, c, Q, fun H' locs k' n' => tw D ad I L C H' ∧ k' = 0 ∧ n' = 0 ∧ va_S A H0 H' locs, hx, hb, ho, ht, fun pc st lv => ⟨fun w H' locs k' n' ⟨e1, e2, e3, hS⟩ ls hl => by subst e2; subst e3; exact w H' e1 ls locs hl hS, fun w H' e1 ls locs hl hS => w H' locs 0 0 ⟨e1, rfl, rfl, hS⟩ ls hl⟩⟩
/-- contracts of the reference's methods -/
def Tc (D : DD) (l : Launch) (y : MethodName) (b : ByteArray) (Lm : Nat) (ret : Option FieldType) (f lo : Nat) (ad : Nat → Nat) (as : List Value) (I : TI) (L : TL) (C : TC) (Post : Option Value → TI → TL → TC → Prop) : Prop :=
  ∀ H0, tw D ad I L C H0 → Ct D l y b Lm ret f 0 0 lo (.ref (ad 0) :: as) H0 (fun r H => ∃ I' L' C', Post r I' L' C' ∧ tw D ad I' L' C' H) (twA ad H0)
def rV (P : TI → TL → TC → Prop) : Option Value → TI → TL → TC → Prop := fun r I L C => r = none ∧ P I L C
def rI (P : Int32 → TI → TL → TC → Prop) : Option Value → TI → TL → TC → Prop := fun r I L C => ∃ x, r = some (.int x) ∧ P x I L C
def rL (P : Int64 → TI → TL → TC → Prop) : Option Value → TI → TL → TC → Prop := fun r I L C => ∃ x, r = some (.long x) ∧ P x I L C
def rD (P : UInt64 → TI → TL → TC → Prop) : Option Value → TI → TL → TC → Prop := fun r I L C => ∃ x, r = some (.double x) ∧ P x I L C
def rF (P : UInt32 → TI → TL → TC → Prop) : Option Value → TI → TL → TC → Prop := fun r I L C => ∃ x, r = some (.float x) ∧ P x I L C
/-- a static method that only answers -/
def Cs (D : DD) (l : Launch) (y : MethodName) (b : ByteArray) (Lm : Nat) (ret : Option FieldType) (f lo : Nat) (As : List Value) (v : Value) : Prop :=
  ∀ H0, Ct D l y b Lm ret f 0 0 lo As H0 (fun r H => r = some v ∧ H = H0) (fun q => H0.size ≤ q)
def TR (b : ByteArray) (ret : Option FieldType) (Post : Option Value → TI → TL → TC → Prop) (T : TI → TL → TC → Nat → List Value → List (Nat × Value) → Prop) : Prop :=
  ∀ (I : TI) (L : TL) (C : TC) (pc : Nat) (lv : List (Nat × Value)),
    (ret = none → decode b pc = .ok (.return_, 1) → Post none I L C → T I L C pc [] lv) ∧
    (∀ (v : Int32) (ty : FieldType), ret = some ty → narrow ty (.int v) = .int v → decode b pc = .ok (.ireturn, 1) → Post (some (.int v)) I L C → T I L C pc [.int v] lv) ∧
    (∀ (v : Int64), ret = some .long → decode b pc = .ok (.lreturn, 1) → Post (some (.long v)) I L C → T I L C pc [.long v] lv) ∧
    (∀ (v : UInt32), ret = some .float → decode b pc = .ok (.freturn, 1) → Post (some (.float v)) I L C → T I L C pc [.float v] lv) ∧
    (∀ (v : UInt64), ret = some .double → decode b pc = .ok (.dreturn, 1) → Post (some (.double v)) I L C → T I L C pc [.double v] lv)
theorem Tc.of {D : DD} {l : Launch} {y : MethodName} {b : ByteArray} {Lm : Nat} {ret : Option FieldType} {f lo : Nat} {ad : Nat → Nat} {as : List Value} {I : TI} {L : TL} {C : TC} {Post : Option Value → TI → TL → TC → Prop} (hN : twN ad) (hy : plainName y.cls = true) (hAs : (lg_sl (.ref (ad 0) :: as)).length ≤ Lm)
    (body : ∀ (s : State) (T : TI → TL → TC → Nat → List Value → List (Nat × Value) → Prop), Tx D l s y.cls (Value.ref (ad 0) :: as).toArray b Lm (rm_ f 0 0 lo) ad T → TR b ret Post T → T I L C 0 [] (lv_args 0 (.ref (ad 0) :: as))) : Tc D l y b Lm ret f lo ad as I L C Post := by
  intro H0 h0
  refine Ct.of hy hAs (fun q h => Or.inr h) (fun s J hJ hR => ?_)
  refine body s (fun I L C pc st lv => ∀ H, tw D ad I L C H → J H 0 0 pc st lv) ⟨_, _, _, J, hJ, hN, fun i hi => Or.inl ⟨i, hi, rfl⟩, rfl⟩ ?_ H0 h0
  intro I' L' C' pc lv
  refine ⟨fun e d hp H hH => ?_, fun v ty e hn d hp H hH => ?_, fun v e d hp H hH => ?_, fun v e d hp H hH => ?_, fun v e d hp H hH => ?_⟩
  · exact (hR H 0 0 pc lv (Nat.le_refl 0) (Nat.le_refl 0)).1 e d ⟨_, _, _, hp, hH⟩
  · exact (hR H 0 0 pc lv (Nat.le_refl 0) (Nat.le_refl 0)).2.1 v ty e hn d ⟨_, _, _, hp, hH⟩
  · exact (hR H 0 0 pc lv (Nat.le_refl 0) (Nat.le_refl 0)).2.2.1 v e d ⟨_, _, _, hp, hH⟩
  · exact (hR H 0 0 pc lv (Nat.le_refl 0) (Nat.le_refl 0)).2.2.2.1 v e d ⟨_, _, _, hp, hH⟩
  · exact (hR H 0 0 pc lv (Nat.le_refl 0) (Nat.le_refl 0)).2.2.2.2.1 v e d ⟨_, _, _, hp, hH⟩
section TROWS
variable {D : DD} {l : Launch} {s : State} {own : String} {args : Array Value} {cc : ByteArray} {nL : Nat} {R : Room} {ad : Nat → Nat} {T : TI → TL → TC → Nat → List Value → List (Nat × Value) → Prop} {I : TI} {L : TL} {C : TC} {pc : Nat} {st : List Value} {lv : List (Nat × Value)} {b : ByteArray}
theorem TR.v {P : TI → TL → TC → Prop} (h : TR b none (rV P) T) (d : decode b pc = .ok (.return_, 1)) (hp : P I L C) : T I L C pc [] lv := (h I L C pc lv).1 rfl d ⟨rfl, hp⟩
theorem TR.i {ty : FieldType} {P : Int32 → TI → TL → TC → Prop} {v : Int32} (h : TR b (some ty) (rI P) T) (hn : narrow ty (.int v) = .int v) (d : decode b pc = .ok (.ireturn, 1)) (hp : P v I L C) : T I L C pc [.int v] lv := (h I L C pc lv).2.1 v ty rfl hn d ⟨v, rfl, hp⟩
theorem TR.lg {P : Int64 → TI → TL → TC → Prop} {v : Int64} (h : TR b (some .long) (rL P) T) (d : decode b pc = .ok (.lreturn, 1)) (hp : P v I L C) : T I L C pc [.long v] lv := (h I L C pc lv).2.2.1 v rfl d ⟨v, rfl, hp⟩
theorem TR.fl {P : UInt32 → TI → TL → TC → Prop} {v : UInt32} (h : TR b (some .float) (rF P) T) (d : decode b pc = .ok (.freturn, 1)) (hp : P v I L C) : T I L C pc [.float v] lv := (h I L C pc lv).2.2.2.1 v rfl d ⟨v, rfl, hp⟩
theorem TR.db {P : UInt64 → TI → TL → TC → Prop} {v : UInt64} (h : TR b (some .double) (rD P) T) (d : decode b pc = .ok (.dreturn, 1)) (hp : P v I L C) : T I L C pc [.double v] lv := (h I L C pc lv).2.2.2.2 v rfl d ⟨v, rfl, hp⟩
theorem t_get (q : Nat) (hT : Tx D l s own args cc nL R ad T) {index : Nat} (i : Nat) (v : Value) (hi : i < 23) (hlink : Cond.fieldLink own index RX8 (TX8 i).2.1 (TX8 i).2.2.1 ∈ lw_all) (hsame : (TX8 i).1 = RX8) (hv : (twF ad C)[i]? = some v) (d : decode cc pc = .ok (.getfield index, 3)) (e : pc + 3 = q) (kk : T I L C q (v :: st) lv) : T I L C pc (.ref (ad 0) :: st) lv := by
  obtain ⟨nm, A, H0, J, hJ, hN, hAd, rfl⟩ := hT
  intro H hH
  exact j_get q hJ okX8.1 hH.1 rfl i hi (Or.inl hlink) (Or.inl hsame) hv d e (kk H hH)
theorem t_put (q : Nat) (hT : Tx D l s own args cc nL R ad T) {index : Nat} (i : Nat) {x : Int32} (hi : i < 23) (hlink : Cond.fieldLink own index RX8 (TX8 i).2.1 (TX8 i).2.2.1 ∈ lw_all) (hsame : (TX8 i).1 = RX8) (hfin : (TX8 i).2.2.2 = false) (hn : narrow (tyX8 i) (.int x) = .int x) (hfit : fits (tyX8 i) (.int x) = true) (hset : (twF ad C).set i (.int x) = twF ad (upC C i x)) (d : decode cc pc = .ok (.putfield index, 3)) (e : pc + 3 = q) (kk : T I L (upC C i x) q st lv) : T I L C pc (.int x :: .ref (ad 0) :: st) lv := by
  obtain ⟨nm, A, H0, J, hJ, hN, hAd, rfl⟩ := hT
  intro H hH
  refine j_put q hJ okX8 hH.1 (hAd 0 (by omega)) rfl i hi (Or.inl hlink) (Or.inl hsame) hfin hn hfit hi d e fun H1 h1 h2 => ?_
  rw [hset] at h1
  exact kk H1 (hH.putC hN h1 h2)
theorem t_iald (q : Nat) (hT : Tx D l s own args cc nL R ad T) (j : Nat) {i : Int32} (x : Nat) (hj : j < 5) (hi : i = nI x) (hx : x < zI j) (d : decode cc pc = .ok (.iaload, 1)) (e : pc + 1 = q) (kk : T I L C q (.int (I j x) :: st) lv) : T I L C pc (.int i :: .ref (ad (aI j)) :: st) lv := by
  obtain ⟨nm, A, H0, J, hJ, hN, hAd, rfl⟩ := hT
  intro H hH
  exact j_iald q hJ (hH.2.1 j hj) x hi hx (by have := zI_lt j hj; omega) d e (kk H hH)
theorem t_lald (q : Nat) (hT : Tx D l s own args cc nL R ad T) (j : Nat) {i : Int32} (x : Nat) (hj : j < 9) (hi : i = nI x) (hx : x < zL j) (d : decode cc pc = .ok (.laload, 1)) (e : pc + 1 = q) (kk : T I L C q (.long (L j x) :: st) lv) : T I L C pc (.int i :: .ref (ad (aL j)) :: st) lv := by
  obtain ⟨nm, A, H0, J, hJ, hN, hAd, rfl⟩ := hT
  intro H hH
  exact j_lald q hJ (hH.2.2 j hj) x hi hx (by have := zL_lt j hj; omega) d e (kk H hH)
theorem t_iast (q : Nat) (hT : Tx D l s own args cc nL R ad T) (j : Nat) {i v : Int32} (x : Nat) (hj : j < 5) (hi : i = nI x) (hx : x < zI j) (d : decode cc pc = .ok (.iastore, 1)) (e : pc + 1 = q) (kk : T (upI I j x v) L C q st lv) : T I L C pc (.int v :: .int i :: .ref (ad (aI j)) :: st) lv := by
  obtain ⟨nm, A, H0, J, hJ, hN, hAd, rfl⟩ := hT
  intro H hH
  exact j_iast q hJ (hH.2.1 j hj) (hAd _ (aI_lt j hj).1) x hi hx (by have := zI_lt j hj; omega) d e fun H1 h1 h2 => kk H1 (hH.putI hN hj h1 h2)
theorem t_last (q : Nat) (hT : Tx D l s own args cc nL R ad T) (j : Nat) {i : Int32} {v : Int64} (x : Nat) (hj : j < 9) (hi : i = nI x) (hx : x < zL j) (d : decode cc pc = .ok (.lastore, 1)) (e : pc + 1 = q) (kk : T I (upL L j x v) C q st lv) : T I L C pc (.long v :: .int i :: .ref (ad (aL j)) :: st) lv := by
  obtain ⟨nm, A, H0, J, hJ, hN, hAd, rfl⟩ := hT
  intro H hH
  exact j_last q hJ (hH.2.2 j hj) (hAd _ (aL_lt j hj).1) x hi hx (by have := zL_lt j hj; omega) d e fun H1 h1 h2 => kk H1 (hH.putL hN hj h1 h2)
variable {y : MethodName} {Lm f lo index na : Nat} {ret : Option FieldType} {as rest : List Value}
theorem t_call {Post : Option Value → TI → TL → TC → Prop} (q : Nat) (hT : Tx D l s own args cc nL R ad T) (hc : Tc D l y b Lm ret f lo ad as I L C Post) (hyc : y.cls = RX8) (hw : GoodIn lw_all (wsV own index y.cls y (ws_ y b Lm ret))) (na : Nat) (hy : yOk y na) (hna : as.length = na) (hR : f + 1 ≤ R.frames ∧ 8 + (Lm + 11) + lo ≤ R.locals) (hst : st = as.reverse ++ .ref (ad 0) :: rest) (hrest : (rest.map fun v => v.category).sum ≤ 8) (d : decode cc pc = .ok (.invokevirtual index, 3)) (e : pc + 3 = q) (kk : ∀ (r : Option Value) (I' : TI) (L' : TL) (C' : TC), Post r I' L' C' → T I' L' C' q (r.toList ++ rest) lv) : T I L C pc st lv := by
  obtain ⟨nm, A, H0, J, hJ, hN, hAd, rfl⟩ := hT
  intro H hH
  refine j_callV q hJ (hc H hH) hw na hy hna hR hH.1 (by rw [hyc]; rfl) hst hrest d ⟨Nat.zero_le _, Nat.zero_le _⟩ ?_ e ?_
  · intro x hx
    rcases hx with ⟨i, hi, rfl⟩ | hx
    · exact Or.inl (hAd i hi)
    · exact Or.inr hx
  · intro r H1 ⟨I', L', C', hp, hH1⟩ _
    exact kk r I' L' C' hp H1 hH1
theorem t_callv {P : TI → TL → TC → Prop} (q : Nat) (hT : Tx D l s own args cc nL R ad T) (hc : Tc D l y b Lm ret f lo ad as I L C (rV P)) (hyc : y.cls = RX8) (hw : GoodIn lw_all (wsV own index y.cls y (ws_ y b Lm ret))) (na : Nat) (hy : yOk y na) (hna : as.length = na) (hR : f + 1 ≤ R.frames ∧ 8 + (Lm + 11) + lo ≤ R.locals) (hst : st = as.reverse ++ .ref (ad 0) :: rest) (hrest : (rest.map fun v => v.category).sum ≤ 8) (d : decode cc pc = .ok (.invokevirtual index, 3)) (e : pc + 3 = q) (kk : ∀ (I' : TI) (L' : TL) (C' : TC), P I' L' C' → T I' L' C' q rest lv) : T I L C pc st lv :=
  t_call q hT hc hyc hw na hy hna hR hst hrest d e (fun r I' L' C' ⟨e, h⟩ => by subst e; exact kk I' L' C' h)
theorem t_calli {P : Int32 → TI → TL → TC → Prop} (q : Nat) (hT : Tx D l s own args cc nL R ad T) (hc : Tc D l y b Lm ret f lo ad as I L C (rI P)) (hyc : y.cls = RX8) (hw : GoodIn lw_all (wsV own index y.cls y (ws_ y b Lm ret))) (na : Nat) (hy : yOk y na) (hna : as.length = na) (hR : f + 1 ≤ R.frames ∧ 8 + (Lm + 11) + lo ≤ R.locals) (hst : st = as.reverse ++ .ref (ad 0) :: rest) (hrest : (rest.map fun v => v.category).sum ≤ 8) (d : decode cc pc = .ok (.invokevirtual index, 3)) (e : pc + 3 = q) (kk : ∀ (x : Int32) (I' : TI) (L' : TL) (C' : TC), P x I' L' C' → T I' L' C' q (.int x :: rest) lv) : T I L C pc st lv :=
  t_call q hT hc hyc hw na hy hna hR hst hrest d e (fun r I' L' C' ⟨x, e, h⟩ => by subst e; exact kk x I' L' C' h)
theorem t_calll {P : Int64 → TI → TL → TC → Prop} (q : Nat) (hT : Tx D l s own args cc nL R ad T) (hc : Tc D l y b Lm ret f lo ad as I L C (rL P)) (hyc : y.cls = RX8) (hw : GoodIn lw_all (wsV own index y.cls y (ws_ y b Lm ret))) (na : Nat) (hy : yOk y na) (hna : as.length = na) (hR : f + 1 ≤ R.frames ∧ 8 + (Lm + 11) + lo ≤ R.locals) (hst : st = as.reverse ++ .ref (ad 0) :: rest) (hrest : (rest.map fun v => v.category).sum ≤ 8) (d : decode cc pc = .ok (.invokevirtual index, 3)) (e : pc + 3 = q) (kk : ∀ (x : Int64) (I' : TI) (L' : TL) (C' : TC), P x I' L' C' → T I' L' C' q (.long x :: rest) lv) : T I L C pc st lv :=
  t_call q hT hc hyc hw na hy hna hR hst hrest d e (fun r I' L' C' ⟨x, e, h⟩ => by subst e; exact kk x I' L' C' h)
theorem t_callS {v : Value} {As : List Value} (q : Nat) (hT : Tx D l s own args cc nL R ad T) (hc : Cs D l y b Lm ret f lo As v) (hw : GoodIn lw_all (va_wsS own index y (ws_ y b Lm ret))) (na : Nat) (hy : yOk y na) (hna : As.length = na) (hR : f + 1 ≤ R.frames ∧ 8 + (Lm + 11) + lo ≤ R.locals) (hst : st = As.reverse ++ rest) (hrest : (rest.map fun v => v.category).sum ≤ 8) (d : decode cc pc = .ok (.invokestatic index, 3)) (e : pc + 3 = q) (kk : T I L C q (v :: rest) lv) : T I L C pc st lv := by
  obtain ⟨nm, A, H0, J, hJ, hN, hAd, rfl⟩ := hT
  intro H hH
  refine j_callS q hJ (hc H) hw na hy hna hR hst hrest d ⟨Nat.zero_le _, Nat.zero_le _⟩ (fun x hx => Or.inr hx) e ?_
  rintro r H1 ⟨rfl, rfl⟩ _
  exact kk H1 hH
end TROWS
/-! deterministic contracts: the answer and the new contents as terms -/
def Td (D : DD) (l : Launch) (y : MethodName) (b : ByteArray) (Lm : Nat) (ret : Option FieldType) (f lo : Nat) (ad : Nat → Nat) (as : List Value) (I : TI) (L : TL) (C : TC) (rv : Option Value) (I2 : TI) (L2 : TL) (C2 : TC) : Prop :=
  Tc D l y b Lm ret f lo ad as I L C (fun r I' L' C' => r = rv ∧ I' = I2 ∧ L' = L2 ∧ C' = C2)
section TROWS2
variable {D : DD} {l : Launch} {s : State} {own : String} {args : Array Value} {cc : ByteArray} {nL : Nat} {R : Room} {ad : Nat → Nat} {T : TI → TL → TC → Nat → List Value → List (Nat × Value) → Prop} {I I2 : TI} {L L2 : TL} {C C2 : TC} {pc : Nat} {st : List Value} {lv : List (Nat × Value)} {b : ByteArray}
variable {y : MethodName} {Lm f lo index na : Nat} {ret : Option FieldType} {as rest : List Value}
theorem t_d1 (q : Nat) (hT : Tx D l s own args cc nL R ad T) {v : Value} (hc : Td D l y b Lm ret f lo ad as I L C (some v) I2 L2 C2) (hyc : y.cls = RX8) (hw : GoodIn lw_all (wsV own index y.cls y (ws_ y b Lm ret))) (na : Nat) (hy : yOk y na) (hna : as.length = na) (hR : f + 1 ≤ R.frames ∧ 8 + (Lm + 11) + lo ≤ R.locals) (hst : st = as.reverse ++ .ref (ad 0) :: rest) (hrest : (rest.map fun v => v.category).sum ≤ 8) (d : decode cc pc = .ok (.invokevirtual index, 3)) (e : pc + 3 = q) (kk : T I2 L2 C2 q (v :: rest) lv) : T I L C pc st lv :=
  t_call q hT hc hyc hw na hy hna hR hst hrest d e (fun r I' L' C' ⟨e1, e2, e3, e4⟩ => by subst e1; subst e2; subst e3; subst e4; exact kk)
theorem t_d0 (q : Nat) (hT : Tx D l s own args cc nL R ad T) (hc : Td D l y b Lm ret f lo ad as I L C none I2 L2 C2) (hyc : y.cls = RX8) (hw : GoodIn lw_all (wsV own index y.cls y (ws_ y b Lm ret))) (na : Nat) (hy : yOk y na) (hna : as.length = na) (hR : f + 1 ≤ R.frames ∧ 8 + (Lm + 11) + lo ≤ R.locals) (hst : st = as.reverse ++ .ref (ad 0) :: rest) (hrest : (rest.map fun v => v.category).sum ≤ 8) (d : decode cc pc = .ok (.invokevirtual index, 3)) (e : pc + 3 = q) (kk : T I2 L2 C2 q rest lv) : T I L C pc st lv :=
  t_call q hT hc hyc hw na hy hna hR hst hrest d e (fun r I' L' C' ⟨e1, e2, e3, e4⟩ => by subst e1; subst e2; subst e3; subst e4; exact kk)
abbrev TRd (b : ByteArray) (ret : Option FieldType) (rv : Option Value) (I2 : TI) (L2 : TL) (C2 : TC) (T : TI → TL → TC → Nat → List Value → List (Nat × Value) → Prop) : Prop := TR b ret (fun r I' L' C' => r = rv ∧ I' = I2 ∧ L' = L2 ∧ C' = C2) T
theorem TRd.v (h : TRd b none none I2 L2 C2 T) (d : decode b pc = .ok (.return_, 1)) (e1 : I = I2) (e2 : L = L2) (e3 : C = C2) : T I L C pc [] lv := (h I L C pc lv).1 rfl d ⟨rfl, e1, e2, e3⟩
theorem TRd.i {ty : FieldType} {v w : Int32} (h : TRd b (some ty) (some (.int w)) I2 L2 C2 T) (hn : narrow ty (.int v) = .int v) (d : decode b pc = .ok (.ireturn, 1)) (e : v = w) (e1 : I = I2) (e2 : L = L2) (e3 : C = C2) : T I L C pc [.int v] lv := (h I L C pc lv).2.1 v ty rfl hn d ⟨by rw [e], e1, e2, e3⟩
theorem TRd.lg {v w : Int64} (h : TRd b (some .long) (some (.long w)) I2 L2 C2 T) (d : decode b pc = .ok (.lreturn, 1)) (e : v = w) (e1 : I = I2) (e2 : L = L2) (e3 : C = C2) : T I L C pc [.long v] lv := (h I L C pc lv).2.2.1 v rfl d ⟨by rw [e], e1, e2, e3⟩
theorem TRd.fl {v w : UInt32} (h : TRd b (some .float) (some (.float w)) I2 L2 C2 T) (d : decode b pc = .ok (.freturn, 1)) (e : v = w) (e1 : I = I2) (e2 : L = L2) (e3 : C = C2) : T I L C pc [.float v] lv := (h I L C pc lv).2.2.2.1 v rfl d ⟨by rw [e], e1, e2, e3⟩
theorem TRd.db {v w : UInt64} (h : TRd b (some .double) (some (.double w)) I2 L2 C2 T) (d : decode b pc = .ok (.dreturn, 1)) (e : v = w) (e1 : I = I2) (e2 : L = L2) (e3 : C = C2) : T I L C pc [.double v] lv := (h I L C pc lv).2.2.2.2 v rfl d ⟨by rw [e], e1, e2, e3⟩
theorem t_eqL {L' : TL} (e : L = L') (k : T I L' C pc st lv) : T I L C pc st lv := e ▸ k
theorem t_eqI {I' : TI} (e : I = I') (k : T I' L C pc st lv) : T I L C pc st lv := e ▸ k
theorem t_eqC {C' : TC} (e : C = C') (k : T I L C' pc st lv) : T I L C pc st lv := e ▸ k
end TROWS2
/-! static methods' bodies -/
theorem Cs.of {D : DD} {l : Launch} {y : MethodName} {b : ByteArray} {Lm : Nat} {ret : Option FieldType} {f lo : Nat} {As : List Value} {v : Value} (hy : plainName y.cls = true) (hAs : (lg_sl As).length ≤ Lm)
    (body : ∀ (s : State) (H0 : Heap) (A : Nat → Prop) (J : Heap → Nat → Nat → Nat → List Value → List (Nat × Value) → Prop), Jx D l s y.cls As.toArray b Lm (rm_ f 0 0 lo) y.name A H0 J →
      ((∀ pc lv (x : Int32) (ty : FieldType), ret = some ty → narrow ty (.int x) = .int x → decode b pc = .ok (.ireturn, 1) → .int x = v → J H0 0 0 pc [.int x] lv) ∧ (∀ pc lv (x : Int64), ret = some .long → decode b pc = .ok (.lreturn, 1) → .long x = v → J H0 0 0 pc [.long x] lv)) →
      J H0 0 0 0 [] (lv_args 0 As)) : Cs D l y b Lm ret f lo As v := by
  intro H0
  refine Ct.of hy hAs (fun q h => h) (fun s J hJ hR => ?_)
  refine body s H0 _ J hJ ⟨fun pc lv x ty e1 e2 e3 e4 => ?_, fun pc lv x e1 e3 e4 => ?_⟩
  · exact (hR H0 0 0 pc lv (Nat.le_refl 0) (Nat.le_refl 0)).2.1 x ty e1 e2 e3 ⟨by rw [e4], rfl⟩
  · exact (hR H0 0 0 pc lv (Nat.le_refl 0) (Nat.le_refl 0)).2.2.1 x e1 e3 ⟨by rw [e4], rfl⟩
theorem cs_row {D : DD} {l : Launch} {s : State} {own : String} {args : Array Value} {cc : ByteArray} {nL : Nat} {R : Room} {nm : String} {A : Nat → Prop} {H0 : Heap} {J : Heap → Nat → Nat → Nat → List Value → List (Nat × Value) → Prop} {H : Heap} {k n pc : Nat} {st : List Value} {lv : List (Nat × Value)} {y : MethodName} {b : ByteArray} {L : Nat} {ret : Option FieldType} {f lo index : Nat} {As rest : List Value} {v : Value} (q : Nat) (hJ : Jx D l s own args cc nL R nm A H0 J) (hc : Cs D l y b L ret f lo As v) (hw : GoodIn lw_all (va_wsS own index y (ws_ y b L ret))) (na : Nat) (hy : yOk y na) (hna : As.length = na) (hR : f + 1 ≤ R.frames ∧ 8 + (L + 11) + lo ≤ R.locals) (hst : st = As.reverse ++ rest) (hrest : (rest.map fun v => v.category).sum ≤ 8) (d : decode cc pc = .ok (.invokestatic index, 3)) (hf : k ≤ R.cells ∧ n ≤ R.slots) (e : pc + 3 = q) (kk : J H k n q (v :: rest) lv) : J H k n pc st lv := by
  refine j_callS q hJ (hc H) hw na hy hna hR hst hrest d hf (fun x hx => Or.inr hx) e ?_
  rintro r H1 ⟨rfl, rfl⟩ _
  exact kk
theorem upL_same {L : TL} {j x : Nat} {v : Int64} : upL L j x v j x = v := by simp [va_up, vp_updL]
theorem upL_j {L : TL} {j x i y : Nat} {v : Int64} (h : i ≠ j) : upL L j x v i y = L i y := by simp [va_up, h]
theorem upL_x {L : TL} {j x y : Nat} {v : Int64} (h : y ≠ x) : upL L j x v j y = L j y := by simp [va_up, vp_updL, h]
theorem upI_same {I : TI} {j x : Nat} {v : Int32} : upI I j x v j x = v := by simp [va_up, upd]
theorem upI_j {I : TI} {j x i y : Nat} {v : Int32} (h : i ≠ j) : upI I j x v i y = I i y := by simp [va_up, h]
theorem upI_x {I : TI} {j x y : Nat} {v : Int32} (h : y ≠ x) : upI I j x v j y = I j y := by simp [va_up, upd, h]
