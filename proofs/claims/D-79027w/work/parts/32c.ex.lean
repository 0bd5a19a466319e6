/-! methods that throw: the judgement Jt (J with its end by an exception, X), contracts Xt: from H0 the method surely throws an exception of the class E -/
set_option maxRecDepth 100000
abbrev XJ : Type := Heap → Nat → Nat → Nat → List (Nat × Value) → Nat → Prop
/-- an exception's object: of the class numbered ci in the list -/
def exo (D : DD) (E : String) (q : Nat) (H : Heap) : Prop := ∃ ci T, aCl[ci]? = some (E, T, 0) ∧ ob D ci [] q H
def Jt (D : DD) (l : Launch) (s : State) (own : String) (args : Array Value) (cc : ByteArray) (nL : Nat) (R : Room) (nm : String) (A : Nat → Prop) (H0 : Heap) (J : Heap → Nat → Nat → Nat → List Value → List (Nat × Value) → Prop) (X : XJ) : Prop :=
  l.stackTraces = false ∧ s.heap = H0 ∧ ∃ (p : Program) (e : Env) (m : MethodId) (below : List Frame) (meth : Method) (c : Code) (Q : State → Prop), (p.tables.exec = Jvm.exec ∧ c.code = cc ∧ c.maxLocals = nL ∧ s.vm.findClass own = some m.cls ∧ (∀ w ∈ lw_all, w.before args s = true) ∧ meth.name = nm ∧ meth.locks = false ∧ KK D s ∧ (∀ q, H0.size ≤ q → A q) ∧ (∀ q, A q → D.2.2.2.size ≤ q) ∧ HOK D H0) ∧
    (J = fun H k n pc st lv => ∀ ls locs, lv_has ls nL lv → va_S A H0 H locs → W p l e R s m args below meth c H locs k n Q (F0 m pc ls st)) ∧
    (X = fun H k n pc lv q => ∀ ls locs st, lv_has ls nL lv → va_S A H0 H locs → vx_W p l e R s m args below meth c H locs k n Q (F0 m pc ls st) q)
theorem Jt.j {D : DD} {l : Launch} {s : State} {own : String} {args : Array Value} {cc : ByteArray} {nL : Nat} {R : Room} {nm : String} {A : Nat → Prop} {H0 : Heap} {J : Heap → Nat → Nat → Nat → List Value → List (Nat × Value) → Prop} {X : XJ} (h : Jt D l s own args cc nL R nm A H0 J X) : Jx D l s own args cc nL R nm A H0 J := by
  obtain ⟨-, -, p, e, m, below, meth, c, Q, ⟨h1, h2, h3, h4, h5, h6, h7, h8, h9, h10, h11⟩, hJ, -⟩ := h
  exact ⟨p, e, m, below, meth, c, Q, h1, h2, h3, h4, h5, h6, h7, h8, h9, h10, h11, hJ⟩
/-- from the heap H0 the method y throws an exception of class E; behind it PX holds, only A may have changed -/
def Xt (D : DD) (l : Launch) (y : MethodName) (b : ByteArray) (L : Nat) (ret : Option FieldType) (f mc ms lo : Nat) (As : List Value) (H0 : Heap) (E : String) (PX : Heap → Prop) (A : Nat → Prop) : Prop :=
  HOK D H0 → (∀ q, A q → D.2.2.2.size ≤ q) → vx_Met l y (ws_ y b L ret) (rm_ f mc ms lo) (cP D As H0) (cQ (fun _ _ => False) A) (fun E' st t => E' = E ∧ PX t.heap ∧ va_F A st t) mc ms A
/-- the body's end: the exception leaves the method -/
def Ro (D : DD) (E : String) (mc ms : Nat) (PX : Heap → Prop) (X : XJ) : Prop := ∀ (H : Heap) (k n pc : Nat) (lv : List (Nat × Value)) (q : Nat), k ≤ mc → n ≤ ms → exo D E q H → PX H → X H k n pc lv q
section XTOF
variable {D : DD} {l : Launch} {y : MethodName} {b : ByteArray} {L : Nat} {ret : Option FieldType} {f mc ms lo : Nat} {As : List Value} {H0 : Heap} {A : Nat → Prop} {E : String} {PX : Heap → Prop}
theorem ob_cell {D : DD} {s : State} (hK : KK D s) {ci q : Nat} {T : u_T} {E : String} {H : Heap} (hc : aCl[ci]? = some (E, T, 0)) (ho : ob D ci [] q H) : ∃ ce : Cell, H[q]? = some ce ∧ ce.vm = .none ∧ s.vm.findClass E = some ce.cls := by
  obtain ⟨r, h1, cell, q1, q2, q3, q4⟩ := ho.exo (by rintro rfl; cases hc) (by rintro rfl; cases hc)
  have hr : r = (E, T, 0) := Option.some.inj (h1.symm.trans hc)
  subst hr
  exact ⟨cell, q1, q3, by rw [q2]; exact (hK.1.1 ci _ hc).2.1⟩
theorem Xt.of (hl : l.stackTraces = false) (hy : plainName y.cls = true) (hAs : (lg_sl As).length ≤ L) (hA : ∀ q, H0.size ≤ q → A q)
    (body : ∀ (s : State) (J : Heap → Nat → Nat → Nat → List Value → List (Nat × Value) → Prop) (X : XJ), Jt D l s y.cls As.toArray b L (rm_ f mc ms lo) y.name A H0 J X → Ro D E mc ms PX X → J H0 0 0 0 [] (lv_args 0 As)) : Xt D l y b L ret f mc ms lo As H0 E PX A := by
  intro hOK hAs'
  refine vx_ofW (cc := b) (maxL := L) (ret := ret) hy rfl ?_
  intro p e s m args below meth c s₁ B hml hout hv
  obtain ⟨rfl, rfl, hK⟩ := hv
  have hts := atoms_spec (ws := ws_ y b L ret) B.pre
  have hts : ∀ w ∈ lw_all, w.before _ s = true := fun w h => hts w (List.mem_cons_of_mem _ h)
  have hx := B.exec
  have hb := B.bytes
  have hlk := B.notSynchronized
  have hlv := lv_entry As (n := L) hAs
  rw [lg_entry_eq]
  refine body s _ _ ⟨hl, rfl, p, e, m, below, meth, c, _, ⟨hx, hb, hml, findClass_of_methodNamed B.named, hts, (name_of_methodNamed B.named B.method).1, hlk, hK, hA, hAs', hOK⟩, rfl, rfl⟩ ?_ _ [] hlv va_S.rf
  intro H k n pc lv q hk hn hex hp ls locs st hl' hS
  obtain ⟨ci, T, hc, ho⟩ := hex
  obtain ⟨ce, c1, c2, c3⟩ := ob_cell hK hc ho
  exact vx_out (fun x hx => absurd (hout x hx) id) hlk c1 c2 c3 (fun t ht _ => ⟨rfl, by rw [ht]; exact hp, hS.F ht⟩) hS.2.2 hk hn
end XTOF
theorem nw_tab {w : Cond} (h : nwOk w = true) : w.onTables = true := by
  unfold nwOk at h
  split at h <;> first | rfl | cases h
section XROWS
variable {D : DD} {l : Launch} {s : State} {own : String} {args : Array Value} {cc : ByteArray} {nL : Nat} {R : Room} {nm : String} {A : Nat → Prop} {H0 : Heap} {J : Heap → Nat → Nat → Nat → List Value → List (Nat × Value) → Prop} {X : XJ} {H : Heap} {k n pc : Nat} {st rest : List Value} {lv : List (Nat × Value)}
variable {y : MethodName} {b : ByteArray} {L : Nat} {ret : Option FieldType} {f mc ms lo o index : Nat} {As : List Value} {A1 : Nat → Prop} {E : String} {PX : Heap → Prop}
theorem x_run {p : Program} {e : Env} {m : MethodId} {below : List Frame} {meth : Method} {c : Code} {Q : State → Prop} {ls : Array Slot} {locs : List Loc} {a : Array Value} {free : Nat → Prop}
    (hr : vx_Run p l e R s m args below meth c H locs k n mc ms (F0 m pc ls st) rest (cQ (fun _ _ => False) A1 a) (fun E' st t => E' = E ∧ PX t.heap ∧ va_F A1 st t) free) (hS : va_S A H0 H locs) (hA : ∀ q, q < H.size → A1 q → A q) (hf : ∀ q, free q → A q)
    (kk : ∀ (q : Nat) (ce : Cell) (H1 : Heap) (locs1 : List Loc), H1[q]? = some ce → ce.vm = .none → s.vm.findClass E = some ce.cls → PX H1 → fr A1 H H1 → va_S A H0 H1 locs1 → vx_W p l e R s m args below meth c H1 locs1 (k + mc) (n + ms) Q (F0 m pc ls rest) q) : W p l e R s m args below meth c H locs k n Q (F0 m pc ls st) := by
  intro T hT X'
  rcases hr T hT X' with ⟨v, st₀, t, T', L, h0, X'', hL, e1, e2, ⟨r, hv, hp, -⟩, stp⟩ | ⟨q, st₀, t, T', L, E', ce, h0, X'', hL, e1, e2, ⟨rfl, hp, hF⟩, hce, hcv, hcl, stp⟩
  · exact absurd hp id
  · obtain ⟨hz, hk⟩ := hF
    rw [h0] at hz hk
    obtain ⟨t2, a1, b1⟩ := kk q ce T'.heap (locs ++ L) (by rw [e1]; exact hce) hcv hcl (by rw [e1]; exact hp) ⟨by rw [e1]; exact hz, fun q h1 h2 => by rw [e1]; exact hk q h1 h2⟩
      ⟨Nat.le_trans hS.1 (by rw [e1]; exact hz), fun q h1 h2 => by rw [e1, hk q (Nat.lt_of_lt_of_le h1 hS.1) (fun z => h2 (hA q (Nat.lt_of_lt_of_le h1 hS.1) z))]; exact hS.2.1 q h1 h2, fun q hq => by
        rcases List.mem_append.mp hq with h | h
        · exact hS.2.2 q h
        · exact hf _ (hL q h)⟩ T' rfl X''
    exact ⟨t2, stp.trans a1, b1⟩
theorem ce_ob {D : DD} {s : State} (hK : KK D s) {ci q : Nat} {T : u_T} {E : String} {H : Heap} {ce : Cell} (hc : aCl[ci]? = some (E, T, 0)) (h1 : H[q]? = some ce) (h2 : ce.vm = .none) (h3 : s.vm.findClass E = some ce.cls) : ob D ci [] q H :=
  Or.inl ⟨_, hc, ce, h1, Option.some.inj (h3.symm.trans (hK.1.1 ci _ hc).2.1), h2, fun k hk => absurd hk (Nat.not_lt_zero k)⟩
/-- a static call that throws -/
theorem x_callS (hJ : Jt D l s own args cc nL R nm A H0 J X) (hc : Xt D l y b L ret f mc ms lo As H E PX A1) {ci : Nat} {T0 : u_T} (hci : aCl[ci]? = some (E, T0, 0)) (hw : GoodIn lw_all (va_wsS own index y (ws_ y b L ret))) (na : Nat) (hy : yOk y na) (hna : As.length = na) (hR : f + 1 ≤ R.frames ∧ 8 + (L + 11) + lo ≤ R.locals) (hst : st = As.reverse ++ rest) (hrest : (rest.map fun v => v.category).sum ≤ 8) (d : decode cc pc = .ok (.invokestatic index, 3)) (hf : k + mc ≤ R.cells ∧ n + ms ≤ R.slots) (hA1 : ∀ q, A1 q → A q ∨ H.size ≤ q) (kk : ∀ (q : Nat) (H1 : Heap), exo D E q H1 → PX H1 → fr A1 H H1 → X H1 (k + mc) (n + ms) pc lv q) : J H k n pc st lv := by
  subst hst
  have hAs := hJ.j.as
  obtain ⟨hl, hs0, p, e, m, below, meth, c, Q, ⟨hx, hb, hml, hown, hts, hnm, hlk, hK, hA, hAs2, hOK⟩, rfl, rfl⟩ := hJ
  intro ls locs hl' hS
  have hA2 : ∀ q, A1 q → A q := fun q h => (hA1 q h).elim id (fun h => hA q (Nat.le_trans hS.1 h))
  exact x_run (vx_runS (As := As) (rest := rest) ⟨hx, hb, hml, hown, hts⟩ (hc (hOK.on hAs2 hS.1 hS.2.1) (fun q h => hAs q (hA2 q h))) (va_cwS na hts hw rfl rfl rfl hy hR) ⟨cP_blind, fun U hU hW => ⟨rfl, hU, hK.warm hW⟩⟩ rfl hna hl'.1 rfl (lv_room hrest) d hf) hS (fun q _ h => hA2 q h) hA2 (fun q ce H1 locs1 h1 h2 h3 hp hfr hS1 => kk q H1 ⟨ci, T0, hci, ce_ob hK hci h1 h2 h3⟩ hp hfr ls locs1 _ hl' hS1)
/-- a call through an object that throws -/
theorem x_callV (hJ : Jt D l s own args cc nL R nm A H0 J X) (hc : Xt D l y b L ret f mc ms lo (.ref o :: As) H E PX A1) {ci : Nat} {T0 : u_T} (hci : aCl[ci]? = some (E, T0, 0)) (hw : GoodIn lw_all (wsV own index y.cls y (ws_ y b L ret))) (na : Nat) (hy : yOk y na) (hna : As.length = na) (hR : f + 1 ≤ R.frames ∧ 8 + (L + 11) + lo ≤ R.locals) {cj i : Nat} {w : Value} {T : u_T} {N : Nat} (ho : fld D cj o i w H) (hcl : aCl[cj]? = some (y.cls, T, N)) (hst : st = As.reverse ++ .ref o :: rest) (hrest : (rest.map fun v => v.category).sum ≤ 8) (d : decode cc pc = .ok (.invokevirtual index, 3)) (hf : k + mc ≤ R.cells ∧ n + ms ≤ R.slots) (hA1 : ∀ q, A1 q → A q ∨ H.size ≤ q) (kk : ∀ (q : Nat) (H1 : Heap), exo D E q H1 → PX H1 → fr A1 H H1 → X H1 (k + mc) (n + ms) pc lv q) : J H k n pc st lv := by
  subst hst
  have hAs := hJ.j.as
  obtain ⟨hl, hs0, p, e, m, below, meth, c, Q, ⟨hx, hb, hml, hown, hts, hnm, hlk, hK, hA, hAs2, hOK⟩, rfl, rfl⟩ := hJ
  intro ls locs hl' hS
  have hA2 : ∀ q, A1 q → A q := fun q h => (hA1 q h).elim id (fun h => hA q (Nat.le_trans hS.1 h))
  exact x_run (vx_runV (As := As) (rest := rest) ⟨hx, hb, hml, hown, hts⟩ (hc (hOK.on hAs2 hS.1 hS.2.1) (fun q h => hAs q (hA2 q h))) (cwV na hts hw rfl rfl rfl ⟨rfl, hy⟩ hR) ⟨cP_blind, fld_recv hK ho hcl, fun U hU hW => ⟨rfl, hU, hK.warm hW⟩⟩ rfl hna hl'.1 rfl (lv_room hrest) d hf) hS (fun q _ h => hA2 q h) hA2 (fun q ce H1 locs1 h1 h2 h3 hp hfr hS1 => kk q H1 ⟨ci, T0, hci, ce_ob hK hci h1 h2 h3⟩ hp hfr ls locs1 _ hl' hS1)
/-- throw new cls(), where nothing but fresh cells may have changed since the start -/
theorem x_make0 (hJ : Jt D l s own args cc nL R nm (fun q => H0.size ≤ q) H0 J X) {cls : String} {names : List String} {ik ic ci : Nat} {T0 : u_T} (hci : aCl[ci]? = some (cls, T0, 0)) (hcls : Bundle.fit cls = true) (hnames : ∀ n ∈ names, Bundle.fit n = true) (hk : Cond.classLink own ik cls ∈ lw_all) (hini : Cond.initialized cls ∈ lw_all) (hat : ∀ w ∈ vx_at0 own ic cls names, w ∈ lw_all ∨ w ∈ nwL ∧ nwOk w = true)
    (hgood : ∀ w ∈ Cond.classLink own ik cls :: Cond.initialized cls :: vx_at0 own ic cls names, vx_ot w = true)
    (d0 : decode cc pc = .ok (.new ik, 3)) (d3 : decode cc (pc + 3) = .ok (.dup, 1)) (d4 : decode cc (pc + 4) = .ok (.invokespecial ic, 3)) (d7 : decode cc (pc + 7) = .ok (.athrow, 1))
    (hR : names.length + 3 < R.frames ∧ 8 + (13 * (names.length + 1) + 42) ≤ R.locals ∧ k + 1 ≤ R.cells ∧ n + 6 ≤ R.slots) (hrest : (rest.map fun v => v.category).sum ≤ 8)
    (kk : ∀ (q : Nat) (H1 : Heap), exo D cls q H1 → fr (fun q => H0.size ≤ q) H0 H1 → X H1 (k + 1) (n + 6) (pc + 7) lv q) : J H k n pc rest lv := by
  obtain ⟨hl, hs0, p, e, m, below, meth, c, Q, ⟨hx, hb, hml, hown, hts, hnm, hlk, hK, hA, hAs2, hOK⟩, rfl, rfl⟩ := hJ
  intro ls locs hl' hS
  subst hs0
  have hZ : ∀ {n d : String}, (Bundle.tN, n, d) ∈ stX → vx_Zq Bundle.tN n d (fun q => s.heap.size ≤ q) s s.heap := fun h => ((hK.2.2.2.2.1.2.2.1 _ h).narrow hAs2).kept (fun a ha _ => hOK.2 a ha)
  refine vx_make0 (D := D.1) (cl := aCl) (tys := aTy7 D.2.1) (ws := []) (A := fun q => s.heap.size ≤ q) hx hb hl hown hcls hnames (hts _ hk) (hts _ hini) (fun w hw => (hat w hw).elim (hts w) (fun h => va_Nw.use (nw_tab h.2) (hK.2.1 w h.1 h.2))) hgood (hZ (by simp [stX])) (hZ (by simp [stX])) hS (hl'.1.trans hml.symm) d0 d3 d4 hK.1 (fun j y hy => by simp at hy) ⟨fun i j p q hi => by simp at hi, fun j y hy => by simp at hy⟩ (fun q h => h) hci hR.1 (by omega) hR.2.2.1 hR.2.2.2 (fun q H1 hP hD hS1 => ?_)
  refine vx_athrow hx hb d7 ?_
  exact kk q H1 ⟨ci, T0, hci, Or.inl (hP 0 _ rfl)⟩ hS1.tofr ls locs rest hl' hS1
end XROWS
