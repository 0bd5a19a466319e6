/-! F: the judgement of methods that own cells: ws the cells that the method may write (and made), im cells that stay as they are; KS, Hb: what else may have changed since the heap Hb -/
set_option maxRecDepth 100000
abbrev oC (a ci : Nat) (fs : List Value) : Nat × va_E := (a, .inr (ci, fs))
abbrev aC (D : DD) (t a : Nat) (x : vp_A) : Nat × va_E := (a, .inl (D.2.1 t, x))
abbrev iA (n : Nat) (f : Nat → Int32) : vp_A := (n, .inl f)
abbrev lA (n : Nat) (f : Nat → Int64) : vp_A := (n, .inr (.inl f))
abbrev qA (n : Nat) (f : Nat → Option Nat) : vp_A := (n, .inr (.inr (.inr (.inr f))))
/-! J's rows for arrays of references -/
def anyK (D : DD) (C : String) (v : Nat) (H : Heap) : Prop := ∀ s, KK D s → va_Any C s H v
theorem ob_any {D : DD} {s : State} {ci v : Nat} {fs : List Value} {C E : String} {T : u_T} {N : Nat} {H : Heap} (hK : KK D s) (h : ob D ci fs v H) (hc : aCl[ci]? = some (C, T, N)) (hasg : ∀ comp c0 : ClassId, s.vm.findClass E = some comp → s.vm.findClass C = some c0 → s.vm.assignable c0 comp = true) : va_Any E s H v := by
  obtain ⟨cell, h1, h2, h3⟩ := ob_recv hK h hc
  obtain ⟨kC, hkC, -⟩ := Vm.findClass_spec h3
  exact ⟨cell, h1, h2, ⟨kC, hkC⟩, fun comp z => hasg comp _ z h3⟩
theorem anyK.ofob {D : DD} {C C1 : String} {T : u_T} {N ci v : Nat} {fs : List Value} {H : Heap} (h : ob D ci fs v H) (hc : aCl[ci]? = some (C1, T, N)) (hw : Cond.castable C1 C ∈ nwL) : anyK D C v H := fun s hK =>
  ob_any hK h hc (fun comp c0 h1 h2 => vb_asgC (hK.2.1 _ hw rfl) comp c0 h1 h2)
theorem anyK.slf {D : DD} {C : String} {T : u_T} {N ci v : Nat} {fs : List Value} {H : Heap} (h : ob D ci fs v H) (hc : aCl[ci]? = some (C, T, N)) : anyK D C v H := fun s hK =>
  ob_any hK h hc (fun comp c0 h1 h2 => vb_asgS comp c0 h1 h2)
theorem anyK.l {D : DD} {C : String} {v : Nat} {x : vp_A} {H : Heap} (h : ar D 1 x v H) (hw : Cond.castable "[J" C ∈ nwL) : anyK D C v H := fun s hK => by
  have h1 := va_nm_long (hK.1.2 1 _ rfl).2
  obtain ⟨kC, hkC, -⟩ := Vm.findClass_spec h1
  have hvm0 : (vp_cell (D.2.1 1) x).vm = .none := by obtain ⟨n, f | f | f | f | f⟩ := x <;> rfl
  have hcl0 : (vp_cell (D.2.1 1) x).cls = D.2.1 1 := by obtain ⟨n, f | f | f | f | f⟩ := x <;> rfl
  exact ⟨_, ar.exl h, by rw [hvm0]; rfl, ⟨kC, by rw [hcl0]; exact hkC⟩, fun comp h2 => by rw [hcl0]; exact vb_asgC (hK.2.1 _ hw rfl) comp _ h2 h1⟩
section JREF
variable {D : DD} {l : Launch} {s : State} {own : String} {args : Array Value} {cc : ByteArray} {nL : Nat} {R : Room} {nm : String} {A : Nat → Prop} {H0 : Heap} {J : Heap → Nat → Nat → Nat → List Value → List (Nat × Value) → Prop} {H : Heap} {k n pc index : Nat} {st rest : List Value} {lv : List (Nat × Value)}
theorem j_aast (q : Nat) (hJ : Jx D l s own args cc nL R nm A H0 J) {N a t v : Nat} {C : String} {f : Nat → Option Nat} {i : Int32} (ho : ar D t (qA N f) a H) (ht : (aTys D.2.1)[t]? = some (D.2.1 t, .object C)) (hr : anyK D C v H) (hAa : A a) (j : Nat) (hi : i = nI j) (hj : j < N) (hj2 : j < 2 ^ 31) (d : decode cc pc = .ok (.aastore, 1)) (e : pc + 1 = q) (kk : ∀ H1, ar D t (qA N (va_up f j (some v))) a H1 → hu a H H1 → J H1 k n q st lv) (h7 : t < 7 := by decide) : J H k n pc (.ref v :: .int i :: .ref a :: st) lv := by
  subst e; subst hi
  refine hJ.go fun ls locs hx hb hml hown hts hnm hK hA hOK hl hS ret => ?_
  obtain ⟨cellV, g1, g3, ⟨kC, hkC⟩, hasg⟩ := hr s hK
  obtain ⟨kA, comp, k1, k2, k3, -⟩ := (hK.1.2 t _ (aTy_lt ht h7)).2
  obtain ⟨kE, hkE, -⟩ := Vm.findClass_spec k3
  refine W.aast hx hb (vat.ex ho (hJ.as a hAa)) (fun q h => by cases h) (fun h => by cases h) k1 k2 rfl hkE ⟨nI_pos hj2, by show _ < (arrV _ _ _).slots.size; rw [arrV_size, nI_clamp hj2]; exact hj⟩ g1 (fun q h => by rw [h] at g3; cases g3) hkC (hasg _ k3) rfl rfl d fun H1 e z oq => ?_
  rw [nI_clamp hj2] at e ⊢
  refine ret _ _ _ _ _ _ (kk H1 ?_ ⟨z, oq⟩) ls _ hl (hS.put z oq hAa)
  refine Or.inl ?_
  show H1[a]? = some (vp_cell _ _)
  rw [e, vp_cell_q, vp_cell_q, arrV_store]
  congr 2
  funext q
  by_cases hq : q = j
  · subst hq
    simp [updV, va_up, va_rf]
  · simp [updV, va_up, hq]
theorem j_aastN (q : Nat) (hJ : Jx D l s own args cc nL R nm A H0 J) {N a t : Nat} {C : String} {f : Nat → Option Nat} {i : Int32} (ho : ar D t (qA N f) a H) (ht : (aTys D.2.1)[t]? = some (D.2.1 t, .object C)) (hAa : A a) (j : Nat) (hi : i = nI j) (hj : j < N) (hj2 : j < 2 ^ 31) (d : decode cc pc = .ok (.aastore, 1)) (e : pc + 1 = q) (kk : ∀ H1, ar D t (qA N (va_up f j none)) a H1 → hu a H H1 → J H1 k n q st lv) : J H k n pc (.null :: .int i :: .ref a :: st) lv := by
  subst e; subst hi
  refine hJ.go fun ls locs hx hb hml hown hts hnm hK hA hOK hl hS ret => ?_
  refine va_WaastN (C := C) hx hb (vat.ex ho (hJ.as a hAa)) (aTy hK t ht N (fun j => va_rf (f j))) (fun h => by cases h) (by show ¬ (_ ∨ (arrV _ _ _).slots.size ≤ _); rw [arrV_size]; exact vp_in_j hj hj2) rfl rfl d fun H1 e z oq => ?_
  rw [nI_clamp hj2] at e ⊢
  refine ret _ _ _ _ _ _ (kk H1 ?_ ⟨z, oq⟩) ls _ hl (hS.put z oq hAa)
  refine Or.inl ?_
  show H1[a]? = some (vp_cell _ _)
  rw [e, vp_cell_q, vp_cell_q, arrV_store]
  congr 2
  funext q
  by_cases hq : q = j
  · subst hq
    simp [updV, va_up, va_rf]
  · simp [updV, va_up, hq]
theorem j_castore (q : Nat) (hJ : Jx D l s own args cc nL R nm A H0 J) {N a : Nat} {f : Nat → Int32} {i x : Int32} (ho : arc D N f a H) (hAa : A a) (hx' : narrow .char (.int x) = .int x) (j : Nat) (hi : i = nI j) (hj : j < N) (hj2 : j < 2 ^ 31) (d : decode cc pc = .ok (.castore, 1)) (e : pc + 1 = q) (kk : ∀ H1, arc D N (upd f j x) a H1 → hu a H H1 → J H1 k n q st lv) : J H k n pc (.int x :: .int i :: .ref a :: st) lv := by
  subst e; subst hi
  refine hJ.go fun ls locs hx hb hml hown hts hnm hK hA hOK hl hS ret => ?_
  refine W.cast hx hb (vat.ex ho (hJ.as a hAa)) ((hK.1.2 2 _ rfl).1 N (fun j => .int (f j))) (fun q => by cases q) (by show ¬ (_ ∨ (arrV _ _ _).slots.size ≤ _); rw [arrV_size]; exact vp_in_j hj hj2) rfl rfl d fun H1 e z oq => ?_
  rw [nI_clamp hj2] at e ⊢
  rw [hx'] at e
  refine ret _ _ _ _ _ _ (kk H1 ?_ ⟨z, oq⟩) ls _ hl (hS.put z oq hAa)
  refine Or.inl ?_
  show H1[a]? = some (vp_cell _ _)
  rw [e, vp_cell_i, vp_cell_i, arrV_store]
  congr 2
  funext q
  by_cases hq : q = j
  · subst hq
    simp [updV, upd]
  · simp [updV, upd, hq]
theorem j_newq (q : Nat) (hJ : Jx D l s own args cc nL R nm A H0 J) {C : String} {t N : Nat} {i : Int32} (hC : C ∈ aoL) (hlk : Cond.classLink own index C ∈ lw_all) (ht : (aTys D.2.1)[t]? = some (D.2.1 t, .object C)) (hi : i = nI N) (hN : N ≤ 65536) (hR : k + 1 ≤ R.cells ∧ n + N ≤ R.slots) (d : decode cc pc = .ok (.anewarray index, 3)) (e : pc + 3 = q) (kk : ∀ H1, ar D t (qA N (fun _ => none)) H.size H1 → H1.size = H.size + 1 → (∀ y, y < H.size → H1[y]? = H[y]?) → J H1 (k + 1) (n + N) q (.ref H.size :: st) lv) (h7 : t < 7 := by decide) : J H k n pc (.int i :: st) lv := by
  subst e; subst hi
  refine hJ.go fun ls locs hx hb hml hown hts hnm' hK hA hOK hl hS ret' => ?_
  have h31 : N < 2 ^ 31 := by omega
  have hcl := nI_clamp h31
  refine W.anew hx hb hown (hts _ hlk) (va_AO.use (hK.2.2.2.1 C hC)) rfl d rfl (nI_pos h31) (by rw [hcl]; omega) hR.1 (by rw [hcl]; exact hR.2) fun cA kA comp f1 f2 f3 f4 => ?_
  rw [hcl]
  have hcA : cA = D.2.1 t := by
    obtain ⟨kA', comp', k1, k2, k3, k4⟩ := (hK.1.2 t _ (aTy_lt ht h7)).2
    exact Option.some.inj (f1.symm.trans k4)
  subst hcA
  generalize hH1 : H.push ({ cls := D.2.1 t, slots := Array.replicate N .null, vm := .none } : Cell) = H1
  have z1 : H1.size = H.size + 1 := by rw [← hH1, Array.size_push]
  have e1 : H1[H.size]? = some (arrV (D.2.1 t) N (fun _ => .null)) := by rw [← hH1, Array.getElem?_push_size, ← arrV_new]
  have o1 : ∀ q : Nat, q < H.size → H1[q]? = H[q]? := fun q hq => by rw [← hH1, Array.getElem?_push, if_neg (Nat.ne_of_lt hq)]
  refine ret' _ _ _ _ _ _ (kk H1 ?_ z1 o1) ls locs hl ⟨Nat.le_trans hS.1 (by omega), fun x h1 h2 => (o1 x (Nat.lt_of_lt_of_le h1 hS.1)).trans (hS.2.1 x h1 h2), hS.2.2⟩
  refine Or.inl ?_
  show H1[H.size]? = some (vp_cell _ _)
  rw [vp_cell_q]; exact e1
theorem j_cloneL (q : Nat) (hJ : Jx D l s own args cc nL R nm A H0 J) {a N : Nat} {f : Nat → Int64} (ho : arl D N f a H) (hfit : N ≤ 65536) (hlink : Cond.methodLink own index ⟨"[J", "clone", "()Ljava/lang/Object;"⟩ ∈ lw_all) (hsame : Cond.sameMethod "[J" "java/lang/Object" "clone" "()Ljava/lang/Object;" ∈ lw_all) (hnat : Cond.native ⟨"java/lang/Object", "clone", "()Ljava/lang/Object;"⟩ ∈ lw_all) (hinst : Cond.instanceMethod ⟨"java/lang/Object", "clone", "()Ljava/lang/Object;"⟩ ∈ lw_all) (hsel : Cond.selects "[J" ⟨"[J", "clone", "()Ljava/lang/Object;"⟩ ⟨"java/lang/Object", "clone", "()Ljava/lang/Object;"⟩ ∈ lw_all) (hcl : Cond.castable "[J" "java/lang/Cloneable" ∈ nwL)
    (hR : 1 ≤ R.frames ∧ 22 ≤ R.locals) (hrest : (rest.map fun v => v.category).sum ≤ 8) (hf : k + 1 ≤ R.cells ∧ n + N ≤ R.slots) (d : decode cc pc = .ok (.invokevirtual index, 3)) (e : pc + 3 = q) (kk : ∀ H1, arl D N f H.size H1 → H1.size = H.size + 1 → (∀ y, y < H.size → H1[y]? = H[y]?) → J H1 (k + 1) (n + N) q (.ref H.size :: rest) lv) : J H k n pc (.ref a :: rest) lv := by
  subst e
  refine hJ.go fun ls locs hx hb hml hown hts hnm' hK hA hOK hl hS ret' => ?_
  have hnmA := va_nm_long (hK.1.2 1 _ rfl).2
  obtain ⟨c0, t0', f1, f2, f3⟩ := Cond.castable_spec (va_Nw.use (A := args) rfl (hK.2.1 _ hcl rfl))
  cases hnmA.symm.trans f1
  intro T hT X
  have hcellT : T.heap[a]? = some (vp_cell (D.2.1 1) (lA N f)) := by rw [hT]; exact ho
  obtain ⟨-, kA, hkA, comp, hkind⟩ := State.isArrayOf_alike X.warmed.alike ((hK.1.2 1 _ rfl).1 0 (fun _ => .null))
  obtain ⟨-, kS, hkS, compS, hkindS⟩ := (hK.1.2 1 _ rfl).1 0 (fun _ => .null)
  have hsz : (vp_cell (D.2.1 1) (lA N f)).slots.size = N := arrV_size _ _ _
  have hcellE : ({ cls := (vp_cell (D.2.1 1) (lA N f)).cls, slots := (vp_cell (D.2.1 1) (lA N f)).slots } : Cell) = vp_cell (D.2.1 1) (lA N f) := rfl
  obtain ⟨vm', X', st⟩ := X.cloneArray hx hown (hts _ hlink) (hts _ hsame) (hts _ hnat) (hts _ hinst) (hts _ hsel) (a := a) (cell := vp_cell (D.2.1 1) (lA N f)) hcellT (fun k h => by cases h) (fun h => by cases h) hnmA f2 f3
    (fun i v hv => by
      have hk' : T.vm.classes[D.2.1 1]? = some kA := hkA
      have h9 : fits .long v = true := va_fit (cA := D.2.1 1) (n := N) (F := fun j => .long (f j)) (ty := .long) (fun i _ => rfl) i v hv
      show State.fitsSlot _ (D.2.1 1) _ _ _ = true
      simpa [State.fitsSlot, State.slotType?, hk', hkind] using h9)
    (g := F0 _ pc ls (.ref a :: rest)) rfl (by rw [hml]; exact hl.1) rfl (by rw [hb]; exact d) hR.1 (by show 2 * 0 + _ + 14 ≤ _; omega) hf.1 (by rw [hsz]; exact hf.2) (hloader := Vm.clonesLoader_of_array hkS hkindS)
  rw [hcellE, hsz] at X'
  rw [hcellE] at st
  generalize hH1 : H.push (vp_cell (D.2.1 1) (lA N f)) = H1
  have z1 : H1.size = H.size + 1 := by rw [← hH1, Array.size_push]
  have e1 : H1[H.size]? = some (vp_cell (D.2.1 1) (lA N f)) := by rw [← hH1, Array.getElem?_push_size]
  have o1 : ∀ q : Nat, q < H.size → H1[q]? = H[q]? := fun q hq => by rw [← hH1, Array.getElem?_push, if_neg (Nat.ne_of_lt hq)]
  obtain ⟨t, b1, b2⟩ := ret' _ _ _ _ _ _ (kk H1 e1 z1 o1) ls locs hl ⟨Nat.le_trans hS.1 (by omega), fun x h1 h2 => (o1 x (Nat.lt_of_lt_of_le h1 hS.1)).trans (hS.2.1 x h1 h2), hS.2.2⟩
    ((T.setVm vm').pushCell (vp_cell (D.2.1 1) (lA N f))) (by rw [← hH1, ← hT]; rfl) X'
  refine ⟨t, st t ?_, b2⟩
  rw [hT]
  exact b1
theorem j_copyq (q : Nat) (hJ : Jx D l s own args cc nL R nm A H0 J) {a0 a n0 n1 t0 t1 : Nat} {E0 E1 : String} {f g : Nat → Option Nat} (sp dp m : Nat) {isp idp im : Int32} (h0 : ar D t0 (qA n0 f) a0 H) (h1 : ar D t1 (qA n1 g) a H) (ht0 : (aTys D.2.1)[t0]? = some (D.2.1 t0, .object E0)) (ht1 : (aTys D.2.1)[t1]? = some (D.2.1 t1, .object E1)) (hel : ∀ i, i < m → ∀ y, f (sp + i) = some y → anyK D E1 y H) (hAa : A a) (hlk : Cond.methodLink own index arraycopyName ∈ lw_all) (e1 : isp = nI sp) (e2 : idp = nI dp) (e3 : im = nI m) (h4 : sp + m ≤ n0) (h5 : dp + m ≤ n1) (hb : n0 < 2 ^ 31 ∧ n1 < 2 ^ 31) (hR : 1 ≤ R.frames ∧ 30 ≤ R.locals) (hrest : (rest.map fun v => v.category).sum ≤ 8) (d : decode cc pc = .ok (.invokestatic index, 3)) (e : pc + 3 = q) (kk : ∀ H1, ar D t1 (qA n1 (va_cpy f g sp dp m)) a H1 → hu a H H1 → J H1 k n q rest lv) (h7 : t1 < 7 := by decide) : J H k n pc (.int im :: .int idp :: .ref a :: .int isp :: .ref a0 :: rest) lv := by
  subst e; subst e1; subst e2; subst e3
  refine hJ.go fun ls locs hx hbb hml hown hts hnm hK hA hOK hl hS ret => ?_
  have z1 := nI_clamp (n := sp) (by omega)
  have z2 := nI_clamp (n := dp) (by omega)
  have z3 := nI_clamp (n := m) (by omega)
  have i1 := nI_toInt (n := sp) (by omega)
  have i2 := nI_toInt (n := dp) (by omega)
  have i3 := nI_toInt (n := m) (by omega)
  have e9 : (7 : Nat) = nativeFrameWords "java/lang/System" "arraycopy" 5 := by decide
  intro T hT X
  obtain ⟨-, k0, hk0, cm0, hkk0⟩ := aTy hK t0 ht0 n0 (fun j => va_rf (f j))
  obtain ⟨-, k1, hk1, cm1, hkk1⟩ := aTy hK t1 ht1 n1 (fun j => va_rf (g j))
  obtain ⟨vm', X', step⟩ := X.arraycopy hx hown (hts _ hlk) (hts _ q443) (hts _ q442) (hts _ q121) (src := a0) (dst := a) (cs := vp_cell (D.2.1 t0) (qA n0 f)) (cd := vp_cell (D.2.1 t1) (qA n1 g)) (srcPos := nI sp) (destPos := nI dp) (n := nI m) (by rw [hT]; exact h0) (by rw [hT]; exact h1)
    (fun _ h => by cases h) (fun _ h => by cases h) (fun h => by cases h) (fun h => by cases h) hk0 hk1 hkk0 hkk1 (by rfl) (nI_pos (by omega)) (nI_pos (by omega)) (nI_pos (by omega))
    (by rw [i1, i3]; show ¬ _ > ((arrV (D.2.1 t0) n0 (fun j => va_rf (f j))).slots.size : Int); rw [arrV_size]; omega)
    (by rw [i2, i3]; show ¬ _ > ((arrV (D.2.1 t1) n1 (fun j => va_rf (g j))).slots.size : Int); rw [arrV_size]; omega)
    (fun vm₁ hal i hi => by
      rw [z3] at hi
      have e : (vp_cell (D.2.1 t0) (qA n0 f)).slots.getD ((nI sp).toNatClampNeg + i) .null = va_rf (f (sp + i)) := by
        show (arrV (D.2.1 t0) n0 (fun j => va_rf (f j))).slots.getD _ _ = _
        rw [z1, Array.getD_eq_getD_getElem?, arrV_read _ _ (by omega)]
        rfl
      rw [e]
      cases hy : f (sp + i) with
      | none => exact ⟨rfl, trivial⟩
      | some y =>
        obtain ⟨cellV, g1, g2, ⟨kC, hkC⟩, hasg⟩ := hel i hi y hy s hK
        obtain ⟨kA, comp, r1, r2, r3, -⟩ := (hK.1.2 t1 _ (aTy_lt ht1 h7)).2
        cases hk1.symm.trans r1
        cases hkk1.symm.trans r2
        obtain ⟨kE, hkE, -⟩ := Vm.findClass_spec r3
        obtain ⟨kC', hkC', -⟩ := hal.2.2 _ _ hkC
        obtain ⟨kE', hkE', -⟩ := hal.2.2 _ _ hkE
        refine ⟨rfl, cellV, (show T.heap[y]? = some cellV by rw [hT]; exact g1), (fun q h => by rw [h] at g2; cases g2), ⟨kC', hkC'⟩, ?_, ?_⟩
        · exact ⟨kE', hkE'⟩
        · show vm₁.assignable _ _ = true
          rw [hal.assignable]
          exact hasg _ r3)
    (g := F0 _ pc ls (.int (nI m) :: .int (nI dp) :: .ref a :: .int (nI sp) :: .ref a0 :: rest)) rfl (by rw [hml]; exact hl.1) (rest := rest) rfl (by rw [hbb]; exact d) hR.1 (e9 ▸ (show 2 * 0 + _ + (7 + 11) ≤ R.locals by omega))
  have e1 : copied (vp_cell (D.2.1 t0) (qA n0 f)) (vp_cell (D.2.1 t1) (qA n1 g)) (nI sp) (nI dp) (nI m) = vp_cell (D.2.1 t1) (qA n1 (va_cpy f g sp dp m)) := by
    have := va_copied (fun z => va_rf z) (D.2.1 t0) (D.2.1 t1) (n1 := n1) (dp := dp) f g h4
    unfold copied
    rw [z1, z2, z3]
    exact this
  rw [e1] at X' step
  have hl1 : a < H.size := (Array.getElem?_eq_some_iff.mp h1).1
  have hheap : ((T.setVm vm').setCell a (vp_cell (D.2.1 t1) (qA n1 (va_cpy f g sp dp m)))).heap = H.setIfInBounds a (vp_cell (D.2.1 t1) (qA n1 (va_cpy f g sp dp m))) := by rw [← hT]; rfl
  have hu1 : hu a H (H.setIfInBounds a (vp_cell (D.2.1 t1) (qA n1 (va_cpy f g sp dp m)))) := ⟨by simp, fun q hq => by simp [Array.getElem?_setIfInBounds, Ne.symm hq]⟩
  obtain ⟨t, a1, b1⟩ := ret _ _ _ _ _ _ (kk _ (show (H.setIfInBounds a _)[a]? = some _ by simp [Array.getElem?_setIfInBounds, hl1]) hu1) ls _ hl ⟨by rw [hu1.1]; exact hS.1, fun q g1 g2 => by
      rw [hu1.2 q (fun e => g2 (by rw [e]; exact hAa))]
      exact hS.2.1 q g1 g2, fun q hq => by
      rcases List.mem_append.mp hq with h | h
      · exact hS.2.2 q h
      · obtain ⟨z, -, hz⟩ := List.mem_map.mp h
        rw [← hz]
        exact hAa⟩ _ hheap X'
  exact ⟨t, step t a1, b1⟩
variable {y : MethodName} {b : ByteArray} {L : Nat} {ret : Option FieldType} {f mc ms lo o : Nat} {As : List Value} {Post : Option Value → Heap → Prop} {A1 : Nat → Prop}
/-- a nest mate's constructor -/
theorem j_callIN (q : Nat) (hJ : Jx D l s own args cc nL R nm A H0 J) {host : String} (hc : Ct D l y b L none f mc ms lo (.ref o :: As) H Post A1) (hcode : Cond.code y b L none ∈ lw_all) (hini : Cond.initialized y.cls ∈ lw_all) (hlk : Cond.methodLinkNest own index y host ∈ nwL) (hins : Cond.instanceMethod y ∈ lw_all) (hyn : y.name = "<init>") (na : Nat) (hy : yOk y na) (hna : As.length = na) (hR : f + 1 ≤ R.frames ∧ 8 + (L + 11) + lo ≤ R.locals) (hst : st = As.reverse ++ .ref o :: rest) (hrest : (rest.map fun v => v.category).sum ≤ 8) (d : decode cc pc = .ok (.invokespecial index, 3)) (hf : k + mc ≤ R.cells ∧ n + ms ≤ R.slots) (hA1 : ∀ q, A1 q → A q ∨ H.size ≤ q) (e : pc + 3 = q) (kk : ∀ (r : Option Value) (H1 : Heap), Post r H1 → fr A1 H H1 → J H1 (k + mc) (n + ms) q (r.toList ++ rest) lv) : J H k n pc st lv := by
  subst e; subst hst
  have hAs := hJ.as
  refine hJ.go fun ls locs hx hb hml hown hts hnm hK hA hOK hl hS ret' => ?_
  have hA2 : ∀ q, A1 q → A q := fun q h => (hA1 q h).elim id (fun h => hA q (Nat.le_trans hS.1 h))
  exact j_run (va_runIN (As := As) (rest := rest) ⟨hx, hb, hml, hown, hts⟩ (hc hOK (fun q h => hAs q (hA2 q h))) ⟨va_cnB na hts (lw_meth hcode) rfl rfl rfl (hK.2.1 _ hlk rfl) (hts _ hini) hy hR, hyn, hts _ hins⟩ ⟨cP_blind, fun U hU hW => ⟨rfl, hU, hK.warm hW⟩⟩ rfl hna hl.1 rfl (lv_room hrest) d hf) hS (fun q _ h => hA2 q h) hA2 (fun r H1 locs1 hp hfr hS1 => ret' _ _ _ _ _ _ (kk r H1 hp hfr) ls locs1 hl hS1)
theorem j_callSN (q : Nat) (hJ : Jx D l s own args cc nL R nm A H0 J) {host : String} (hc : Ct D l y b L ret f mc ms lo As H Post A1) (hcode : Cond.code y b L ret ∈ lw_all) (hini : Cond.initialized y.cls ∈ lw_all) (hlk : Cond.methodLinkNest own index y host ∈ nwL) (hstc : Cond.static y ∈ lw_all) (na : Nat) (hy : yOk y na) (hna : As.length = na) (hR : f + 1 ≤ R.frames ∧ 8 + (L + 11) + lo ≤ R.locals) (hst : st = As.reverse ++ rest) (hrest : (rest.map fun v => v.category).sum ≤ 8) (d : decode cc pc = .ok (.invokestatic index, 3)) (hf : k + mc ≤ R.cells ∧ n + ms ≤ R.slots) (hA1 : ∀ q, A1 q → A q ∨ H.size ≤ q) (e : pc + 3 = q) (kk : ∀ (r : Option Value) (H1 : Heap), Post r H1 → fr A1 H H1 → J H1 (k + mc) (n + ms) q (r.toList ++ rest) lv) : J H k n pc st lv := by
  subst e; subst hst
  have hAs := hJ.as
  refine hJ.go fun ls locs hx hb hml hown hts hnm hK hA hOK hl hS ret' => ?_
  have hA2 : ∀ q, A1 q → A q := fun q h => (hA1 q h).elim id (fun h => hA q (Nat.le_trans hS.1 h))
  exact j_run (va_runSN (As := As) (rest := rest) ⟨hx, hb, hml, hown, hts⟩ (hc hOK (fun q h => hAs q (hA2 q h))) ⟨va_cnB na hts (lw_meth hcode) rfl rfl rfl (hK.2.1 _ hlk rfl) (hts _ hini) hy hR, hts _ hstc, trivial⟩ ⟨cP_blind, fun U hU hW => ⟨rfl, hU, hK.warm hW⟩⟩ rfl hna hl.1 rfl (lv_room hrest) d hf) hS (fun q _ h => hA2 q h) hA2 (fun r H1 locs1 hp hfr hS1 => ret' _ _ _ _ _ _ (kk r H1 hp hfr) ls locs1 hl hS1)
end JREF
/-! the judgement -/
def FB (D : DD) (KS : Nat → Prop) (Hb : Heap) : Prop := (∀ q, KS q → D.2.2.2.size ≤ q) ∧ HOK D Hb
abbrev adr (ws : va_W) : List Nat := ws.map Prod.fst
/-- what is known of a heap in the walk -/
def Fk (D : DD) (KS : Nat → Prop) (Hb : Heap) (ws im : va_W) (H : Heap) : Prop := fr KS Hb H ∧ (∀ q ∈ ws, vat D q H) ∧ ∀ q ∈ im, vat D q H
def Fst (D : DD) (KS : Nat → Prop) (Hb : Heap) (A B : Nat → Prop) (ws im : va_W) (H : Heap) : Prop :=
  fr KS Hb H ∧ (∀ q ∈ ws, vat D q H) ∧ (adr ws).Nodup ∧ (∀ q ∈ ws, A q.1) ∧ (∀ q ∈ im, vat D q H) ∧ ∀ q ∈ im, q.1 ∉ adr ws ∧ B q.1
theorem Fst.k {D : DD} {KS : Nat → Prop} {Hb : Heap} {A B : Nat → Prop} {ws im : va_W} {H : Heap} (h : Fst D KS Hb A B ws im H) : Fk D KS Hb ws im H := ⟨h.1, h.2.1, h.2.2.2.2.1⟩
section FK
variable {D : DD} {KS : Nat → Prop} {Hb : Heap} {ws im : va_W} {H : Heap}
theorem Fk.f (h : Fk D KS Hb ws im H) : fr KS Hb H := h.1
theorem Fk.o (h : Fk D KS Hb ws im H) (p : Nat) {a ci : Nat} {fs : List Value} (hp : ws[p]? = some (oC a ci fs)) : ob D ci fs a H := h.2.1 _ (List.mem_of_getElem? hp)
theorem Fk.a (h : Fk D KS Hb ws im H) (p : Nat) {a t : Nat} {x : vp_A} (hp : ws[p]? = some (aC D t a x)) : ar D t x a H := h.2.1 _ (List.mem_of_getElem? hp)
theorem Fk.mo (h : Fk D KS Hb ws im H) (p : Nat) {a ci : Nat} {fs : List Value} (hp : im[p]? = some (oC a ci fs)) : ob D ci fs a H := h.2.2 _ (List.mem_of_getElem? hp)
theorem Fk.ma (h : Fk D KS Hb ws im H) (p : Nat) {a t : Nat} {x : vp_A} (hp : im[p]? = some (aC D t a x)) : ar D t x a H := h.2.2 _ (List.mem_of_getElem? hp)
end FK
section FST
variable {D : DD} {KS : Nat → Prop} {Hb : Heap} {A B : Nat → Prop} {ws ws' wr im im1 im' ws1 : va_W} {H H1 : Heap}
theorem adr_mem {q : Nat × va_E} (h : q ∈ ws) : q.1 ∈ adr ws := List.mem_map.mpr ⟨q, h, rfl⟩
theorem mem_adr {a : Nat} (h : a ∈ adr ws) : ∃ q ∈ ws, q.1 = a := List.mem_map.mp h
theorem adr_set {p : Nat} {a : Nat} {e0 e : va_E} (hp : ws[p]? = some (a, e0)) : adr (ws.set p (a, e)) = adr ws := by
  have h1 : (adr ws)[p]? = some a := by rw [List.getElem?_map, hp]; rfl
  show (ws.set p (a, e)).map Prod.fst = _
  rw [List.map_set]
  obtain ⟨hl, h2⟩ := List.getElem?_eq_some_iff.mp h1
  conv => rhs; rw [← List.set_getElem_self hl]
  rw [h2]
theorem Fst.perm (h : Fst D KS Hb A B ws im H) (hp : ws.Perm ws') : Fst D KS Hb A B ws' im H :=
  ⟨h.1, fun q hq => h.2.1 q (hp.mem_iff.mpr hq), ((hp.map Prod.fst).nodup_iff).mp h.2.2.1, fun q hq => h.2.2.2.1 q (hp.mem_iff.mpr hq), h.2.2.2.2.1, fun q hq => ⟨fun z => (h.2.2.2.2.2 q hq).1 (((hp.map Prod.fst).mem_iff).mpr z), (h.2.2.2.2.2 q hq).2⟩⟩
theorem Fst.set {p : Nat} {a : Nat} {e0 e : va_E} (h : Fst D KS Hb A B ws im H) (hp : ws[p]? = some (a, e0)) (he : vat D (a, e) H1) (hu1 : hu a H H1) (hA : ∀ q, A q → KS q ∨ Hb.size ≤ q) : Fst D KS Hb A B (ws.set p (a, e)) im H1 := by
  obtain ⟨h1, h2, h3, h4, h5, h6⟩ := h
  have hm := List.mem_of_getElem? hp
  have hAa := h4 _ hm
  have hadr := adr_set (e := e) hp
  refine ⟨⟨by rw [hu1.1]; exact h1.1, fun q hq hn => (hu1.2 q (fun z => ?_)).trans (h1.2 q hq hn)⟩, fun q hq => ?_, by rw [hadr]; exact h3, fun q hq => ?_, fun q hq => ?_, fun q hq => by rw [hadr]; exact h6 q hq⟩
  · subst z
    rcases hA _ hAa with z | z
    · exact hn z
    · exact absurd hq (Nat.not_lt.mpr z)
  · by_cases hqa : q.1 = a
    · rcases List.mem_or_eq_of_mem_set hq with hq' | rfl
      · -- an old cell of the same address is the one at p
        have : q = (a, e) := by
          obtain ⟨i, hi, hqi⟩ := List.mem_iff_getElem.mp hq
          have hp' := List.getElem?_eq_some_iff.mp hp
          obtain ⟨hpl, hpe⟩ := hp'
          have hil : i < ws.length := by rw [List.length_set] at hi; exact hi
          have e1 : (adr ws)[i]'(by simpa using hil) = a := by
            by_cases hip : i = p
            · subst hip; simp [hpe]
            · have : (ws.set p (a, e))[i] = ws[i] := by rw [List.getElem_set_ne (Ne.symm hip)]
              simp only [List.getElem_map]; rw [← this, hqi]; exact hqa
          have e2 : (adr ws)[p]'(by simpa using hpl) = a := by simp [hpe]
          have hip : i = p := by
            have hw := List.pairwise_iff_getElem.mp h3
            rcases Nat.lt_trichotomy i p with z | z | z
            · exact absurd (e1.trans e2.symm) (hw i p (by simpa using hil) (by simpa using hpl) z)
            · exact z
            · exact absurd (e2.trans e1.symm) (hw p i (by simpa using hpl) (by simpa using hil) z)
          subst hip
          rw [← hqi, List.getElem_set_self]
        rw [this]; exact he
      · exact he
    · rcases List.mem_or_eq_of_mem_set hq with hq' | rfl
      · exact (h2 q hq').kept (hu1.2 q.1 hqa)
      · exact absurd rfl hqa
  · rcases List.mem_or_eq_of_mem_set hq with hq' | rfl
    · exact h4 q hq'
    · exact hAa
  · exact (h5 q hq).kept (hu1.2 q.1 (fun z => (h6 q hq).1 (z ▸ adr_mem hm)))
theorem Fst.cons {e : va_E} (h : Fst D KS Hb A B ws im H) (he : vat D (H.size, e) H1) (hz : H1.size = H.size + 1) (ho : ∀ y, y < H.size → H1[y]? = H[y]?) (hA : A H.size) : Fst D KS Hb A B ((H.size, e) :: ws) im H1 := by
  obtain ⟨h1, h2, h3, h4, h5, h6⟩ := h
  refine ⟨⟨by rw [hz]; exact Nat.le_succ_of_le h1.1, fun q hq hn => (ho q (Nat.lt_of_lt_of_le hq h1.1)).trans (h1.2 q hq hn)⟩, fun q hq => ?_, ?_, fun q hq => ?_, fun q hq => (h5 q hq).kept (ho q.1 (h5 q hq).lt), fun q hq => ⟨fun z => ?_, (h6 q hq).2⟩⟩
  · rcases List.mem_cons.mp hq with rfl | hq
    · exact he
    · exact (h2 q hq).kept (ho q.1 (h2 q hq).lt)
  · show (H.size :: adr ws).Nodup
    refine List.nodup_cons.mpr ⟨fun z => ?_, h3⟩
    obtain ⟨q, hq, hqa⟩ := mem_adr z
    have := (h2 q hq).lt
    omega
  · rcases List.mem_cons.mp hq with rfl | hq
    · exact hA
    · exact h4 q hq
  · rcases List.mem_cons.mp z with z | z
    · have := (h5 q hq).lt
      simp only at z; omega
    · exact (h6 q hq).1 z
theorem Fst.drop (h : Fst D KS Hb A B (ws1 ++ ws) im H) : Fst D KS Hb A B ws im H := by
  obtain ⟨h1, h2, h3, h4, h5, h6⟩ := h
  refine ⟨h1, fun q hq => h2 q (List.mem_append_right _ hq), ?_, fun q hq => h4 q (List.mem_append_right _ hq), h5, fun q hq => ⟨fun z => (h6 q hq).1 ?_, (h6 q hq).2⟩⟩
  · rw [adr, List.map_append] at h3
    exact (List.nodup_append.mp h3).2.1
  · rw [adr, List.map_append]; exact List.mem_append_right _ z
theorem Fst.frz {c : Nat × va_E} (h : Fst D KS Hb A B (c :: ws) im H) (hAB : ∀ q, A q → B q) : Fst D KS Hb A B ws (c :: im) H := by
  obtain ⟨h1, h2, h3, h4, h5, h6⟩ := h
  have h3' : c.1 ∉ adr ws ∧ (adr ws).Nodup := List.nodup_cons.mp h3
  refine ⟨h1, fun q hq => h2 q (List.mem_cons_of_mem _ hq), h3'.2, fun q hq => h4 q (List.mem_cons_of_mem _ hq), fun q hq => ?_, fun q hq => ?_⟩
  · rcases List.mem_cons.mp hq with rfl | hq
    · exact h2 _ List.mem_cons_self
    · exact h5 q hq
  · rcases List.mem_cons.mp hq with rfl | hq
    · exact ⟨h3'.1, hAB _ (h4 _ List.mem_cons_self)⟩
    · exact ⟨fun z => (h6 q hq).1 (List.mem_cons_of_mem _ z), (h6 q hq).2⟩
theorem Fst.old {c : Nat × va_E} (h : Fst D KS Hb A B ws im H) (hc : vat D c H) (hk : c.1 < Hb.size ∧ ¬ KS c.1) (hA : ∀ q, A q → KS q ∨ Hb.size ≤ q) (hB : ∀ q, q < Hb.size → ¬ KS q → B q) : Fst D KS Hb A B ws (c :: im) H := by
  obtain ⟨h1, h2, h3, h4, h5, h6⟩ := h
  refine ⟨h1, h2, h3, h4, fun q hq => ?_, fun q hq => ?_⟩
  · rcases List.mem_cons.mp hq with rfl | hq
    · exact hc
    · exact h5 q hq
  · rcases List.mem_cons.mp hq with rfl | hq
    · refine ⟨fun z => ?_, hB _ hk.1 hk.2⟩
      obtain ⟨q', hq', e⟩ := mem_adr z
      rcases hA _ (h4 q' hq') with z | z
      · exact hk.2 (e ▸ z)
      · rw [e] at z; omega
    · exact h6 q hq
theorem Fst.imsub (h : Fst D KS Hb A B ws im H) (hs : ∀ q ∈ im1, q ∈ im) : Fst D KS Hb A B ws im1 H :=
  ⟨h.1, h.2.1, h.2.2.1, h.2.2.2.1, fun q hq => h.2.2.2.2.1 q (hs q hq), fun q hq => h.2.2.2.2.2 q (hs q hq)⟩
/-- behind a call -/
theorem Fst.callb (h : Fst D KS Hb A B (ws1 ++ wr) im H) (him : ∀ q ∈ im1, q ∈ im ∨ q ∈ wr) (hnb : im' = [] ∨ ∀ q ∈ im1, q ∈ im) (h' : Fst D KS Hb (fun q => q ∈ adr ws1 ∨ H.size ≤ q) (fun q => q ∈ adr ws1 ∨ H.size ≤ q ∨ q ∈ adr im1 ∨ (q < Hb.size ∧ ¬ KS q)) ws' im' H1) (hf : fr (fun q => q ∈ adr ws1 ∨ H.size ≤ q) H H1) (hA : ∀ q, A q → KS q ∨ Hb.size ≤ q) (hAf : ∀ q, H.size ≤ q → A q) (hAB : ∀ q, A q → B q) (hB : ∀ q, q < Hb.size → ¬ KS q → B q) : Fst D KS Hb A B (ws' ++ wr) (im' ++ im) H1 := by
  obtain ⟨h1, h2, h3, h4, h5, h6⟩ := h
  obtain ⟨g1, g2, g3, g4, g5, g6⟩ := h'
  have hadr : adr (ws1 ++ wr) = adr ws1 ++ adr wr := List.map_append
  rw [hadr] at h3 h6
  obtain ⟨n1, n2, n3⟩ := List.nodup_append.mp h3
  have hAw : ∀ a, a ∈ adr ws1 → A a := fun a ha => by
    obtain ⟨q, hq, rfl⟩ := mem_adr ha
    exact h4 q (List.mem_append_left _ hq)
  have hwr : ∀ q ∈ wr, q.1 < H.size ∧ q.1 ∉ adr ws1 := fun q hq => ⟨(h2 q (List.mem_append_right _ hq)).lt, fun z => n3 _ z _ (adr_mem hq) rfl⟩
  have him2 : ∀ q ∈ im, q.1 < H.size ∧ q.1 ∉ adr ws1 := fun q hq => ⟨(h5 q hq).lt, fun z => (h6 q hq).1 (List.mem_append_left _ z)⟩
  have kept : ∀ a, a < H.size → a ∉ adr ws1 → H1[a]? = H[a]? := fun a h1 h2 => hf.2 a h1 (fun z => z.elim h2 (fun z => absurd h1 (Nat.not_lt.mpr z)))
  have hne : ∀ a, a ∈ adr ws' → ∀ q : Nat, q < H.size → q ∉ adr ws1 → a ≠ q := fun a ha q hq1 hq2 e => by
    obtain ⟨c, hc, rfl⟩ := mem_adr ha
    rcases g4 c hc with z | z
    · exact hq2 (e ▸ z)
    · omega
  refine ⟨g1, fun q hq => ?_, ?_, fun q hq => ?_, fun q hq => ?_, fun q hq => ?_⟩
  · rcases List.mem_append.mp hq with hq | hq
    · exact g2 q hq
    · exact (h2 q (List.mem_append_right _ hq)).kept (kept _ (hwr q hq).1 (hwr q hq).2)
  · show ((ws' ++ wr).map Prod.fst).Nodup
    rw [List.map_append]
    refine List.nodup_append.mpr ⟨g3, n2, fun a ha c hc => ?_⟩
    obtain ⟨q, hq, rfl⟩ := mem_adr hc
    exact hne a ha _ (hwr q hq).1 (hwr q hq).2
  · rcases List.mem_append.mp hq with hq | hq
    · rcases g4 q hq with z | z
      · exact hAw _ z
      · exact hAf _ z
    · exact h4 q (List.mem_append_right _ hq)
  · rcases List.mem_append.mp hq with hq | hq
    · exact g5 q hq
    · exact (h5 q hq).kept (kept _ (him2 q hq).1 (him2 q hq).2)
  · show q.1 ∉ (ws' ++ wr).map Prod.fst ∧ _
    rw [List.map_append]
    rcases List.mem_append.mp hq with hq | hq
    · refine ⟨fun z => ?_, ?_⟩
      · rcases List.mem_append.mp z with z | z
        · exact (g6 q hq).1 z
        · obtain ⟨c, hc, e⟩ := mem_adr z
          have c1 := hwr c hc
          rcases (g6 q hq).2 with y | y | y | y
          · exact c1.2 (e ▸ y)
          · rw [e] at c1; omega
          · rcases hnb with hnb | hnb
            · rw [hnb] at hq; exact absurd hq List.not_mem_nil
            · obtain ⟨u, hu1, hu2⟩ := mem_adr y
              exact (h6 u (hnb u hu1)).1 (List.mem_append_right _ (by rw [hu2, ← e]; exact adr_mem hc))
          · rcases hA _ (h4 c (List.mem_append_right _ hc)) with w | w
            · exact y.2 (e ▸ w)
            · rw [e] at w; omega
      · rcases (g6 q hq).2 with y | y | y | y
        · exact hAB _ (hAw _ y)
        · exact hAB _ (hAf _ y)
        · rcases hnb with hnb | hnb
          · rw [hnb] at hq; exact absurd hq List.not_mem_nil
          · obtain ⟨u, hu1, hu2⟩ := mem_adr y
            exact hu2 ▸ (h6 u (hnb u hu1)).2
        · exact hB _ y.1 y.2
    · refine ⟨fun z => ?_, (h6 q hq).2⟩
      rcases List.mem_append.mp z with z | z
      · exact hne _ z _ (him2 q hq).1 (him2 q hq).2 rfl
      · exact (h6 q hq).1 (List.mem_append_right _ z)
theorem Fst.call (h : Fst D KS Hb A B (ws1 ++ wr) im H) (him : ∀ q ∈ im1, q ∈ im) (h' : Fst D KS Hb (fun q => q ∈ adr ws1 ∨ H.size ≤ q) (fun q => q ∈ adr ws1 ∨ H.size ≤ q ∨ q ∈ adr im1 ∨ (q < Hb.size ∧ ¬ KS q)) ws' im' H1) (hf : fr (fun q => q ∈ adr ws1 ∨ H.size ≤ q) H H1) (hA : ∀ q, A q → KS q ∨ Hb.size ≤ q) (hAf : ∀ q, H.size ≤ q → A q) (hAB : ∀ q, A q → B q) (hB : ∀ q, q < Hb.size → ¬ KS q → B q) : Fst D KS Hb A B (ws' ++ wr) (im' ++ im) H1 :=
  h.callb (fun q hq => Or.inl (him q hq)) (Or.inr him) h' hf hA hAf hAB hB
theorem Fst.preb (h : Fst D KS Hb A B (ws1 ++ wr) im H) (him : ∀ q ∈ im1, q ∈ im ∨ q ∈ wr) (hA : ∀ q, A q → KS q ∨ Hb.size ≤ q) : Fst D KS Hb (fun q => KS q ∨ Hb.size ≤ q) (fun _ => True) ws1 im1 H := by
  obtain ⟨h1, h2, h3, h4, h5, h6⟩ := h
  have hadr : adr (ws1 ++ wr) = adr ws1 ++ adr wr := List.map_append
  rw [hadr] at h3 h6
  refine ⟨h1, fun q hq => h2 q (List.mem_append_left _ hq), (List.nodup_append.mp h3).1, fun q hq => hA _ (h4 q (List.mem_append_left _ hq)), fun q hq => (him q hq).elim (h5 q) (fun z => h2 q (List.mem_append_right _ z)), fun q hq => ⟨fun z => ?_, trivial⟩⟩
  rcases him q hq with y | y
  · exact (h6 q y).1 (List.mem_append_left _ z)
  · exact (List.nodup_append.mp h3).2.2 _ z _ (adr_mem y) rfl
/-- for the callee -/
theorem Fst.pre (h : Fst D KS Hb A B (ws1 ++ wr) im H) (him : ∀ q ∈ im1, q ∈ im) (hA : ∀ q, A q → KS q ∨ Hb.size ≤ q) : Fst D KS Hb (fun q => KS q ∨ Hb.size ≤ q) (fun _ => True) ws1 im1 H := by
  obtain ⟨h1, h2, h3, h4, h5, h6⟩ := h
  have hadr : adr (ws1 ++ wr) = adr ws1 ++ adr wr := List.map_append
  rw [hadr] at h3 h6
  exact ⟨h1, fun q hq => h2 q (List.mem_append_left _ hq), (List.nodup_append.mp h3).1, fun q hq => hA _ (h4 q (List.mem_append_left _ hq)), fun q hq => h5 q (him q hq), fun q hq => ⟨fun z => (h6 q (him q hq)).1 (List.mem_append_left _ z), trivial⟩⟩
end FST
abbrev FJ : Type := Nat → Nat → va_W → va_W → Nat → List Value → List (Nat × Value) → Prop
def Fx (D : DD) (l : Launch) (s : State) (own : String) (args : Array Value) (cc : ByteArray) (nL : Nat) (R : Room) (nm : String) (KS : Nat → Prop) (Hb : Heap) (F : FJ) : Prop :=
  ∃ (A B : Nat → Prop) (H0 : Heap) (J : Heap → Nat → Nat → Nat → List Value → List (Nat × Value) → Prop), Jx D l s own args cc nL R nm A H0 J ∧ FB D KS Hb ∧ (∀ q, A q → KS q ∨ Hb.size ≤ q) ∧ (∀ q, A q → B q) ∧ (∀ q, q < Hb.size → ¬ KS q → B q) ∧ F = fun k n ws im pc st lv => ∀ H, Fst D KS Hb A B ws im H → J H k n pc st lv
def Fc (D : DD) (l : Launch) (y : MethodName) (b : ByteArray) (Lm : Nat) (ret : Option FieldType) (f mc ms lo : Nat) (KS : Nat → Prop) (Hb : Heap) (As : List Value) (ws im : va_W) (Post : Option Value → va_W → va_W → Prop) : Prop :=
  ∀ H0, FB D KS Hb → Fst D KS Hb (fun q => KS q ∨ Hb.size ≤ q) (fun _ => True) ws im H0 → Ct D l y b Lm ret f mc ms lo As H0 (fun r H => ∃ ws' im', Post r ws' im' ∧ Fst D KS Hb (fun q => q ∈ adr ws ∨ H0.size ≤ q) (fun q => q ∈ adr ws ∨ H0.size ≤ q ∨ q ∈ adr im ∨ (q < Hb.size ∧ ¬ KS q)) ws' im' H) (fun q => q ∈ adr ws ∨ H0.size ≤ q)
def FR (b : ByteArray) (ret : Option FieldType) (mc ms : Nat) (Post : Option Value → va_W → va_W → Prop) (F : FJ) : Prop :=
  ∀ (k n : Nat) (ws im : va_W) (pc : Nat) (lv : List (Nat × Value)), k ≤ mc → n ≤ ms →
    (ret = none → decode b pc = .ok (.return_, 1) → Post none ws im → F k n ws im pc [] lv) ∧
    (∀ (v : Int32) (ty : FieldType), ret = some ty → narrow ty (.int v) = .int v → decode b pc = .ok (.ireturn, 1) → Post (some (.int v)) ws im → F k n ws im pc [.int v] lv) ∧
    (∀ (v : Int64), ret = some .long → decode b pc = .ok (.lreturn, 1) → Post (some (.long v)) ws im → F k n ws im pc [.long v] lv) ∧
    (∀ (v : Value) (rt : FieldType), ret = some rt → ((∃ n, rt = .object n) ∨ ∃ t, rt = .array t) → (v = .null ∨ ∃ a, v = .ref a) → decode b pc = .ok (.areturn, 1) → Post (some v) ws im → F k n ws im pc [v] lv)
theorem Fc.of {D : DD} {l : Launch} {y : MethodName} {b : ByteArray} {Lm : Nat} {ret : Option FieldType} {f mc ms lo : Nat} {KS : Nat → Prop} {Hb : Heap} {As : List Value} {ws im : va_W} {Post : Option Value → va_W → va_W → Prop} (hy : plainName y.cls = true) (hAs : (lg_sl As).length ≤ Lm)
    (body : ∀ (s : State) (F : FJ), Fx D l s y.cls As.toArray b Lm (rm_ f mc ms lo) y.name KS Hb F → FR b ret mc ms Post F → F 0 0 ws im 0 [] (lv_args 0 As)) : Fc D l y b Lm ret f mc ms lo KS Hb As ws im Post := by
  intro H0 hB h0
  refine Ct.of hy hAs (fun q h => Or.inr h) (fun s J hJ hR => ?_)
  have hA0 : ∀ q, (q ∈ adr ws ∨ H0.size ≤ q) → KS q ∨ Hb.size ≤ q := fun q h => h.elim (fun h => by obtain ⟨c, hc, rfl⟩ := mem_adr h; exact h0.2.2.2.1 c hc) (fun h => Or.inr (Nat.le_trans h0.1.1 h))
  refine body s (fun k n ws' im' pc st lv => ∀ H, Fst D KS Hb (fun q => q ∈ adr ws ∨ H0.size ≤ q) (fun q => q ∈ adr ws ∨ H0.size ≤ q ∨ q ∈ adr im ∨ (q < Hb.size ∧ ¬ KS q)) ws' im' H → J H k n pc st lv) ⟨_, _, H0, J, hJ, hB, hA0, fun q h => h.elim Or.inl (fun h => Or.inr (Or.inl h)), fun q h1 h2 => Or.inr (Or.inr (Or.inr ⟨h1, h2⟩)), rfl⟩ ?_ H0 ?_
  · intro k n ws' im' pc lv hk hn
    refine ⟨fun e d hp H hH => ?_, fun v ty e hn' d hp H hH => ?_, fun v e d hp H hH => ?_, fun v rt e h1 h2 d hp H hH => ?_⟩
    · exact (hR H k n pc lv hk hn).1 e d ⟨_, _, hp, hH⟩
    · exact (hR H k n pc lv hk hn).2.1 v ty e hn' d ⟨_, _, hp, hH⟩
    · exact (hR H k n pc lv hk hn).2.2.1 v e d ⟨_, _, hp, hH⟩
    · exact (hR H k n pc lv hk hn).2.2.2.2.2 v rt e h1 h2 d ⟨_, _, hp, hH⟩
  · exact ⟨h0.1, h0.2.1, h0.2.2.1, fun q hq => Or.inl (adr_mem hq), h0.2.2.2.2.1, fun q hq => ⟨(h0.2.2.2.2.2 q hq).1, Or.inr (Or.inr (Or.inl (adr_mem hq)))⟩⟩
section FROWS
variable {D : DD} {l : Launch} {s : State} {own : String} {args : Array Value} {cc : ByteArray} {nL : Nat} {R : Room} {nm : String} {KS : Nat → Prop} {Hb : Heap} {F : FJ} {k n : Nat} {ws im : va_W} {pc : Nat} {st : List Value} {lv : List (Nat × Value)} {b : ByteArray} {mc ms : Nat} {Post : Option Value → va_W → va_W → Prop}
theorem FR.v (h : FR b none mc ms Post F) (d : decode b pc = .ok (.return_, 1)) (hk : k ≤ mc) (hn : n ≤ ms) (hp : Post none ws im) : F k n ws im pc [] lv := (h k n ws im pc lv hk hn).1 rfl d hp
theorem FR.i {ty : FieldType} {v : Int32} (h : FR b (some ty) mc ms Post F) (hn1 : narrow ty (.int v) = .int v) (d : decode b pc = .ok (.ireturn, 1)) (hk : k ≤ mc) (hn : n ≤ ms) (hp : Post (some (.int v)) ws im) : F k n ws im pc [.int v] lv := (h k n ws im pc lv hk hn).2.1 v ty rfl hn1 d hp
theorem FR.lg {v : Int64} (h : FR b (some .long) mc ms Post F) (d : decode b pc = .ok (.lreturn, 1)) (hk : k ≤ mc) (hn : n ≤ ms) (hp : Post (some (.long v)) ws im) : F k n ws im pc [.long v] lv := (h k n ws im pc lv hk hn).2.2.1 v rfl d hp
theorem FR.a {t : FieldType} {a : Nat} (h : FR b (some t) mc ms Post F) (ht : (∃ n, t = .object n) ∨ ∃ u, t = .array u) (d : decode b pc = .ok (.areturn, 1)) (hk : k ≤ mc) (hn : n ≤ ms) (hp : Post (some (.ref a)) ws im) : F k n ws im pc [.ref a] lv := (h k n ws im pc lv hk hn).2.2.2 (.ref a) t rfl ht (Or.inr ⟨a, rfl⟩) d hp
theorem FR.aN {t : FieldType} (h : FR b (some t) mc ms Post F) (ht : (∃ n, t = .object n) ∨ ∃ u, t = .array u) (d : decode b pc = .ok (.areturn, 1)) (hk : k ≤ mc) (hn : n ≤ ms) (hp : Post (some .null) ws im) : F k n ws im pc [.null] lv := (h k n ws im pc lv hk hn).2.2.2 .null t rfl ht (Or.inl rfl) d hp
theorem Fx.pu (h : Fx D l s own args cc nL R nm KS Hb F) (k n : Nat) (ws im : va_W) : Pu s own args cc nL (F k n ws im) := by
  obtain ⟨A, B, H0, J, hJ, hB, hAK, hAB, hBB, rfl⟩ := h
  obtain ⟨p, e, m, below, meth, c, Q', hx, hb, hml, ho, ht, hn, hlk, hK, hA, hAs, hOK, rfl⟩ := hJ
  exact ⟨p, l, e, R, m, below, meth, c, Q', fun H' locs k' n' => Fst D KS Hb A B ws im H' ∧ k' = k ∧ n' = n ∧ va_S A H0 H' locs, hx, hb, ho, ht, fun pc st lv => ⟨fun w H' locs k' n' ⟨e1, e2, e3, hS⟩ ls hl => by subst e2; subst e3; exact w H' e1 ls locs hl hS, fun w H' e1 ls locs hl hS => w H' locs k n ⟨e1, rfl, rfl, hS⟩ ls hl⟩⟩
/-- other orders of the cells; cells forgotten; cells that stay from now on -/
def ups (is : List Nat) (ws : va_W) : va_W := is.foldl (fun w i => match w[i]? with | some c => c :: w.eraseIdx i | none => w) ws
theorem up_perm : ∀ (ws : va_W) (i : Nat) (c : Nat × va_E), ws[i]? = some c → ws.Perm (c :: ws.eraseIdx i) := by
  intro ws
  induction ws with
  | nil => intro i c h; simp at h
  | cons x xs ih =>
    intro i c h
    cases i with
    | zero => simp at h; subst h; exact List.Perm.refl _
    | succ i =>
      simp at h
      exact ((ih i c h).cons x).trans (List.Perm.swap c x _)
theorem ups_perm (is : List Nat) (ws : va_W) : ws.Perm (ups is ws) := by
  induction is generalizing ws with
  | nil => exact List.Perm.refl _
  | cons i is ih =>
    show ws.Perm (ups is (match ws[i]? with | some c => c :: ws.eraseIdx i | none => ws))
    refine List.Perm.trans ?_ (ih _)
    cases h : ws[i]? with
    | none => exact List.Perm.refl _
    | some c =>
      exact up_perm ws i c h
theorem f_ups (hF : Fx D l s own args cc nL R nm KS Hb F) (is : List Nat) (ws' : va_W) (he : ups is ws = ws') (kk : F k n ws' im pc st lv) : F k n ws im pc st lv := by
  subst he
  obtain ⟨A, B, H0, J, hJ, hB, hAK, hAB, hBB, rfl⟩ := hF
  intro H hH
  exact kk H (hH.perm (ups_perm is ws))
/-- some cells kept, the others forgotten -/
def kp : List Bool → va_W → va_W
  | [], w => w
  | _ :: _, [] => []
  | true :: m, c :: w => c :: kp m w
  | false :: m, _ :: w => kp m w
theorem kp_sub : ∀ (m : List Bool) (w : va_W), (kp m w).Sublist w := by
  intro m
  induction m with
  | nil => intro w; exact List.Sublist.refl _
  | cons b m ih =>
    intro w
    cases w with
    | nil => cases b <;> exact List.Sublist.refl _
    | cons c w =>
      cases b
      · exact (ih w).cons c
      · exact (ih w).cons_cons c
theorem Fst.sub {A B : Nat → Prop} {H : Heap} {ws' : va_W} (h : Fst D KS Hb A B ws im H) (hs : ws'.Sublist ws) : Fst D KS Hb A B ws' im H :=
  ⟨h.1, fun q hq => h.2.1 q (hs.subset hq), (hs.map Prod.fst).nodup h.2.2.1, fun q hq => h.2.2.2.1 q (hs.subset hq), h.2.2.2.2.1, fun q hq => ⟨fun z => (h.2.2.2.2.2 q hq).1 ((hs.map Prod.fst).subset z), (h.2.2.2.2.2 q hq).2⟩⟩
theorem f_kp (hF : Fx D l s own args cc nL R nm KS Hb F) (m : List Bool) (ws' : va_W) (he : kp m ws = ws') (kk : F k n ws' im pc st lv) : F k n ws im pc st lv := by
  subst he
  obtain ⟨A, B, H0, J, hJ, hB, hAK, hAB, hBB, rfl⟩ := hF
  intro H hH
  exact kk H (hH.sub (kp_sub m ws))
theorem f_perm (hF : Fx D l s own args cc nL R nm KS Hb F) (ws' : va_W) (he : ws.Perm ws') (kk : F k n ws' im pc st lv) : F k n ws im pc st lv := by
  obtain ⟨A, B, H0, J, hJ, hB, hAK, hAB, hBB, rfl⟩ := hF
  intro H hH
  exact kk H (hH.perm he)
theorem f_drop (hF : Fx D l s own args cc nL R nm KS Hb F) (w1 ws' : va_W) (he : ws = w1 ++ ws') (kk : F k n ws' im pc st lv) : F k n ws im pc st lv := by
  subst he
  obtain ⟨A, B, H0, J, hJ, hB, hAK, hAB, hBB, rfl⟩ := hF
  intro H hH
  exact kk H hH.drop
theorem f_frz (hF : Fx D l s own args cc nL R nm KS Hb F) {c : Nat × va_E} (kk : F k n ws (c :: im) pc st lv) : F k n (c :: ws) im pc st lv := by
  obtain ⟨A, B, H0, J, hJ, hB, hAK, hAB, hBB, rfl⟩ := hF
  intro H hH
  exact kk H (hH.frz hAB)
theorem f_imsub (hF : Fx D l s own args cc nL R nm KS Hb F) (im' : va_W) (he : ∀ q ∈ im', q ∈ im) (kk : F k n ws im' pc st lv) : F k n ws im pc st lv := by
  obtain ⟨A, B, H0, J, hJ, hB, hAK, hAB, hBB, rfl⟩ := hF
  intro H hH
  exact kk H (hH.imsub he)
/-- a cell that was there at the heap Hb and isn't written -/
theorem f_old (hF : Fx D l s own args cc nL R nm KS Hb F) (c : Nat × va_E) (hc : vat D c Hb) (hk : ¬ KS c.1) (kk : F k n ws (c :: im) pc st lv) : F k n ws im pc st lv := by
  obtain ⟨A, B, H0, J, hJ, hB, hAK, hAB, hBB, rfl⟩ := hF
  intro H hH
  exact kk H (hH.old (hc.kept (hH.1.2 _ hc.lt hk)) ⟨hc.lt, hk⟩ hAK hBB)
theorem f_oldS (hF : Fx D l s own args cc nL R nm KS Hb F) (cs : va_W) (hc : ∀ q ∈ cs, vat D q Hb ∧ ¬ KS q.1) (kk : F k n ws (cs ++ im) pc st lv) : F k n ws im pc st lv := by
  induction cs generalizing im with
  | nil => exact kk
  | cons c cs ih =>
    refine ih (fun q hq => hc q (List.mem_cons_of_mem _ hq)) ?_
    refine f_old hF c (hc c List.mem_cons_self).1 (hc c List.mem_cons_self).2 ?_
    exact kk
/-- what is known may be used -/
theorem f_know (hF : Fx D l s own args cc nL R nm KS Hb F) {P : Prop} (hp : ∀ H, Fk D KS Hb ws im H → P) (kk : P → F k n ws im pc st lv) : F k n ws im pc st lv := by
  obtain ⟨A, B, H0, J, hJ, hB, hAK, hAB, hBB, rfl⟩ := hF
  intro H hH
  exact kk (hp H hH.k) H hH
theorem f_getf (q : Nat) (hF : Fx D l s own args cc nL R nm KS Hb F) {ref C : String} {T : u_T} {N ci index a : Nat} {ty : Nat → FieldType} (i : Nat) {v : Value} (hcl : clsOk C T N ty) (ho : ∀ H, Fk D KS Hb ws im H → fld D ci a i v H) (hc : aCl[ci]? = some (C, T, N)) (hi : i < N) (hlink : fLk own index ref (T i).2.1 (T i).2.2.1) (hsame : fSm ref (T i)) (d : decode cc pc = .ok (.getfield index, 3)) (e : pc + 3 = q) (kk : F k n ws im q (v :: st) lv) : F k n ws im pc (.ref a :: st) lv := by
  obtain ⟨A, B, H0, J, hJ, hB, hAK, hAB, hBB, rfl⟩ := hF
  intro H hH
  exact j_getf q hJ i hcl (ho H hH.k) hc hi hlink hsame d e (kk H hH)
theorem f_put (q : Nat) (hF : Fx D l s own args cc nL R nm KS Hb F) (p : Nat) {ref C : String} {T : u_T} {N ci index a : Nat} {ty : Nat → FieldType} {fs : List Value} {v : Value} (ws' : va_W) (hcl : clsOk C T N ty) (hp : ws[p]? = some (oC a ci fs)) (hc : aCl[ci]? = some (C, T, N)) (i : Nat) (hi : i < N) (hlink : fLk own index ref (T i).2.1 (T i).2.2.1) (hsame : fSm ref (T i)) (hfin : (T i).2.2.2 = false) (hn : narrow (ty i) v = v) (hfit : fits (ty i) v = true) (hl0 : i < fs.length) (hs : ws.set p (oC a ci (fs.set i v)) = ws') (d : decode cc pc = .ok (.putfield index, 3)) (e : pc + 3 = q) (kk : F k n ws' im q st lv) : F k n ws im pc (v :: .ref a :: st) lv := by
  subst hs
  obtain ⟨A, B, H0, J, hJ, hB, hAK, hAB, hBB, rfl⟩ := hF
  intro H hH
  refine j_put q hJ hcl (hH.k.o p hp) (hH.2.2.2.1 _ (List.mem_of_getElem? hp)) hc i hi hlink hsame hfin hn hfit hl0 d e fun H1 h1 h2 => kk H1 (hH.set hp h1 h2 hAK)
theorem f_putF (q : Nat) (hF : Fx D l s own args cc nL R "<init>" KS Hb F) (p : Nat) {ref C : String} {T : u_T} {N ci index a : Nat} {ty : Nat → FieldType} {fs : List Value} {v : Value} (ws' : va_W) (hcl : clsOk C T N ty) (hp : ws[p]? = some (oC a ci fs)) (hc : aCl[ci]? = some (C, T, N)) (i : Nat) (hi : i < N) (hlink : Cond.fieldLink own index ref (T i).2.1 (T i).2.2.1 ∈ lw_all) (hsame : (T i).1 = ref) (hown' : (T i).1 = own) (hfin : (T i).2.2.2 = true) (hn : narrow (ty i) v = v) (hfit : fits (ty i) v = true) (hl0 : i < fs.length) (hs : ws.set p (oC a ci (fs.set i v)) = ws') (d : decode cc pc = .ok (.putfield index, 3)) (e : pc + 3 = q) (kk : F k n ws' im q st lv) : F k n ws im pc (v :: .ref a :: st) lv := by
  subst hs
  obtain ⟨A, B, H0, J, hJ, hB, hAK, hAB, hBB, rfl⟩ := hF
  intro H hH
  refine j_putF q hJ hcl (hH.k.o p hp) (hH.2.2.2.1 _ (List.mem_of_getElem? hp)) hc i hi hlink hsame hown' hfin hn hfit hl0 d e fun H1 h1 h2 => kk H1 (hH.set hp h1 h2 hAK)
theorem Jx.fresh {A : Nat → Prop} {H0 H : Heap} {J : Heap → Nat → Nat → Nat → List Value → List (Nat × Value) → Prop} (hJ : Jx D l s own args cc nL R nm A H0 J) {k n pc : Nat} {st : List Value} {lv : List (Nat × Value)} (h : (∀ q, H.size ≤ q → A q) → J H k n pc st lv) : J H k n pc st lv := hJ.frame (fun _ h2 => h (fun q hq => hJ.sub q (Nat.le_trans h2 hq)))
theorem f_new (q : Nat) (hF : Fx D l s own args cc nL R nm KS Hb F) {C : String} {T : u_T} {N ci index : Nat} {ty : Nat → FieldType} (fs : List Value) (hcl : clsOk C T N ty) (hc : aCl[ci]? = some (C, T, N)) (hlk : Cond.classLink own index C ∈ lw_all) (hins : Cond.instantiable C N ∈ lw_all) (hini : Cond.initialized C ∈ lw_all) (hfs : ∀ j, j < N → defaultValue (ty j) = vp_V fs j) (hR : k + 1 ≤ R.cells ∧ n + N ≤ R.slots) (d : decode cc pc = .ok (.new index, 3)) (e : pc + 3 = q) (kk : ∀ a, F (k + 1) (n + N) (oC a ci fs :: ws) im q (.ref a :: st) lv) : F k n ws im pc st lv := by
  obtain ⟨A, B, H0, J, hJ, hB, hAK, hAB, hBB, rfl⟩ := hF
  intro H hH
  refine hJ.fresh fun hfr => j_new q hJ fs hcl hc hlk hins hini hfs hR d e fun H1 h1 h2 h3 => kk H.size H1 (hH.cons h1 h2 h3 (hfr _ (Nat.le_refl _)))
theorem f_newi (q : Nat) (hF : Fx D l s own args cc nL R nm KS Hb F) {N : Nat} {i : Int32} (harr : Cond.arrayClass .int ∈ lw_all) (hi : i = nI N) (hN : N ≤ 65536) (hR : k + 1 ≤ R.cells ∧ n + N ≤ R.slots) (d : decode cc pc = .ok (.newarray .int, 2)) (e : pc + 2 = q) (kk : ∀ a, F (k + 1) (n + N) (aC D 0 a (iA N (fun _ => 0)) :: ws) im q (.ref a :: st) lv) : F k n ws im pc (.int i :: st) lv := by
  obtain ⟨A, B, H0, J, hJ, hB, hAK, hAB, hBB, rfl⟩ := hF
  intro H hH
  refine hJ.fresh fun hfr => j_newa q hJ (atype := .int) (t := 0) (x := iA N (fun _ => 0)) harr rfl (fun _ => rfl) (fun _ => rfl) hi hN (by show N * 4 ≤ _; omega) hR d e fun H1 h1 h2 h3 => kk H.size H1 (hH.cons h1 h2 h3 (hfr _ (Nat.le_refl _)))
theorem f_newl (q : Nat) (hF : Fx D l s own args cc nL R nm KS Hb F) {N : Nat} {i : Int32} (harr : Cond.arrayClass .long ∈ lw_all) (hi : i = nI N) (hN : N ≤ 65536) (hR : k + 1 ≤ R.cells ∧ n + N ≤ R.slots) (d : decode cc pc = .ok (.newarray .long, 2)) (e : pc + 2 = q) (kk : ∀ a, F (k + 1) (n + N) (aC D 1 a (lA N (fun _ => 0)) :: ws) im q (.ref a :: st) lv) : F k n ws im pc (.int i :: st) lv := by
  obtain ⟨A, B, H0, J, hJ, hB, hAK, hAB, hBB, rfl⟩ := hF
  intro H hH
  refine hJ.fresh fun hfr => j_newa q hJ (atype := .long) (t := 1) (x := lA N (fun _ => 0)) harr rfl (fun _ => rfl) (fun _ => rfl) hi hN (by show N * 8 ≤ _; omega) hR d e fun H1 h1 h2 h3 => kk H.size H1 (hH.cons h1 h2 h3 (hfr _ (Nat.le_refl _)))
theorem f_newc (q : Nat) (hF : Fx D l s own args cc nL R nm KS Hb F) {N : Nat} {i : Int32} (harr : Cond.arrayClass .char ∈ lw_all) (hi : i = nI N) (hN : N ≤ 65536) (hR : k + 1 ≤ R.cells ∧ n + N ≤ R.slots) (d : decode cc pc = .ok (.newarray .char, 2)) (e : pc + 2 = q) (kk : ∀ a, F (k + 1) (n + N) (aC D 2 a (iA N (fun _ => 0)) :: ws) im q (.ref a :: st) lv) : F k n ws im pc (.int i :: st) lv := by
  obtain ⟨A, B, H0, J, hJ, hB, hAK, hAB, hBB, rfl⟩ := hF
  intro H hH
  refine hJ.fresh fun hfr => j_newa q hJ (atype := .char) (t := 2) (x := iA N (fun _ => 0)) harr rfl (fun _ => rfl) (fun _ => rfl) hi hN (by show N * 2 ≤ _; omega) hR d e fun H1 h1 h2 h3 => kk H.size H1 (hH.cons h1 h2 h3 (hfr _ (Nat.le_refl _)))
theorem f_newq (q : Nat) (hF : Fx D l s own args cc nL R nm KS Hb F) {C : String} {t N index : Nat} {i : Int32} (hC : C ∈ aoL) (hlk : Cond.classLink own index C ∈ lw_all) (ht : (aTys D.2.1)[t]? = some (D.2.1 t, .object C)) (hi : i = nI N) (hN : N ≤ 65536) (hR : k + 1 ≤ R.cells ∧ n + N ≤ R.slots) (d : decode cc pc = .ok (.anewarray index, 3)) (e : pc + 3 = q) (kk : ∀ a, F (k + 1) (n + N) (aC D t a (qA N (fun _ => none)) :: ws) im q (.ref a :: st) lv) : F k n ws im pc (.int i :: st) lv := by
  obtain ⟨A, B, H0, J, hJ, hB, hAK, hAB, hBB, rfl⟩ := hF
  intro H hH
  refine hJ.fresh fun hfr => j_newq q hJ hC hlk ht hi hN hR d e fun H1 h1 h2 h3 => kk H.size H1 (hH.cons h1 h2 h3 (hfr _ (Nat.le_refl _)))
theorem f_iald (q : Nat) (hF : Fx D l s own args cc nL R nm KS Hb F) {N a : Nat} {i x : Int32} (j : Nat) (ho : ∀ H, Fk D KS Hb ws im H → eli D N a j x H) (hi : i = nI j) (hj : j < N) (hj2 : j < 2 ^ 31) (d : decode cc pc = .ok (.iaload, 1)) (e : pc + 1 = q) (kk : F k n ws im q (.int x :: st) lv) : F k n ws im pc (.int i :: .ref a :: st) lv := by
  obtain ⟨A, B, H0, J, hJ, hB, hAK, hAB, hBB, rfl⟩ := hF
  intro H hH
  exact j_ialde q hJ j (ho H hH.k) hi hj hj2 d e (kk H hH)
theorem f_lald (q : Nat) (hF : Fx D l s own args cc nL R nm KS Hb F) {N a : Nat} {i : Int32} {x : Int64} (j : Nat) (ho : ∀ H, Fk D KS Hb ws im H → ell D N a j x H) (hi : i = nI j) (hj : j < N) (hj2 : j < 2 ^ 31) (d : decode cc pc = .ok (.laload, 1)) (e : pc + 1 = q) (kk : F k n ws im q (.long x :: st) lv) : F k n ws im pc (.int i :: .ref a :: st) lv := by
  obtain ⟨A, B, H0, J, hJ, hB, hAK, hAB, hBB, rfl⟩ := hF
  intro H hH
  exact j_lalde q hJ j (ho H hH.k) hi hj hj2 d e (kk H hH)
theorem f_cald (q : Nat) (hF : Fx D l s own args cc nL R nm KS Hb F) {N a : Nat} {f : Nat → Int32} {i : Int32} (j : Nat) (ho : ∀ H, Fk D KS Hb ws im H → arc D N f a H) (hi : i = nI j) (hj : j < N) (hj2 : j < 2 ^ 31) (d : decode cc pc = .ok (.caload, 1)) (e : pc + 1 = q) (kk : F k n ws im q (.int (f j) :: st) lv) : F k n ws im pc (.int i :: .ref a :: st) lv := by
  obtain ⟨A, B, H0, J, hJ, hB, hAK, hAB, hBB, rfl⟩ := hF
  intro H hH
  exact j_cald q hJ (ho H hH.k) j hi hj hj2 d e (kk H hH)
theorem f_aald (q : Nat) (hF : Fx D l s own args cc nL R nm KS Hb F) {N a t : Nat} {C : String} {i : Int32} {x : Option Nat} (j : Nat) (ho : ∀ H, Fk D KS Hb ws im H → elr D t N a j x H) (ht : (aTys D.2.1)[t]? = some (D.2.1 t, .object C)) (hi : i = nI j) (hj : j < N) (hj2 : j < 2 ^ 31) (d : decode cc pc = .ok (.aaload, 1)) (e : pc + 1 = q) (kk : F k n ws im q (va_rf x :: st) lv) : F k n ws im pc (.int i :: .ref a :: st) lv := by
  obtain ⟨A, B, H0, J, hJ, hB, hAK, hAB, hBB, rfl⟩ := hF
  intro H hH
  exact j_aalde q hJ j (ho H hH.k) ht hi hj hj2 d e (kk H hH)
theorem f_alen (q : Nat) (hF : Fx D l s own args cc nL R nm KS Hb F) {a t : Nat} {x : vp_A} {ty : FieldType} (ho : ∀ H, Fk D KS Hb ws im H → ar D t x a H) (ht : (aTys D.2.1)[t]? = some (D.2.1 t, ty)) (d : decode cc pc = .ok (.arraylength, 1)) (e : pc + 1 = q) (kk : F k n ws im q (.int (nI x.1) :: st) lv) : F k n ws im pc (.ref a :: st) lv := by
  obtain ⟨A, B, H0, J, hJ, hB, hAK, hAB, hBB, rfl⟩ := hF
  intro H hH
  exact j_alen q hJ (ho H hH.k) ht d e (kk H hH)
theorem f_iast (q : Nat) (hF : Fx D l s own args cc nL R nm KS Hb F) (p : Nat) {N a : Nat} {f : Nat → Int32} {i x : Int32} (ws' : va_W) (hp : ws[p]? = some (aC D 0 a (iA N f))) (j : Nat) (hi : i = nI j) (hj : j < N) (hj2 : j < 2 ^ 31) (hs : ws.set p (aC D 0 a (iA N (upd f j x))) = ws') (d : decode cc pc = .ok (.iastore, 1)) (e : pc + 1 = q) (kk : F k n ws' im q st lv) : F k n ws im pc (.int x :: .int i :: .ref a :: st) lv := by
  subst hs
  obtain ⟨A, B, H0, J, hJ, hB, hAK, hAB, hBB, rfl⟩ := hF
  intro H hH
  exact j_iast q hJ (hH.k.a p hp) (hH.2.2.2.1 _ (List.mem_of_getElem? hp)) j hi hj hj2 d e fun H1 h1 h2 => kk H1 (hH.set hp h1 h2 hAK)
theorem f_cast (q : Nat) (hF : Fx D l s own args cc nL R nm KS Hb F) (p : Nat) {N a : Nat} {f : Nat → Int32} {i x : Int32} (ws' : va_W) (hp : ws[p]? = some (aC D 2 a (iA N f))) (hx : narrow .char (.int x) = .int x) (j : Nat) (hi : i = nI j) (hj : j < N) (hj2 : j < 2 ^ 31) (hs : ws.set p (aC D 2 a (iA N (upd f j x))) = ws') (d : decode cc pc = .ok (.castore, 1)) (e : pc + 1 = q) (kk : F k n ws' im q st lv) : F k n ws im pc (.int x :: .int i :: .ref a :: st) lv := by
  subst hs
  obtain ⟨A, B, H0, J, hJ, hB, hAK, hAB, hBB, rfl⟩ := hF
  intro H hH
  exact j_castore q hJ (hH.k.a p hp) (hH.2.2.2.1 _ (List.mem_of_getElem? hp)) hx j hi hj hj2 d e fun H1 h1 h2 => kk H1 (hH.set hp h1 h2 hAK)
theorem f_last (q : Nat) (hF : Fx D l s own args cc nL R nm KS Hb F) (p : Nat) {N a : Nat} {f : Nat → Int64} {i : Int32} {x : Int64} (ws' : va_W) (hp : ws[p]? = some (aC D 1 a (lA N f))) (j : Nat) (hi : i = nI j) (hj : j < N) (hj2 : j < 2 ^ 31) (hs : ws.set p (aC D 1 a (lA N (vp_updL f j x))) = ws') (d : decode cc pc = .ok (.lastore, 1)) (e : pc + 1 = q) (kk : F k n ws' im q st lv) : F k n ws im pc (.long x :: .int i :: .ref a :: st) lv := by
  subst hs
  obtain ⟨A, B, H0, J, hJ, hB, hAK, hAB, hBB, rfl⟩ := hF
  intro H hH
  exact j_last q hJ (hH.k.a p hp) (hH.2.2.2.1 _ (List.mem_of_getElem? hp)) j hi hj hj2 d e fun H1 h1 h2 => kk H1 (hH.set hp h1 h2 hAK)
theorem f_aast (q : Nat) (hF : Fx D l s own args cc nL R nm KS Hb F) (p : Nat) {N a t v : Nat} {C : String} {f : Nat → Option Nat} {i : Int32} (ws' : va_W) (hp : ws[p]? = some (aC D t a (qA N f))) (ht : (aTys D.2.1)[t]? = some (D.2.1 t, .object C)) (hr : ∀ H, Fk D KS Hb ws im H → anyK D C v H) (j : Nat) (hi : i = nI j) (hj : j < N) (hj2 : j < 2 ^ 31) (hs : ws.set p (aC D t a (qA N (va_up f j (some v)))) = ws') (d : decode cc pc = .ok (.aastore, 1)) (e : pc + 1 = q) (kk : F k n ws' im q st lv) : F k n ws im pc (.ref v :: .int i :: .ref a :: st) lv := by
  subst hs
  obtain ⟨A, B, H0, J, hJ, hB, hAK, hAB, hBB, rfl⟩ := hF
  intro H hH
  exact j_aast q hJ (hH.k.a p hp) ht (hr H hH.k) (hH.2.2.2.1 _ (List.mem_of_getElem? hp)) j hi hj hj2 d e fun H1 h1 h2 => kk H1 (hH.set hp h1 h2 hAK)
theorem f_aastN (q : Nat) (hF : Fx D l s own args cc nL R nm KS Hb F) (p : Nat) {N a t : Nat} {C : String} {f : Nat → Option Nat} {i : Int32} (ws' : va_W) (hp : ws[p]? = some (aC D t a (qA N f))) (ht : (aTys D.2.1)[t]? = some (D.2.1 t, .object C)) (j : Nat) (hi : i = nI j) (hj : j < N) (hj2 : j < 2 ^ 31) (hs : ws.set p (aC D t a (qA N (va_up f j none))) = ws') (d : decode cc pc = .ok (.aastore, 1)) (e : pc + 1 = q) (kk : F k n ws' im q st lv) : F k n ws im pc (.null :: .int i :: .ref a :: st) lv := by
  subst hs
  obtain ⟨A, B, H0, J, hJ, hB, hAK, hAB, hBB, rfl⟩ := hF
  intro H hH
  exact j_aastN q hJ (hH.k.a p hp) ht (hH.2.2.2.1 _ (List.mem_of_getElem? hp)) j hi hj hj2 d e fun H1 h1 h2 => kk H1 (hH.set hp h1 h2 hAK)
variable {rest : List Value} {index : Nat}
theorem f_cloneL (q : Nat) (hF : Fx D l s own args cc nL R nm KS Hb F) {a N : Nat} {f : Nat → Int64} (ho : ∀ H, Fk D KS Hb ws im H → arl D N f a H) (hfit : N ≤ 65536) (hlink : Cond.methodLink own index ⟨"[J", "clone", "()Ljava/lang/Object;"⟩ ∈ lw_all) (hsame : Cond.sameMethod "[J" "java/lang/Object" "clone" "()Ljava/lang/Object;" ∈ lw_all) (hnat : Cond.native ⟨"java/lang/Object", "clone", "()Ljava/lang/Object;"⟩ ∈ lw_all) (hinst : Cond.instanceMethod ⟨"java/lang/Object", "clone", "()Ljava/lang/Object;"⟩ ∈ lw_all) (hsel : Cond.selects "[J" ⟨"[J", "clone", "()Ljava/lang/Object;"⟩ ⟨"java/lang/Object", "clone", "()Ljava/lang/Object;"⟩ ∈ lw_all) (hcl : Cond.castable "[J" "java/lang/Cloneable" ∈ nwL)
    (hR : 1 ≤ R.frames ∧ 22 ≤ R.locals) (hrest : (rest.map fun v => v.category).sum ≤ 8) (hf : k + 1 ≤ R.cells ∧ n + N ≤ R.slots) (d : decode cc pc = .ok (.invokevirtual index, 3)) (e : pc + 3 = q) (kk : ∀ a', F (k + 1) (n + N) (aC D 1 a' (lA N f) :: ws) im q (.ref a' :: rest) lv) : F k n ws im pc (.ref a :: rest) lv := by
  obtain ⟨A, B, H0, J, hJ, hB, hAK, hAB, hBB, rfl⟩ := hF
  intro H hH
  refine hJ.fresh fun hfr => j_cloneL q hJ (ho H hH.k) hfit hlink hsame hnat hinst hsel hcl hR hrest hf d e fun H1 h1 h2 h3 => kk H.size H1 (hH.cons h1 h2 h3 (hfr _ (Nat.le_refl _)))
theorem f_copyl (q : Nat) (hF : Fx D l s own args cc nL R nm KS Hb F) (p : Nat) {a0 a n0 n1 : Nat} {f g : Nat → Int64} (sp dp m : Nat) {isp idp imm : Int32} (ws' : va_W) (h0 : ∀ H, Fk D KS Hb ws im H → arl D n0 f a0 H) (hp : ws[p]? = some (aC D 1 a (lA n1 g))) (hlk : Cond.methodLink own index arraycopyName ∈ lw_all) (e1 : isp = nI sp) (e2 : idp = nI dp) (e3 : imm = nI m) (h4 : sp + m ≤ n0) (h5 : dp + m ≤ n1) (hb : n0 < 2 ^ 31 ∧ n1 < 2 ^ 31) (hs : ws.set p (aC D 1 a (lA n1 (va_cpy f g sp dp m))) = ws') (hR : 1 ≤ R.frames ∧ 30 ≤ R.locals) (hrest : (rest.map fun v => v.category).sum ≤ 8) (d : decode cc pc = .ok (.invokestatic index, 3)) (e : pc + 3 = q) (kk : F k n ws' im q rest lv) : F k n ws im pc (.int imm :: .int idp :: .ref a :: .int isp :: .ref a0 :: rest) lv := by
  subst hs
  obtain ⟨A, B, H0, J, hJ, hB, hAK, hAB, hBB, rfl⟩ := hF
  intro H hH
  exact j_copyl q hJ sp dp m (h0 H hH.k) (hH.k.a p hp) (hH.2.2.2.1 _ (List.mem_of_getElem? hp)) hlk e1 e2 e3 h4 h5 hb hR hrest d e fun H1 h1 h2 => kk H1 (hH.set hp h1 h2 hAK)
theorem f_copyi (q : Nat) (hF : Fx D l s own args cc nL R nm KS Hb F) (p : Nat) {a0 a n0 n1 : Nat} {f g : Nat → Int32} (sp dp m : Nat) {isp idp imm : Int32} (ws' : va_W) (h0 : ∀ H, Fk D KS Hb ws im H → ari D n0 f a0 H) (hp : ws[p]? = some (aC D 0 a (iA n1 g))) (hlk : Cond.methodLink own index arraycopyName ∈ lw_all) (e1 : isp = nI sp) (e2 : idp = nI dp) (e3 : imm = nI m) (h4 : sp + m ≤ n0) (h5 : dp + m ≤ n1) (hb : n0 < 2 ^ 31 ∧ n1 < 2 ^ 31) (hs : ws.set p (aC D 0 a (iA n1 (va_cpy f g sp dp m))) = ws') (hR : 1 ≤ R.frames ∧ 30 ≤ R.locals) (hrest : (rest.map fun v => v.category).sum ≤ 8) (d : decode cc pc = .ok (.invokestatic index, 3)) (e : pc + 3 = q) (kk : F k n ws' im q rest lv) : F k n ws im pc (.int imm :: .int idp :: .ref a :: .int isp :: .ref a0 :: rest) lv := by
  subst hs
  obtain ⟨A, B, H0, J, hJ, hB, hAK, hAB, hBB, rfl⟩ := hF
  intro H hH
  exact j_copyi q hJ sp dp m (h0 H hH.k) (hH.k.a p hp) (hH.2.2.2.1 _ (List.mem_of_getElem? hp)) hlk e1 e2 e3 h4 h5 hb hR hrest d e fun H1 h1 h2 => kk H1 (hH.set hp h1 h2 hAK)
theorem f_copyq (q : Nat) (hF : Fx D l s own args cc nL R nm KS Hb F) (p : Nat) {a0 a n0 n1 t0 t1 : Nat} {E0 E1 : String} {f g : Nat → Option Nat} (sp dp m : Nat) {isp idp imm : Int32} (ws' : va_W) (h0 : ∀ H, Fk D KS Hb ws im H → ar D t0 (qA n0 f) a0 H) (hp : ws[p]? = some (aC D t1 a (qA n1 g))) (ht0 : (aTys D.2.1)[t0]? = some (D.2.1 t0, .object E0)) (ht1 : (aTys D.2.1)[t1]? = some (D.2.1 t1, .object E1)) (hel : ∀ H, Fk D KS Hb ws im H → ∀ i, i < m → ∀ y, f (sp + i) = some y → anyK D E1 y H) (hlk : Cond.methodLink own index arraycopyName ∈ lw_all) (e1 : isp = nI sp) (e2 : idp = nI dp) (e3 : imm = nI m) (h4 : sp + m ≤ n0) (h5 : dp + m ≤ n1) (hb : n0 < 2 ^ 31 ∧ n1 < 2 ^ 31) (hs : ws.set p (aC D t1 a (qA n1 (va_cpy f g sp dp m))) = ws') (hR : 1 ≤ R.frames ∧ 30 ≤ R.locals) (hrest : (rest.map fun v => v.category).sum ≤ 8) (d : decode cc pc = .ok (.invokestatic index, 3)) (e : pc + 3 = q) (kk : F k n ws' im q rest lv) : F k n ws im pc (.int imm :: .int idp :: .ref a :: .int isp :: .ref a0 :: rest) lv := by
  subst hs
  obtain ⟨A, B, H0, J, hJ, hB, hAK, hAB, hBB, rfl⟩ := hF
  intro H hH
  exact j_copyq q hJ sp dp m (h0 H hH.k) (hH.k.a p hp) ht0 ht1 (hel H hH.k) (hH.2.2.2.1 _ (List.mem_of_getElem? hp)) hlk e1 e2 e3 h4 h5 hb hR hrest d e fun H1 h1 h2 => kk H1 (hH.set hp h1 h2 hAK)
theorem f_castf (q : Nat) (hF : Fx D l s own args cc nL R nm KS Hb F) {C : String} {T : u_T} {N ci a i : Nat} {v : Value} (ho : ∀ H, Fk D KS Hb ws im H → fld D ci a i v H) (hc : aCl[ci]? = some (C, T, N)) (hlk : Cond.classLink own index C ∈ lw_all) (d : decode cc pc = .ok (.checkcast index, 3)) (e : pc + 3 = q) (kk : F k n ws im q (.ref a :: st) lv) : F k n ws im pc (.ref a :: st) lv := by
  obtain ⟨A, B, H0, J, hJ, hB, hAK, hAB, hBB, rfl⟩ := hF
  intro H hH
  exact j_castf q hJ (ho H hH.k) hc hlk d e (kk H hH)
theorem f_castL (q : Nat) (hF : Fx D l s own args cc nL R nm KS Hb F) {a N : Nat} {f : Nat → Int64} (ho : ∀ H, Fk D KS Hb ws im H → arl D N f a H) (hlk : Cond.classLink own index "[J" ∈ lw_all) (d : decode cc pc = .ok (.checkcast index, 3)) (e : pc + 3 = q) (kk : F k n ws im q (.ref a :: st) lv) : F k n ws im pc (.ref a :: st) lv := by
  obtain ⟨A, B, H0, J, hJ, hB, hAK, hAB, hBB, rfl⟩ := hF
  intro H hH
  exact j_casta q hJ (ty := .long) (ho H hH.k) rfl (fun cA => rfl) hlk d e (kk H hH)
theorem f_gets (q : Nat) (hF : Fx D l s own args cc nL R nm KS Hb F) {C nn dd : String} {i : Nat} (hst : (C, nn, dd, i) ∈ stL) (hlink : fLk own index C nn dd) (d : decode cc pc = .ok (.getstatic index, 3)) (e : pc + 3 = q) (kk : F k n ws im q (.ref (D.2.2.1 i) :: st) lv) : F k n ws im pc st lv := by
  obtain ⟨A, B, H0, J, hJ, hB, hAK, hAB, hBB, rfl⟩ := hF
  intro H hH
  exact j_gets q hJ hst hlink d e (kk H hH)
theorem f_objInit (q : Nat) (hF : Fx D l s own args cc nL R nm KS Hb F) {o : Nat} (hlk : Cond.methodLink own index Lib.objectInit ∈ lw_all) (hins : Cond.instanceMethod Lib.objectInit ∈ lw_all) (hcd : Cond.code Lib.objectInit ⟨#[0xb1]⟩ 1 none ∈ lw_all) (hR : 1 ≤ R.frames ∧ (rest.map fun v => v.category).sum + 12 ≤ R.locals) (d : decode cc pc = .ok (.invokespecial index, 3)) (e : pc + 3 = q) (kk : F k n ws im q rest lv) : F k n ws im pc (.ref o :: rest) lv := by
  obtain ⟨A, B, H0, J, hJ, hB, hAK, hAB, hBB, rfl⟩ := hF
  intro H hH
  exact j_objInit q hJ hlk hins hcd hR d e (kk H hH)
theorem f_maxJ (q : Nat) (hF : Fx D l s own args cc nL R nm KS Hb F) {x y : Int32} (hlk : Cond.methodLink own index ⟨"java/lang/Math", "max", "(II)I"⟩ ∈ lw_all) (hR : 1 ≤ R.frames ∧ 21 ≤ R.locals) (hrest : (rest.map fun v => v.category).sum ≤ 8) (d : decode cc pc = .ok (.invokestatic index, 3)) (hf : k ≤ R.cells ∧ n ≤ R.slots) (e : pc + 3 = q) (kk : F k n ws im q (.int (maxJ x y) :: rest) lv) : F k n ws im pc (.int y :: .int x :: rest) lv := by
  obtain ⟨A, B, H0, J, hJ, hB, hAK, hAB, hBB, rfl⟩ := hF
  intro H hH
  exact j_maxJ q hJ hlk hR hrest d hf e (kk H hH)
theorem f_minJ (q : Nat) (hF : Fx D l s own args cc nL R nm KS Hb F) {x y : Int32} (hlk : Cond.methodLink own index ⟨"java/lang/Math", "min", "(II)I"⟩ ∈ lw_all) (hR : 1 ≤ R.frames ∧ 21 ≤ R.locals) (hrest : (rest.map fun v => v.category).sum ≤ 8) (d : decode cc pc = .ok (.invokestatic index, 3)) (hf : k ≤ R.cells ∧ n ≤ R.slots) (e : pc + 3 = q) (kk : F k n ws im q (.int (minJ x y) :: rest) lv) : F k n ws im pc (.int y :: .int x :: rest) lv := by
  obtain ⟨A, B, H0, J, hJ, hB, hAK, hAB, hBB, rfl⟩ := hF
  intro H hH
  exact j_minJ q hJ hlk hR hrest d hf e (kk H hH)
variable {y : MethodName} {Lm f lo o : Nat} {ret : Option FieldType} {As : List Value} {ws1 wr im1 : va_W}
theorem f_callps {v : Option Value} (q : Nat) (hF : Fx D l s own args cc nL R nm KS Hb F) (hc : ∀ H, Fk D KS Hb ws im H → Cp D l y b Lm ret f lo As H v) (hw : GoodIn lw_all (va_wsS own index y (ws_ y b Lm ret))) (na : Nat) (hy : yOk y na) (hna : As.length = na) (hR : f + 1 ≤ R.frames ∧ 8 + (Lm + 11) + lo ≤ R.locals) (hst : st = As.reverse ++ rest) (hrest : (rest.map fun v => v.category).sum ≤ 8) (d : decode cc pc = .ok (.invokestatic index, 3)) (hf : k ≤ R.cells ∧ n ≤ R.slots) (e : pc + 3 = q) (kk : F k n ws im q (v.toList ++ rest) lv) : F k n ws im pc st lv := by
  obtain ⟨A, B, H0, J, hJ, hB, hAK, hAB, hBB, rfl⟩ := hF
  intro H hH
  exact j_callps q hJ (hc H hH.k) hw na hy hna hR hst hrest d hf e (kk H hH)
theorem f_callS' {v : Value} (q : Nat) (hF : Fx D l s own args cc nL R nm KS Hb F) (hc : Cs D l y b Lm ret f lo As v) (hw : GoodIn lw_all (va_wsS own index y (ws_ y b Lm ret))) (na : Nat) (hy : yOk y na) (hna : As.length = na) (hR : f + 1 ≤ R.frames ∧ 8 + (Lm + 11) + lo ≤ R.locals) (hst : st = As.reverse ++ rest) (hrest : (rest.map fun v => v.category).sum ≤ 8) (d : decode cc pc = .ok (.invokestatic index, 3)) (hf : k ≤ R.cells ∧ n ≤ R.slots) (e : pc + 3 = q) (kk : F k n ws im q (v :: rest) lv) : F k n ws im pc st lv := by
  obtain ⟨A, B, H0, J, hJ, hB, hAK, hAB, hBB, rfl⟩ := hF
  intro H hH
  exact cs_row q hJ hc hw na hy hna hR hst hrest d hf e (kk H hH)
theorem f_callSN' {v : Value} {host : String} (q : Nat) (hF : Fx D l s own args cc nL R nm KS Hb F) (hc : Cs D l y b Lm ret f lo As v) (hcode : Cond.code y b Lm ret ∈ lw_all) (hini : Cond.initialized y.cls ∈ lw_all) (hlk : Cond.methodLinkNest own index y host ∈ nwL) (hstc : Cond.static y ∈ lw_all) (na : Nat) (hy : yOk y na) (hna : As.length = na) (hR : f + 1 ≤ R.frames ∧ 8 + (Lm + 11) + lo ≤ R.locals) (hst : st = As.reverse ++ rest) (hrest : (rest.map fun v => v.category).sum ≤ 8) (d : decode cc pc = .ok (.invokestatic index, 3)) (hf : k ≤ R.cells ∧ n ≤ R.slots) (e : pc + 3 = q) (kk : F k n ws im q (v :: rest) lv) : F k n ws im pc st lv := by
  obtain ⟨A, B, H0, J, hJ, hB, hAK, hAB, hBB, rfl⟩ := hF
  intro H hH
  refine j_callSN q hJ (hc H) hcode hini hlk hstc na hy hna hR hst hrest d hf (fun x hx => Or.inr hx) e ?_
  rintro r H1 ⟨rfl, rfl⟩ _
  exact kk _ hH
theorem f_callp {v : Option Value} (q : Nat) (hF : Fx D l s own args cc nL R nm KS Hb F) (hc : ∀ H, Fk D KS Hb ws im H → Cp D l y b Lm ret f lo (.ref o :: As) H v) (hw : GoodIn lw_all (wsV own index y.cls y (ws_ y b Lm ret))) (na : Nat) (hy : yOk y na) (hna : As.length = na) (hR : f + 1 ≤ R.frames ∧ 8 + (Lm + 11) + lo ≤ R.locals) {ci i : Nat} {w : Value} {T : u_T} {N : Nat} (ho : ∀ H, Fk D KS Hb ws im H → fld D ci o i w H) (hcl : aCl[ci]? = some (y.cls, T, N)) (hst : st = As.reverse ++ .ref o :: rest) (hrest : (rest.map fun v => v.category).sum ≤ 8) (d : decode cc pc = .ok (.invokevirtual index, 3)) (hf : k ≤ R.cells ∧ n ≤ R.slots) (e : pc + 3 = q) (kk : F k n ws im q (v.toList ++ rest) lv) : F k n ws im pc st lv := by
  obtain ⟨A, B, H0, J, hJ, hB, hAK, hAB, hBB, rfl⟩ := hF
  intro H hH
  exact j_callp q hJ (hc H hH.k) hw na hy hna hR (ho H hH.k) hcl hst hrest d hf e (kk H hH)
theorem f_callFp {v : Option Value} {x : MethodName} {C : String} {cnt : Nat} (q : Nat) (hF : Fx D l s own args cc nL R nm KS Hb F) (hc : ∀ H, Fk D KS Hb ws im H → Cp D l y b Lm ret f lo (.ref o :: As) H v) (hw : GoodIn lw_all (va_wsF own index C x y (ws_ y b Lm ret))) (hFw : (C, x, y) ∈ fwL) (hFo : fwOk (C, x, y) = true) (na : Nat) (hy : yOk x na) (hna : As.length = na) (hR : f + 1 ≤ R.frames ∧ 8 + (Lm + 11) + lo ≤ R.locals) {ci i : Nat} {w : Value} {T : u_T} {N : Nat} (ho : ∀ H, Fk D KS Hb ws im H → fld D ci o i w H) (hcl : aCl[ci]? = some (C, T, N)) (hst : st = As.reverse ++ .ref o :: rest) (hrest : (rest.map fun v => v.category).sum ≤ 8) (d : decode cc pc = .ok (.invokeinterface index cnt, 5)) (hf : k ≤ R.cells ∧ n ≤ R.slots) (e : pc + 5 = q) (kk : F k n ws im q (v.toList ++ rest) lv) : F k n ws im pc st lv := by
  obtain ⟨A, B, H0, J, hJ, hB, hAK, hAB, hBB, rfl⟩ := hF
  intro H hH
  exact j_callFp q hJ (hc H hH.k) hw hFw hFo na hy hna hR (ho H hH.k) hcl hst hrest d hf e (kk H hH)
theorem Fst.mem {A B : Nat → Prop} {H : Heap} (h : Fst D KS Hb A B (ws1 ++ wr) im H) : ∀ q, (q ∈ adr ws1 ∨ H.size ≤ q) → A q ∨ H.size ≤ q := fun q hq => hq.elim (fun hq => Or.inl (by obtain ⟨c, hc, rfl⟩ := mem_adr hq; exact h.2.2.2.1 c (List.mem_append_left _ hc))) Or.inr
theorem f_callV (q : Nat) (hF : Fx D l s own args cc nL R nm KS Hb F) (hc : Fc D l y b Lm ret f mc ms lo KS Hb (.ref o :: As) ws1 im1 Post) (hws : ws = ws1 ++ wr) (him : ∀ c ∈ im1, c ∈ im) (hw : GoodIn lw_all (wsV own index y.cls y (ws_ y b Lm ret))) (na : Nat) (hy : yOk y na) (hna : As.length = na) (hR : f + 1 ≤ R.frames ∧ 8 + (Lm + 11) + lo ≤ R.locals) {ci i : Nat} {w : Value} {T : u_T} {N : Nat} (ho : ∀ H, Fk D KS Hb ws im H → fld D ci o i w H) (hcl : aCl[ci]? = some (y.cls, T, N)) (hst : st = As.reverse ++ .ref o :: rest) (hrest : (rest.map fun v => v.category).sum ≤ 8) (d : decode cc pc = .ok (.invokevirtual index, 3)) (hf : k + mc ≤ R.cells ∧ n + ms ≤ R.slots) (e : pc + 3 = q) (kk : ∀ (r : Option Value) (ws' im' : va_W), Post r ws' im' → F (k + mc) (n + ms) (ws' ++ wr) (im' ++ im) q (r.toList ++ rest) lv) : F k n ws im pc st lv := by
  subst hws
  obtain ⟨A, B, H0, J, hJ, hB, hAK, hAB, hBB, rfl⟩ := hF
  intro H hH
  obtain ⟨fs, h1, -⟩ := ho H hH.k
  refine hJ.fresh fun hfr => j_callV q hJ (hc H hB (hH.pre him hAK)) hw na hy hna hR h1 hcl hst hrest d hf hH.mem e ?_
  rintro r H1 ⟨ws', im', hp, h'⟩ hfr1
  exact kk r ws' im' hp H1 (hH.call him h' hfr1 hAK hfr hAB hBB)
/-- cells that the method owns are lent to the callee as cells that stay -/
theorem f_callVb (q : Nat) (hF : Fx D l s own args cc nL R nm KS Hb F) (hc : Fc D l y b Lm ret f mc ms lo KS Hb (.ref o :: As) ws1 im1 Post) (hws : ws = ws1 ++ wr) (him : ∀ c ∈ im1, c ∈ im ∨ c ∈ wr) (hnb : ∀ r ws' im', Post r ws' im' → im' = []) (hw : GoodIn lw_all (wsV own index y.cls y (ws_ y b Lm ret))) (na : Nat) (hy : yOk y na) (hna : As.length = na) (hR : f + 1 ≤ R.frames ∧ 8 + (Lm + 11) + lo ≤ R.locals) {ci i : Nat} {w : Value} {T : u_T} {N : Nat} (ho : ∀ H, Fk D KS Hb ws im H → fld D ci o i w H) (hcl : aCl[ci]? = some (y.cls, T, N)) (hst : st = As.reverse ++ .ref o :: rest) (hrest : (rest.map fun v => v.category).sum ≤ 8) (d : decode cc pc = .ok (.invokevirtual index, 3)) (hf : k + mc ≤ R.cells ∧ n + ms ≤ R.slots) (e : pc + 3 = q) (kk : ∀ (r : Option Value) (ws' im' : va_W), Post r ws' im' → F (k + mc) (n + ms) (ws' ++ wr) (im' ++ im) q (r.toList ++ rest) lv) : F k n ws im pc st lv := by
  subst hws
  obtain ⟨A, B, H0, J, hJ, hB, hAK, hAB, hBB, rfl⟩ := hF
  intro H hH
  obtain ⟨fs, h1, -⟩ := ho H hH.k
  refine hJ.fresh fun hfr => j_callV q hJ (hc H hB (hH.preb him hAK)) hw na hy hna hR h1 hcl hst hrest d hf hH.mem e ?_
  rintro r H1 ⟨ws', im', hp, h'⟩ hfr1
  exact kk r ws' im' hp H1 (hH.callb him (Or.inl (hnb r ws' im' hp)) h' hfr1 hAK hfr hAB hBB)
theorem f_callF {x : MethodName} {C : String} {cnt : Nat} (q : Nat) (hF : Fx D l s own args cc nL R nm KS Hb F) (hc : Fc D l y b Lm ret f mc ms lo KS Hb (.ref o :: As) ws1 im1 Post) (hws : ws = ws1 ++ wr) (him : ∀ c ∈ im1, c ∈ im) (hw : GoodIn lw_all (va_wsF own index C x y (ws_ y b Lm ret))) (hFw : (C, x, y) ∈ fwL) (hFo : fwOk (C, x, y) = true) (na : Nat) (hy : yOk x na) (hna : As.length = na) (hR : f + 1 ≤ R.frames ∧ 8 + (Lm + 11) + lo ≤ R.locals) {ci i : Nat} {w : Value} {T : u_T} {N : Nat} (ho : ∀ H, Fk D KS Hb ws im H → fld D ci o i w H) (hcl : aCl[ci]? = some (C, T, N)) (hst : st = As.reverse ++ .ref o :: rest) (hrest : (rest.map fun v => v.category).sum ≤ 8) (d : decode cc pc = .ok (.invokeinterface index cnt, 5)) (hf : k + mc ≤ R.cells ∧ n + ms ≤ R.slots) (e : pc + 5 = q) (kk : ∀ (r : Option Value) (ws' im' : va_W), Post r ws' im' → F (k + mc) (n + ms) (ws' ++ wr) (im' ++ im) q (r.toList ++ rest) lv) : F k n ws im pc st lv := by
  subst hws
  obtain ⟨A, B, H0, J, hJ, hB, hAK, hAB, hBB, rfl⟩ := hF
  intro H hH
  refine hJ.fresh fun hfr => j_callF q hJ (hc H hB (hH.pre him hAK)) hw hFw hFo na hy hna hR (ho H hH.k) hcl hst hrest d hf hH.mem e ?_
  rintro r H1 ⟨ws', im', hp, h'⟩ hfr1
  exact kk r ws' im' hp H1 (hH.call him h' hfr1 hAK hfr hAB hBB)
theorem f_callS (q : Nat) (hF : Fx D l s own args cc nL R nm KS Hb F) (hc : Fc D l y b Lm ret f mc ms lo KS Hb As ws1 im1 Post) (hws : ws = ws1 ++ wr) (him : ∀ c ∈ im1, c ∈ im) (hw : GoodIn lw_all (va_wsS own index y (ws_ y b Lm ret))) (na : Nat) (hy : yOk y na) (hna : As.length = na) (hR : f + 1 ≤ R.frames ∧ 8 + (Lm + 11) + lo ≤ R.locals) (hst : st = As.reverse ++ rest) (hrest : (rest.map fun v => v.category).sum ≤ 8) (d : decode cc pc = .ok (.invokestatic index, 3)) (hf : k + mc ≤ R.cells ∧ n + ms ≤ R.slots) (e : pc + 3 = q) (kk : ∀ (r : Option Value) (ws' im' : va_W), Post r ws' im' → F (k + mc) (n + ms) (ws' ++ wr) (im' ++ im) q (r.toList ++ rest) lv) : F k n ws im pc st lv := by
  subst hws
  obtain ⟨A, B, H0, J, hJ, hB, hAK, hAB, hBB, rfl⟩ := hF
  intro H hH
  refine hJ.fresh fun hfr => j_callS q hJ (hc H hB (hH.pre him hAK)) hw na hy hna hR hst hrest d hf hH.mem e ?_
  rintro r H1 ⟨ws', im', hp, h'⟩ hfr1
  exact kk r ws' im' hp H1 (hH.call him h' hfr1 hAK hfr hAB hBB)
theorem f_callI (q : Nat) (hF : Fx D l s own args cc nL R nm KS Hb F) (hc : Fc D l y b Lm none f mc ms lo KS Hb (.ref o :: As) ws1 im1 Post) (hws : ws = ws1 ++ wr) (him : ∀ c ∈ im1, c ∈ im) (hw : Cond.code y b Lm none ∈ lw_all) (hini : Cond.initialized y.cls ∈ lw_all) (hlk : Cond.methodLink own index y ∈ lw_all) (hins : Cond.instanceMethod y ∈ lw_all) (hyn : y.name = "<init>") (na : Nat) (hy : yOk y na) (hna : As.length = na) (hR : f + 1 ≤ R.frames ∧ 8 + (Lm + 11) + lo ≤ R.locals) (hst : st = As.reverse ++ .ref o :: rest) (hrest : (rest.map fun v => v.category).sum ≤ 8) (d : decode cc pc = .ok (.invokespecial index, 3)) (hf : k + mc ≤ R.cells ∧ n + ms ≤ R.slots) (e : pc + 3 = q) (kk : ∀ (r : Option Value) (ws' im' : va_W), Post r ws' im' → F (k + mc) (n + ms) (ws' ++ wr) (im' ++ im) q (r.toList ++ rest) lv) : F k n ws im pc st lv := by
  subst hws
  obtain ⟨A, B, H0, J, hJ, hB, hAK, hAB, hBB, rfl⟩ := hF
  intro H hH
  refine hJ.fresh fun hfr => j_callI q hJ (hc H hB (hH.pre him hAK)) hw hini hlk hins hyn na hy hna hR hst hrest d hf hH.mem e ?_
  rintro r H1 ⟨ws', im', hp, h'⟩ hfr1
  exact kk r ws' im' hp H1 (hH.call him h' hfr1 hAK hfr hAB hBB)
theorem f_callIN {host : String} (q : Nat) (hF : Fx D l s own args cc nL R nm KS Hb F) (hc : Fc D l y b Lm none f mc ms lo KS Hb (.ref o :: As) ws1 im1 Post) (hws : ws = ws1 ++ wr) (him : ∀ c ∈ im1, c ∈ im) (hw : Cond.code y b Lm none ∈ lw_all) (hini : Cond.initialized y.cls ∈ lw_all) (hlk : Cond.methodLinkNest own index y host ∈ nwL) (hins : Cond.instanceMethod y ∈ lw_all) (hyn : y.name = "<init>") (na : Nat) (hy : yOk y na) (hna : As.length = na) (hR : f + 1 ≤ R.frames ∧ 8 + (Lm + 11) + lo ≤ R.locals) (hst : st = As.reverse ++ .ref o :: rest) (hrest : (rest.map fun v => v.category).sum ≤ 8) (d : decode cc pc = .ok (.invokespecial index, 3)) (hf : k + mc ≤ R.cells ∧ n + ms ≤ R.slots) (e : pc + 3 = q) (kk : ∀ (r : Option Value) (ws' im' : va_W), Post r ws' im' → F (k + mc) (n + ms) (ws' ++ wr) (im' ++ im) q (r.toList ++ rest) lv) : F k n ws im pc st lv := by
  subst hws
  obtain ⟨A, B, H0, J, hJ, hB, hAK, hAB, hBB, rfl⟩ := hF
  intro H hH
  refine hJ.fresh fun hfr => j_callIN q hJ (hc H hB (hH.pre him hAK)) hw hini hlk hins hyn na hy hna hR hst hrest d hf hH.mem e ?_
  rintro r H1 ⟨ws', im', hp, h'⟩ hfr1
  exact kk r ws' im' hp H1 (hH.call him h' hfr1 hAK hfr hAB hBB)
/-- the computation's nine cells -/
def cwC (D : DD) (kd : Nat → Nat) (L : TL) (C : TC) : va_W := [oC (kd 0) 6 (cwF kd), oC (kd 1) 7 (csF kd C), aC D 1 (kd 2) (lA 6 (L 0)), aC D 1 (kd 3) (lA 6 (L 1)), aC D 1 (kd 4) (lA 6 (L 2)), aC D 1 (kd 5) (lA 6 (L 3)), aC D 1 (kd 6) (lA 6 (L 4)), aC D 1 (kd 7) (lA 6 (L 5)), aC D 1 (kd 8) (lA 6 (L 6))]
theorem cwC_to {kd : Nat → Nat} {L : TL} {C : TC} {H : Heap} (h : ∀ q ∈ cwC D kd L C, vat D q H) : cw D kd L C H := by
  refine ⟨h _ (List.mem_of_getElem? (i := 0) rfl), h _ (List.mem_of_getElem? (i := 1) rfl), fun j hj => ?_⟩
  rcases (show j = 0 ∨ j = 1 ∨ j = 2 ∨ j = 3 ∨ j = 4 ∨ j = 5 ∨ j = 6 by omega) with rfl | rfl | rfl | rfl | rfl | rfl | rfl
  · exact h _ (List.mem_of_getElem? (i := 2) rfl)
  · exact h _ (List.mem_of_getElem? (i := 3) rfl)
  · exact h _ (List.mem_of_getElem? (i := 4) rfl)
  · exact h _ (List.mem_of_getElem? (i := 5) rfl)
  · exact h _ (List.mem_of_getElem? (i := 6) rfl)
  · exact h _ (List.mem_of_getElem? (i := 7) rfl)
  · exact h _ (List.mem_of_getElem? (i := 8) rfl)
theorem cwC_of {kd : Nat → Nat} {L : TL} {C : TC} {H : Heap} (h : cw D kd L C H) : ∀ q ∈ cwC D kd L C, vat D q H := by
  intro q hq
  simp only [cwC, List.mem_cons, List.not_mem_nil, or_false] at hq
  rcases hq with rfl | rfl | rfl | rfl | rfl | rfl | rfl | rfl | rfl
  · exact h.1
  · exact h.2.1
  · exact h.2.2 0 (by omega)
  · exact h.2.2 1 (by omega)
  · exact h.2.2 2 (by omega)
  · exact h.2.2 3 (by omega)
  · exact h.2.2 4 (by omega)
  · exact h.2.2 5 (by omega)
  · exact h.2.2 6 (by omega)
theorem cwC_adr {kd : Nat → Nat} {L : TL} {C : TC} {q : Nat} : q ∈ adr (cwC D kd L C) ↔ kS kd q := by
  constructor
  · intro h
    simp only [cwC, adr, List.map_cons, List.map_nil, List.mem_cons, List.not_mem_nil, or_false] at h
    rcases h with rfl | rfl | rfl | rfl | rfl | rfl | rfl | rfl | rfl
    · exact ⟨0, by omega, rfl⟩
    · exact ⟨1, by omega, rfl⟩
    · exact ⟨2, by omega, rfl⟩
    · exact ⟨3, by omega, rfl⟩
    · exact ⟨4, by omega, rfl⟩
    · exact ⟨5, by omega, rfl⟩
    · exact ⟨6, by omega, rfl⟩
    · exact ⟨7, by omega, rfl⟩
    · exact ⟨8, by omega, rfl⟩
  · rintro ⟨i, hi, rfl⟩
    rcases (show i = 0 ∨ i = 1 ∨ i = 2 ∨ i = 3 ∨ i = 4 ∨ i = 5 ∨ i = 6 ∨ i = 7 ∨ i = 8 by omega) with rfl | rfl | rfl | rfl | rfl | rfl | rfl | rfl | rfl <;> simp [cwC, adr]
/-- a computing method -/
theorem f_callK {kd : Nat → Nat} {L : TL} {C : TC} {PostK : Option Value → TL → TC → Prop} (q : Nat) (hF : Fx D l s own args cc nL R nm KS Hb F) (hkS : ∀ q, kS kd q → KS q) (hc : Kc D l y b Lm ret f lo kd (fun H => fr KS Hb H) (.ref o :: As) L C PostK) (hws : ws = cwC D kd L C ++ wr) (hw : GoodIn lw_all (wsV own index y.cls y (ws_ y b Lm ret))) (na : Nat) (hy : yOk y na) (hna : As.length = na) (hR : f + 1 ≤ R.frames ∧ 8 + (Lm + 11) + lo ≤ R.locals) {ci i : Nat} {w : Value} {T : u_T} {N : Nat} (ho : ∀ H, Fk D KS Hb ws im H → fld D ci o i w H) (hcl : aCl[ci]? = some (y.cls, T, N)) (hst : st = As.reverse ++ .ref o :: rest) (hrest : (rest.map fun v => v.category).sum ≤ 8) (d : decode cc pc = .ok (.invokevirtual index, 3)) (hf : k + 0 ≤ R.cells ∧ n + 0 ≤ R.slots) (e : pc + 3 = q) (kk : ∀ (r : Option Value) (L' : TL) (C' : TC), PostK r L' C' → F k n (cwC D kd L' C' ++ wr) im q (r.toList ++ rest) lv) : F k n ws im pc st lv := by
  subst hws
  obtain ⟨A, B, H0, J, hJ, hB, hAK, hAB, hBB, rfl⟩ := hF
  intro H hH
  obtain ⟨fs, h1, -⟩ := ho H hH.k
  have hcw : cw D kd L C H := cwC_to (fun q hq => hH.2.1 q (List.mem_append_left _ hq))
  refine hJ.fresh fun hfr => j_callV q hJ (hc H hcw hH.1) hw na hy hna hR h1 hcl hst hrest d hf (fun q hq => hH.mem q (hq.imp cwC_adr.mpr id)) e ?_
  rintro r H1 ⟨L', C', hp, h'⟩ hfr1
  refine kk r L' C' hp H1 ?_
  have hfr2 : fr (fun q => q ∈ adr (cwC D kd L C) ∨ H.size ≤ q) H H1 := ⟨hfr1.1, fun q h1 h2 => hfr1.2 q h1 (fun z => h2 (z.imp cwC_adr.mpr id))⟩
  have hKH : fr KS Hb H1 := hH.1.trans hfr1 (fun q _ h => h) (fun q hq h => h.elim (hkS q) (fun z => absurd hq (Nat.not_lt.mpr (Nat.le_trans hH.1.1 z))))
  refine hH.call (im1 := []) (im' := []) (fun q hq => absurd hq List.not_mem_nil) ⟨hKH, cwC_of h', ?_, fun q hq => Or.inl (cwC_adr.mpr (cwC_adr.mp (adr_mem hq))), fun q (hq : q ∈ ([] : va_W)) => absurd hq List.not_mem_nil, fun q (hq : q ∈ ([] : va_W)) => absurd hq List.not_mem_nil⟩ hfr2 hAK hfr hAB hBB
  have := hH.2.2.1
  rw [adr, List.map_append] at this
  exact (List.nodup_append.mp this).1
end FROWS
/-! more rows: widening, constants, class objects -/
theorem imk {im im1 : va_W} (is : List Nat) (h : is.filterMap (fun i => im[i]?) = im1) : ∀ c ∈ im1, c ∈ im := by
  subst h
  intro c hc
  obtain ⟨i, -, hi⟩ := List.mem_filterMap.mp hc
  exact List.mem_of_getElem? hi
section FROWS2
variable {D : DD} {l : Launch} {s : State} {own : String} {args : Array Value} {cc : ByteArray} {nL : Nat} {R : Room} {nm : String} {KS : Nat → Prop} {Hb : Heap} {F : FJ} {k n : Nat} {ws im : va_W} {pc : Nat} {st rest : List Value} {lv : List (Nat × Value)} {index : Nat}
theorem j_widen {A : Nat → Prop} {H0 H : Heap} {J : Heap → Nat → Nat → Nat → List Value → List (Nat × Value) → Prop} (hJ : Jx D l s own args cc nL R nm A H0 J) {k' n' : Nat} (hk : k ≤ k') (hn : n ≤ n') (kk : J H k' n' pc st lv) : J H k n pc st lv := by
  refine hJ.go fun ls locs hx hb hml hown hts hnm hK hA hOK hl hS ret => ?_
  exact W.widen hk hn (ret _ _ _ _ _ _ kk ls locs hl hS)
theorem f_widen (hF : Fx D l s own args cc nL R nm KS Hb F) {k' n' : Nat} (hk : k ≤ k') (hn : n ≤ n') (kk : F k' n' ws im pc st lv) : F k n ws im pc st lv := by
  obtain ⟨A, B, H0, J, hJ, hB, hAK, hAB, hBB, rfl⟩ := hF
  intro H hH
  exact j_widen hJ hk hn (kk H hH)
theorem f_eqw (ws' : va_W) (e : ws = ws') (kk : F k n ws' im pc st lv) : F k n ws im pc st lv := e ▸ kk
/-- a constant's cell is known -/
theorem f_cst (hF : Fx D l s own args cc nL R nm KS Hb F) (c : Nat × va_E) (hc : SH D → vat D c D.2.2.2) (kk : F k n ws (c :: im) pc st lv) : F k n ws im pc st lv := by
  have hF' := hF
  obtain ⟨A, B, H0, J, hJ, hB, hAK, hAB, hBB, rfl⟩ := hF
  have h0 := hc hJ.kk.2.2.2.2.2.1
  exact f_old hF' c (h0.kept (hB.2.2 _ h0.lt)) (fun z => Nat.not_le.mpr h0.lt (hB.1 _ z)) kk
theorem f_c1 (hF : Fx D l s own args cc nL R nm KS Hb F) (kk : F k n ws (aC D 3 (D.2.2.1 1) (qA 0 (fun _ => none)) :: im) pc st lv) : F k n ws im pc st lv := f_cst hF _ (fun h => h.1) kk
theorem f_cI (hF : Fx D l s own args cc nL R nm KS Hb F) (kk : F k n ws (aC D 7 (D.2.2.1 2) (qA 256 (fun k => some (D.2.2.1 (1000 + k)))) :: im) pc st lv) : F k n ws im pc st lv := f_cst hF _ (fun h => h.2.1.1) kk
theorem f_cIk (hF : Fx D l s own args cc nL R nm KS Hb F) {j : Nat} (hj : j < 256) (kk : F k n ws (oC (D.2.2.1 (1000 + j)) 19 [.int (nI j - 128)] :: im) pc st lv) : F k n ws im pc st lv := f_cst hF _ (fun h => h.2.1.2 j hj) kk
theorem f_cL (hF : Fx D l s own args cc nL R nm KS Hb F) (kk : F k n ws (aC D 8 (D.2.2.1 3) (qA 256 (fun k => some (D.2.2.1 (2000 + k)))) :: im) pc st lv) : F k n ws im pc st lv := f_cst hF _ (fun h => h.2.2.1) kk
theorem f_cLk (hF : Fx D l s own args cc nL R nm KS Hb F) {j : Nat} (hj : j < 256) (kk : F k n ws (oC (D.2.2.1 (2000 + j)) 20 [.long (lN j - 128)] :: im) pc st lv) : F k n ws im pc st lv := f_cst hF _ (fun h => h.2.2.2 j hj) kk
theorem j_geti {A : Nat → Prop} {H0 H : Heap} {J : Heap → Nat → Nat → Nat → List Value → List (Nat × Value) → Prop} (q : Nat) (hJ : Jx D l s own args cc nL R nm A H0 J) {C nn dd : String} {v : Int32} (hst : (C, nn, dd, v) ∈ stI) (hlink : fLk own index C nn dd) (d : decode cc pc = .ok (.getstatic index, 3)) (e : pc + 3 = q) (kk : J H k n q (.int v :: st) lv) : J H k n pc st lv := by
  subst e
  refine hJ.go fun ls locs hx hb hml hown hts hnm hK hA hOK hl hS ret => ?_
  obtain ⟨cf, kf, fi, f, a, cell, h1, h2, h3, h4, h5, h6, h7, h8⟩ := hK.2.2.2.2.1.2.1 _ hst
  have hcell : H[a]? = some cell := by rw [hOK.2 a (Array.getElem?_eq_some_iff.mp h5).1]; exact h5
  rcases hlink with hlink | ⟨host, hlink⟩
  · exact W.gets hx hb hown (hts _ hlink) h1 h2 h3 h4 hcell (fun e => by rw [e] at h6; cases h6) h7 rfl d (ret _ _ _ _ _ _ kk ls locs hl hS)
  · exact va_WgetsN hx hb hown (va_Nw.use rfl (hK.2.1 _ hlink rfl)) h1 h2 h3 h4 hcell (fun e => by rw [e] at h6; cases h6) h7 rfl d (ret _ _ _ _ _ _ kk ls locs hl hS)
theorem f_geti (q : Nat) (hF : Fx D l s own args cc nL R nm KS Hb F) {C nn dd : String} {v : Int32} (hst : (C, nn, dd, v) ∈ stI) (hlink : fLk own index C nn dd) (d : decode cc pc = .ok (.getstatic index, 3)) (e : pc + 3 = q) (kk : F k n ws im q (.int v :: st) lv) : F k n ws im pc st lv := by
  obtain ⟨A, B, H0, J, hJ, hB, hAK, hAB, hBB, rfl⟩ := hF
  intro H hH
  exact j_geti q hJ hst hlink d e (kk H hH)
/-- a class constant; the class of an array of objects; of a list -/
theorem f_ldcM (q : Nat) (hF : Fx D l s own args cc nL R nm KS Hb F) {C : String} {i : Nat} (hm : (C, i) ∈ miL) (hlk : Cond.classLink own index C ∈ lw_all) (d : decode cc pc = .ok (.ldc index, 2)) (e : pc + 2 = q) (kk : F k n ws im q (.ref (D.2.2.1 i) :: st) lv) : F k n ws im pc st lv := by
  subst e
  obtain ⟨A, B, H0, J, hJ, hB, hAK, hAB, hBB, rfl⟩ := hF
  intro H hH
  refine hJ.go fun ls locs hx hb hml hown hts hnm hK hA hOK hl hS ret => ?_
  exact va_ldcM hx hb hown (hts _ hlk) (hK.2.2.2.2.2.2.1 _ hm) d (ret _ _ _ _ _ _ (kk H hH) ls locs hl hS)
theorem f_getCA (q : Nat) (hF : Fx D l s own args cc nL R nm KS Hb F) {a : Nat} {x : vp_A} (ho : ∀ H, Fk D KS Hb ws im H → ar D 3 x a H) (hlk : Cond.methodLink own index gcN ∈ lw_all) (hsel : Cond.selects "[Ljava/lang/Object;" gcN gcN ∈ lw_all) (hins : Cond.instanceMethod gcN ∈ lw_all) (hnat : Cond.native gcN ∈ lw_all) (hR : 1 ≤ R.frames ∧ 22 ≤ R.locals) (hrest : (rest.map fun v => v.category).sum ≤ 8) (d : decode cc pc = .ok (.invokevirtual index, 3)) (e : pc + 3 = q) (kk : F k n ws im q (.ref (D.2.2.1 100) :: rest) lv) : F k n ws im pc (.ref a :: rest) lv := by
  subst e
  obtain ⟨A, B, H0, J, hJ, hB, hAK, hAB, hBB, rfl⟩ := hF
  intro H hH
  have h1 := ho H hH.k
  refine hJ.go fun ls locs hx hb hml hown hts hnm hK hA hOK hl hS ret => ?_
  have hnmA : s.vm.findClass "[Ljava/lang/Object;" = some (D.2.1 3) := va_nmO (hK.1.2 3 _ rfl).2 (by decide +kernel)
  have hvm0 : (vp_cell (D.2.1 3) x).vm = .none := by obtain ⟨n, f | f | f | f | f⟩ := x <;> rfl
  have hcl0 : (vp_cell (D.2.1 3) x).cls = D.2.1 3 := by obtain ⟨n, f | f | f | f | f⟩ := x <;> rfl
  exact va_getC hx hb (hml.trans hl.1.symm) hown (hts _ hlk) (va_Dc.use hK.2.2.2.2.2.2.2.2.1.1) (hts _ hsel) (hts _ hins) (hts _ hnat) (hK.2.2.2.2.2.2.1 ("[Ljava/lang/Object;", 100) (List.mem_of_getElem? (i := 0) rfl)) ⟨_, h1, by rw [hvm0]; rfl, by rw [hcl0]; exact hnmA⟩ hR.1 (by omega) d (ret _ _ _ _ _ _ (kk H hH) ls locs hl hS)
theorem sel_gc {s : State} {args : Array Value} (h1 : (Cond.interfaceMethod "java/util/List" "java/lang/Object" "getClass" "()Ljava/lang/Class;").before #[] s = true) (h2 : (Cond.selects "java/util/ArrayList" gcN gcN).before args s = true) (h3 : (Cond.sameMethod "java/lang/Object" "java/lang/Object" "getClass" "()Ljava/lang/Class;").before args s = true) : (Cond.selects "java/util/ArrayList" ⟨"java/util/List", "getClass", "()Ljava/lang/Class;"⟩ gcN).before args s = true := by
  obtain ⟨c, k, m, -, -, -, h4, h5⟩ := Cond.interfaceMethod_spec h1
  obtain ⟨c2, r2, m2, q1, q2, q3, q4, mk, q5, q6⟩ := Cond.selects_spec h2
  have q3' : s.methodNamed? gcN = some m := h5
  have e1 : m = m2 := Option.some.inj (q3'.symm.trans q3)
  subst e1
  have e2 : r2 = m := by
    have h3' := h3
    simp only [Cond.before, Cond.holds, Cond.value] at h3'
    have q2' : s.methodFound? "java/lang/Object" "getClass" "()Ljava/lang/Class;" = some r2 := q2
    have q3'' : s.methodNamed? ⟨"java/lang/Object", "getClass", "()Ljava/lang/Class;"⟩ = some m := q3'
    rw [q2', q3''] at h3'
    cases hk : s.vm.findClass "java/lang/Object" with
    | none => rw [hk] at h3'; simp at h3'
    | some c => rw [hk] at h3'; simp at h3'; exact h3'.1
  subst e2
  simp only [Cond.before, Cond.holds, Cond.value] at h2 ⊢
  have q2' : s.methodFound? "java/lang/Object" "getClass" "()Ljava/lang/Class;" = some r2 := q2
  rw [q2'] at h2
  rw [h4]
  exact h2
theorem f_getCI (q : Nat) (hF : Fx D l s own args cc nL R nm KS Hb F) {a cnt : Nat} {fs : List Value} (ho : ∀ H, Fk D KS Hb ws im H → ob D 12 fs a H) (hlk : Cond.methodLink own index ⟨"java/util/List", "getClass", "()Ljava/lang/Class;"⟩ ∈ lw_all) (hsel : Cond.selects "java/util/ArrayList" gcN gcN ∈ lw_all) (hsame : Cond.sameMethod "java/lang/Object" "java/lang/Object" "getClass" "()Ljava/lang/Class;" ∈ lw_all) (hins : Cond.instanceMethod gcN ∈ lw_all) (hnat : Cond.native gcN ∈ lw_all) (hcast : Cond.castable "java/util/ArrayList" "java/util/List" ∈ nwL) (hR : 1 ≤ R.frames ∧ 22 ≤ R.locals) (hrest : (rest.map fun v => v.category).sum ≤ 8) (d : decode cc pc = .ok (.invokeinterface index cnt, 5)) (e : pc + 5 = q) (kk : F k n ws im q (.ref (D.2.2.1 101) :: rest) lv) : F k n ws im pc (.ref a :: rest) lv := by
  subst e
  obtain ⟨A, B, H0, J, hJ, hB, hAK, hAB, hBB, rfl⟩ := hF
  intro H hH
  have h1 := ho H hH.k
  refine hJ.go fun ls locs hx hb hml hown hts hnm hK hA hOK hl hS ret => ?_
  obtain ⟨cell, g1, g2, g3⟩ := ob_recv hK h1 (show aCl[12]? = some (RJ8, TJ8, 3) from rfl)
  have hgc : va_Gc s := hK.2.2.2.2.2.2.2.2.1
  obtain ⟨c0, k0, m1, m2, m3⟩ := hK.2.2.2.2.2.2.1 ("java/util/ArrayList", 101) (List.mem_of_getElem? (i := 1) rfl)
  cases m1.symm.trans g3
  intro T hT X
  have tr : ∀ {c : Cond}, c.onTables = true → c.before #[] s = true → c.before args s = true := fun hc h => va_any hc h
  obtain ⟨vm', X', st'⟩ := X.getClassOfI hx hown (hts _ hlk) (tr rfl hgc.1) (tr rfl hgc.2.1) (sel_gc hgc.2.1 (hts _ hsel) (hts _ hsame)) (hts _ hins) (tr rfl hgc.2.2.1) (tr rfl hgc.2.2.2) (va_Nw.use rfl (hK.2.1 _ hcast rfl)) (hts _ hnat) (by decide) (by decide) rfl rfl m1 m2 ⟨cell, by rw [hT]; exact g1, rfl, g2⟩ m3 (g := F0 _ pc ls (.ref a :: rest)) rfl (by rw [hml]; exact hl.1) rfl (by rw [hb]; exact d) hR.1 (by show 2 * 0 + _ + _ ≤ _; have hw : nativeFrameWords "java/lang/Object" "getClass" 1 = 3 := (by decide); omega)
  obtain ⟨t, a1, b1⟩ := ret _ _ _ _ _ _ (kk H hH) ls locs hl hS (T.setVm vm') hT X'
  exact ⟨t, st' t a1, b1⟩
theorem f_instY (q : Nat) (hF : Fx D l s own args cc nL R nm KS Hb F) {C tgt : String} {T : u_T} {N ci a i : Nat} {v : Value} (ho : ∀ H, Fk D KS Hb ws im H → fld D ci a i v H) (hc : aCl[ci]? = some (C, T, N)) (hlk : Cond.classLink own index tgt ∈ lw_all) (hcast : Cond.castable C tgt ∈ nwL) (d : decode cc pc = .ok (.instanceof index, 3)) (e : pc + 3 = q) (kk : F k n ws im q (.int 1 :: st) lv) : F k n ws im pc (.ref a :: st) lv := by
  subst e
  obtain ⟨A, B, H0, J, hJ, hB, hAK, hAB, hBB, rfl⟩ := hF
  intro H hH
  have h1 := ho H hH.k
  refine hJ.go fun ls locs hx hb hml hown hts hnm hK hA hOK hl hS ret => ?_
  exact va_instY hx hb hown (hts _ hlk) (hK.2.1 _ hcast rfl) (fld_recv hK h1 hc) d (ret _ _ _ _ _ _ (kk H hH) ls locs hl hS)
end FROWS2
theorem pm_sw {A B R : va_W} : (A ++ (B ++ R)).Perm (B ++ (A ++ R)) := by
  rw [← List.append_assoc, ← List.append_assoc]
  exact List.perm_append_comm.append_right R
def QK (D : DD) (KS : Nat → Prop) (Hb : Heap) (cs : va_W) (H : Heap) : Prop := fr KS Hb H ∧ ∀ c ∈ cs, vat D c H
theorem QK.kQ {D : DD} {KS : Nat → Prop} {Hb : Heap} {cs : va_W} {kd : Nat → Nat} (hkS : ∀ q, kS kd q → KS q) (hcs : ∀ c ∈ cs, ¬ kS kd c.1) : kQ kd (QK D KS Hb cs) := fun H H1 h hf =>
  ⟨h.1.trans hf (fun q _ h => h) (fun q _ z => hkS q z), fun c hc => (h.2 c hc).kept (hf.2 c.1 (h.2 c hc).lt (hcs c hc))⟩
section FK2
variable {D : DD} {l : Launch} {s : State} {own : String} {args : Array Value} {cc : ByteArray} {nL : Nat} {R : Room} {nm : String} {KS : Nat → Prop} {Hb : Heap} {F : FJ} {k n : Nat} {ws im wr cs : va_W} {pc : Nat} {st rest : List Value} {lv : List (Nat × Value)} {index : Nat} {b : ByteArray} {y : MethodName} {Lm f lo o : Nat} {ret : Option FieldType} {As : List Value}
theorem f_callK2 {kd : Nat → Nat} {L : TL} {C : TC} {PostK : Option Value → TL → TC → Prop} (q : Nat) (hF : Fx D l s own args cc nL R nm KS Hb F) (hkS : ∀ q, kS kd q → KS q) (hQcs : ∀ c ∈ cs, ¬ kS kd c.1) (hc : Kc D l y b Lm ret f lo kd (QK D KS Hb cs) (.ref o :: As) L C PostK) (hws : ws = cwC D kd L C ++ wr) (hcs : ∀ c ∈ cs, c ∈ wr) (hw : GoodIn lw_all (wsV own index y.cls y (ws_ y b Lm ret))) (na : Nat) (hy : yOk y na) (hna : As.length = na) (hR : f + 1 ≤ R.frames ∧ 8 + (Lm + 11) + lo ≤ R.locals) {ci i : Nat} {w : Value} {T : u_T} {N : Nat} (ho : ∀ H, Fk D KS Hb ws im H → fld D ci o i w H) (hcl : aCl[ci]? = some (y.cls, T, N)) (hst : st = As.reverse ++ .ref o :: rest) (hrest : (rest.map fun v => v.category).sum ≤ 8) (d : decode cc pc = .ok (.invokevirtual index, 3)) (hf : k ≤ R.cells ∧ n ≤ R.slots) (e : pc + 3 = q) (kk : ∀ (r : Option Value) (L' : TL) (C' : TC), PostK r L' C' → F k n (cwC D kd L' C' ++ wr) im q (r.toList ++ rest) lv) : F k n ws im pc st lv := by
  subst hws
  obtain ⟨A, B, H0, J, hJ, hB, hAK, hAB, hBB, rfl⟩ := hF
  intro H hH
  obtain ⟨fs, h1, -⟩ := ho H hH.k
  have hcw : cw D kd L C H := cwC_to (fun q hq => hH.2.1 q (List.mem_append_left _ hq))
  refine hJ.fresh fun hfr => j_callV q hJ (hc H hcw ⟨hH.1, fun c hc => hH.2.1 c (List.mem_append_right _ (hcs c hc))⟩) hw na hy hna hR h1 hcl hst hrest d hf (fun q hq => hH.mem q (hq.imp cwC_adr.mpr id)) e ?_
  rintro r H1 ⟨L', C', hp, h'⟩ hfr1
  refine kk r L' C' hp H1 ?_
  have hfr2 : fr (fun q => q ∈ adr (cwC D kd L C) ∨ H.size ≤ q) H H1 := ⟨hfr1.1, fun q h1 h2 => hfr1.2 q h1 (fun z => h2 (z.imp cwC_adr.mpr id))⟩
  have hKH : fr KS Hb H1 := hH.1.trans hfr1 (fun q _ h => h) (fun q hq h => h.elim (hkS q) (fun z => absurd hq (Nat.not_lt.mpr (Nat.le_trans hH.1.1 z))))
  refine hH.call (im1 := []) (im' := []) (fun q hq => absurd hq List.not_mem_nil) ⟨hKH, cwC_of h', ?_, fun q hq => Or.inl (cwC_adr.mpr (cwC_adr.mp (adr_mem hq))), fun q (hq : q ∈ ([] : va_W)) => absurd hq List.not_mem_nil, fun q (hq : q ∈ ([] : va_W)) => absurd hq List.not_mem_nil⟩ hfr2 hAK hfr hAB hBB
  have := hH.2.2.1
  rw [adr, List.map_append] at this
  exact (List.nodup_append.mp this).1
end FK2
