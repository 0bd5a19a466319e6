/-! System.arraycopy of longs and ints; casts to arrays; World's cells -/
set_option maxRecDepth 100000
theorem nI_toInt' {n : Nat} (h : n < 2 ^ 31) : (nI n).toInt = (n : Int) := nI_toInt h
section JCOPY
variable {D : DD} {l : Launch} {s : State} {own : String} {args : Array Value} {cc : ByteArray} {nL : Nat} {R : Room} {nm : String} {A : Nat → Prop} {H0 : Heap} {J : Heap → Nat → Nat → Nat → List Value → List (Nat × Value) → Prop} {H : Heap} {k n pc index : Nat} {rest : List Value} {lv : List (Nat × Value)}
theorem j_copyl (q : Nat) (hJ : Jx D l s own args cc nL R nm A H0 J) {a0 a n0 n1 : Nat} {f g : Nat → Int64} (sp dp m : Nat) {isp idp im : Int32} (h0 : arl D n0 f a0 H) (h1 : arl D n1 g a H) (hAa : A a) (hlk : Cond.methodLink own index arraycopyName ∈ lw_all) (e1 : isp = nI sp) (e2 : idp = nI dp) (e3 : im = nI m) (h4 : sp + m ≤ n0) (h5 : dp + m ≤ n1) (hb : n0 < 2 ^ 31 ∧ n1 < 2 ^ 31) (hR : 1 ≤ R.frames ∧ 30 ≤ R.locals) (hrest : (rest.map fun v => v.category).sum ≤ 8) (d : decode cc pc = .ok (.invokestatic index, 3)) (e : pc + 3 = q) (kk : ∀ H1, arl D n1 (va_cpy f g sp dp m) a H1 → hu a H H1 → J H1 k n q rest lv) : J H k n pc (.int im :: .int idp :: .ref a :: .int isp :: .ref a0 :: rest) lv := by
  subst e; subst e1; subst e2; subst e3
  refine hJ.go fun ls locs hx hbb hml hown hts hnm hK hA hOK hl hS ret => ?_
  have z1 := nI_clamp (n := sp) (by omega)
  have z2 := nI_clamp (n := dp) (by omega)
  have z3 := nI_clamp (n := m) (by omega)
  have i1 := nI_toInt (n := sp) (by omega)
  have i2 := nI_toInt (n := dp) (by omega)
  have i3 := nI_toInt (n := m) (by omega)
  have e9 : (7 : Nat) = nativeFrameWords "java/lang/System" "arraycopy" 5 := by decide
  have e9 : (7 : Nat) = nativeFrameWords "java/lang/System" "arraycopy" 5 := by decide
  intro T hT X
  obtain ⟨-, k0, hk0, cm0, hkk0⟩ := (hK.1.2 1 _ rfl).1 n0 (fun j => .long (f j))
  obtain ⟨-, k1, hk1, cm1, hkk1⟩ := (hK.1.2 1 _ rfl).1 n1 (fun j => .long (g j))
  obtain ⟨vm', X', step⟩ := X.arraycopy hx hown (hts _ hlk) (hts _ q443) (hts _ q442) (hts _ q121) (src := a0) (dst := a) (cs := vp_cell (D.2.1 1) (n0, .inr (.inl f))) (cd := vp_cell (D.2.1 1) (n1, .inr (.inl g))) (srcPos := nI sp) (destPos := nI dp) (n := nI m) (by rw [hT]; exact ar.exl h0) (by rw [hT]; exact ar.exl h1)
    (fun _ h => by cases h) (fun _ h => by cases h) (fun h => by cases h) (fun h => by cases h) hk0 hk1 hkk0 hkk1 (by rfl) (nI_pos (by omega)) (nI_pos (by omega)) (nI_pos (by omega))
    (by rw [i1, i3]; show ¬ _ > ((arrV (D.2.1 1) n0 (fun j => .long (f j))).slots.size : Int); rw [arrV_size]; omega)
    (by rw [i2, i3]; show ¬ _ > ((arrV (D.2.1 1) n1 (fun j => .long (g j))).slots.size : Int); rw [arrV_size]; omega)
    (fun vm₁ _ i hi => by
      have e0 : (vp_cell (D.2.1 1) (n0, .inr (.inl f))).slots.getD ((nI sp).toNatClampNeg + i) .null = .long (f (sp + i)) := by
        show (arrV (D.2.1 1) n0 (fun j => .long (f j))).slots.getD _ _ = _
        rw [z3] at hi
        rw [z1, Array.getD_eq_getD_getElem?, arrV_read _ _ (by omega)]
        rfl
      exact ⟨by rw [e0]; rfl, by rw [e0]; exact trivial⟩)
    (g := F0 _ pc ls (.int (nI m) :: .int (nI dp) :: .ref a :: .int (nI sp) :: .ref a0 :: rest)) rfl (by rw [hml]; exact hl.1) (rest := rest) rfl (by rw [hbb]; exact d) hR.1 (e9 ▸ (show 2 * 0 + _ + (7 + 11) ≤ R.locals by omega))
  have e1 : copied (vp_cell (D.2.1 1) (n0, .inr (.inl f))) (vp_cell (D.2.1 1) (n1, .inr (.inl g))) (nI sp) (nI dp) (nI m) = vp_cell (D.2.1 1) (n1, .inr (.inl (va_cpy f g sp dp m))) := by
    have := va_copied (fun z => .long z) (D.2.1 1) (D.2.1 1) (n1 := n1) (dp := dp) f g h4
    unfold copied
    rw [z1, z2, z3]
    exact this
  rw [e1] at X' step
  have hl1 : a < H.size := (Array.getElem?_eq_some_iff.mp (ar.exl h1)).1
  have hheap : ((T.setVm vm').setCell a (vp_cell (D.2.1 1) (n1, .inr (.inl (va_cpy f g sp dp m))))).heap = H.setIfInBounds a (vp_cell (D.2.1 1) (n1, .inr (.inl (va_cpy f g sp dp m)))) := by rw [← hT]; rfl
  have hu1 : hu a H (H.setIfInBounds a (vp_cell (D.2.1 1) (n1, .inr (.inl (va_cpy f g sp dp m))))) := ⟨by simp, fun q hq => by simp [Array.getElem?_setIfInBounds, Ne.symm hq]⟩
  obtain ⟨t, a1, b1⟩ := ret _ _ _ _ _ _ (kk _ (Or.inl (show (H.setIfInBounds a _)[a]? = some _ by simp [Array.getElem?_setIfInBounds, hl1])) hu1) ls _ hl ⟨by rw [hu1.1]; exact hS.1, fun q g1 g2 => by
      rw [hu1.2 q (fun e => g2 (by rw [e]; exact hAa))]
      exact hS.2.1 q g1 g2, fun q hq => by
      rcases List.mem_append.mp hq with h | h
      · exact hS.2.2 q h
      · obtain ⟨z, -, hz⟩ := List.mem_map.mp h
        rw [← hz]
        exact hAa⟩ _ hheap X'
  exact ⟨t, step t a1, b1⟩
theorem j_copyi (q : Nat) (hJ : Jx D l s own args cc nL R nm A H0 J) {a0 a n0 n1 : Nat} {f g : Nat → Int32} (sp dp m : Nat) {isp idp im : Int32} (h0 : ari D n0 f a0 H) (h1 : ari D n1 g a H) (hAa : A a) (hlk : Cond.methodLink own index arraycopyName ∈ lw_all) (e1 : isp = nI sp) (e2 : idp = nI dp) (e3 : im = nI m) (h4 : sp + m ≤ n0) (h5 : dp + m ≤ n1) (hb : n0 < 2 ^ 31 ∧ n1 < 2 ^ 31) (hR : 1 ≤ R.frames ∧ 30 ≤ R.locals) (hrest : (rest.map fun v => v.category).sum ≤ 8) (d : decode cc pc = .ok (.invokestatic index, 3)) (e : pc + 3 = q) (kk : ∀ H1, ari D n1 (va_cpy f g sp dp m) a H1 → hu a H H1 → J H1 k n q rest lv) : J H k n pc (.int im :: .int idp :: .ref a :: .int isp :: .ref a0 :: rest) lv := by
  subst e; subst e1; subst e2; subst e3
  refine hJ.go fun ls locs hx hbb hml hown hts hnm hK hA hOK hl hS ret => ?_
  have z1 := nI_clamp (n := sp) (by omega)
  have z2 := nI_clamp (n := dp) (by omega)
  have z3 := nI_clamp (n := m) (by omega)
  have i1 := nI_toInt (n := sp) (by omega)
  have i2 := nI_toInt (n := dp) (by omega)
  have i3 := nI_toInt (n := m) (by omega)
  have e9 : (7 : Nat) = nativeFrameWords "java/lang/System" "arraycopy" 5 := by decide
  have e9 : (7 : Nat) = nativeFrameWords "java/lang/System" "arraycopy" 5 := by decide
  intro T hT X
  obtain ⟨-, k0, hk0, cm0, hkk0⟩ := (hK.1.2 0 _ rfl).1 n0 (fun j => .int (f j))
  obtain ⟨-, k1, hk1, cm1, hkk1⟩ := (hK.1.2 0 _ rfl).1 n1 (fun j => .int (g j))
  obtain ⟨vm', X', step⟩ := X.arraycopy hx hown (hts _ hlk) (hts _ q443) (hts _ q442) (hts _ q121) (src := a0) (dst := a) (cs := vp_cell (D.2.1 0) (n0, .inl f)) (cd := vp_cell (D.2.1 0) (n1, .inl g)) (srcPos := nI sp) (destPos := nI dp) (n := nI m) (by rw [hT]; exact ar.exi h0) (by rw [hT]; exact ar.exi h1)
    (fun _ h => by cases h) (fun _ h => by cases h) (fun h => by cases h) (fun h => by cases h) hk0 hk1 hkk0 hkk1 (by rfl) (nI_pos (by omega)) (nI_pos (by omega)) (nI_pos (by omega))
    (by rw [i1, i3]; show ¬ _ > ((arrV (D.2.1 0) n0 (fun j => .int (f j))).slots.size : Int); rw [arrV_size]; omega)
    (by rw [i2, i3]; show ¬ _ > ((arrV (D.2.1 0) n1 (fun j => .int (g j))).slots.size : Int); rw [arrV_size]; omega)
    (fun vm₁ _ i hi => by
      have e0 : (vp_cell (D.2.1 0) (n0, .inl f)).slots.getD ((nI sp).toNatClampNeg + i) .null = .int (f (sp + i)) := by
        show (arrV (D.2.1 0) n0 (fun j => .int (f j))).slots.getD _ _ = _
        rw [z3] at hi
        rw [z1, Array.getD_eq_getD_getElem?, arrV_read _ _ (by omega)]
        rfl
      exact ⟨by rw [e0]; rfl, by rw [e0]; exact trivial⟩)
    (g := F0 _ pc ls (.int (nI m) :: .int (nI dp) :: .ref a :: .int (nI sp) :: .ref a0 :: rest)) rfl (by rw [hml]; exact hl.1) (rest := rest) rfl (by rw [hbb]; exact d) hR.1 (e9 ▸ (show 2 * 0 + _ + (7 + 11) ≤ R.locals by omega))
  have e1 : copied (vp_cell (D.2.1 0) (n0, .inl f)) (vp_cell (D.2.1 0) (n1, .inl g)) (nI sp) (nI dp) (nI m) = vp_cell (D.2.1 0) (n1, .inl (va_cpy f g sp dp m)) := by
    have := va_copied (fun z => .int z) (D.2.1 0) (D.2.1 0) (n1 := n1) (dp := dp) f g h4
    unfold copied
    rw [z1, z2, z3]
    exact this
  rw [e1] at X' step
  have hl1 : a < H.size := (Array.getElem?_eq_some_iff.mp (ar.exi h1)).1
  have hheap : ((T.setVm vm').setCell a (vp_cell (D.2.1 0) (n1, .inl (va_cpy f g sp dp m)))).heap = H.setIfInBounds a (vp_cell (D.2.1 0) (n1, .inl (va_cpy f g sp dp m))) := by rw [← hT]; rfl
  have hu1 : hu a H (H.setIfInBounds a (vp_cell (D.2.1 0) (n1, .inl (va_cpy f g sp dp m)))) := ⟨by simp, fun q hq => by simp [Array.getElem?_setIfInBounds, Ne.symm hq]⟩
  obtain ⟨t, a1, b1⟩ := ret _ _ _ _ _ _ (kk _ (Or.inl (show (H.setIfInBounds a _)[a]? = some _ by simp [Array.getElem?_setIfInBounds, hl1])) hu1) ls _ hl ⟨by rw [hu1.1]; exact hS.1, fun q g1 g2 => by
      rw [hu1.2 q (fun e => g2 (by rw [e]; exact hAa))]
      exact hS.2.1 q g1 g2, fun q hq => by
      rcases List.mem_append.mp hq with h | h
      · exact hS.2.2 q h
      · obtain ⟨z, -, hz⟩ := List.mem_map.mp h
        rw [← hz]
        exact hAa⟩ _ hheap X'
  exact ⟨t, step t a1, b1⟩
theorem j_casta (q : Nat) (hJ : Jx D l s own args cc nL R nm A H0 J) {a t : Nat} {x : vp_A} {ty : FieldType} {nmA : String} (ho : ar D t x a H) (ht : (aTys D.2.1)[t]? = some (D.2.1 t, ty)) (hnm : ∀ cA : ClassId, va_RA s cA ty = (s.vm.findClass nmA = some cA)) (hlk : Cond.classLink own index nmA ∈ lw_all) (d : decode cc pc = .ok (.checkcast index, 3)) (e : pc + 3 = q) (kk : J H k n q (.ref a :: rest) lv) (h7 : t < 7 := by decide) : J H k n pc (.ref a :: rest) lv := by
  subst e
  refine hJ.go fun ls locs hx hb hml hown hts hnm' hK hA hOK hl hS ret => ?_
  have h2 := (hK.1.2 t _ (aTy_lt ht h7)).2
  rw [hnm] at h2
  obtain ⟨c0, g1, g2, -, g3, -, -⟩ := ho.wk
  intro T hT X
  obtain ⟨vm', X', st⟩ := X.checkcastYes hx hown (hts _ hlk) (by rw [hT]; exact g1) g3 h2 (by rw [g2]; exact va_asg _ _) (g := F0 _ pc ls (.ref a :: rest)) rfl rfl (by rw [hb]; exact d)
  obtain ⟨t2, a1, b1⟩ := ret _ _ _ _ _ _ kk ls locs hl hS (T.setVm vm') hT X'
  exact ⟨t2, st t2 a1, b1⟩
end JCOPY
section KCOPY
variable {D : DD} {l : Launch} {s : State} {own : String} {args : Array Value} {cc : ByteArray} {nL : Nat} {R : Room} {kd : Nat → Nat} {Q : Heap → Prop} {K : KJ} {L : TL} {C : TC} {pc index : Nat} {st rest : List Value} {lv : List (Nat × Value)} {b : ByteArray}
theorem upL_eq (L : TL) (j : Nat) (f : Nat → Int64) : va_up L j f = fun i => if i = j then f else L i := rfl
/-- six longs that stay are copied into the case -/
theorem k_copy (q : Nat) (hK : Kx D l s own args cc nL R kd Q K) {K0 : Nat → Prop} {a0 : Nat} {f : Nat → Int64} (h0 : ∀ H, Q H → alK K0 D 6 f a0 H) (hlk : Cond.methodLink own index arraycopyName ∈ lw_all) (hR : 1 ≤ R.frames ∧ 30 ≤ R.locals) (hrest : (rest.map fun v => v.category).sum ≤ 8) (d : decode cc pc = .ok (.invokestatic index, 3)) (e : pc + 3 = q) (kk : ∀ f', (∀ j, j < 6 → f' j = f j) → K (va_up L 0 f') C q rest lv) : K L C pc (.int 6 :: .int 0 :: .ref (kd 2) :: .int 0 :: .ref a0 :: rest) lv := by
  obtain ⟨nm, A, H0, J, hJ, hN, hAd, hQ, rfl⟩ := hK
  intro H hH hq
  obtain ⟨f', h1, h2⟩ := h0 H hq
  refine j_copyl q hJ 0 0 6 h1.1 (hH.2.2 0 (by omega)) (hAd 2 (by omega)) hlk rfl rfl rfl (by omega) (by omega) (by decide) hR hrest d e (fun H1 h3 h4 => kk _ ?_ H1 (hH.putL hN (by omega) h3 h4) (hQ H H1 hq (h4.tokS (i := 2) (by omega))))
  intro j hj
  show (if 0 ≤ j ∧ j < 0 + 6 then f' (0 + (j - 0)) else L 0 j) = _
  rw [if_pos ⟨by omega, by omega⟩, show 0 + (j - 0) = j by omega]
  exact h2 j hj
theorem k_casta (q : Nat) (hK : Kx D l s own args cc nL R kd Q K) {K0 : Nat → Prop} {a nn : Nat} {f : Nat → Int64} (ho : ∀ H, Q H → alK K0 D nn f a H) (hlk : Cond.classLink own index "[J" ∈ lw_all) (d : decode cc pc = .ok (.checkcast index, 3)) (e : pc + 3 = q) (kk : K L C q (.ref a :: st) lv) : K L C pc (.ref a :: st) lv := by
  obtain ⟨nm, A, H0, J, hJ, hN, hAd, hQ, rfl⟩ := hK
  intro H hH hq
  obtain ⟨f', h1, -⟩ := ho H hq
  exact j_casta q hJ (ty := .long) h1.1 rfl (fun cA => rfl) hlk d e (kk H hH hq)
end KCOPY
/-- an array of references of which the first n are f -/
def aqK (K : Nat → Prop) (D : DD) (t n : Nat) (f : Nat → Nat) (a : Nat) (H : Heap) : Prop := ∃ f', arK K D t (n, .inr (.inr (.inr (.inr f')))) a H ∧ ∀ j, j < n → f' j = some (f j)
theorem aqK.fr {K : Nat → Prop} {D : DD} {H H1 : Heap} {t n a : Nat} {f : Nat → Nat} (h : aqK K D t n f a H) (g : fr K H H1) : aqK K D t n f a H1 := by obtain ⟨f', h1, h2⟩ := h; exact ⟨f', h1.fr g, h2⟩
theorem aqK.el {K : Nat → Prop} {D : DD} {H : Heap} {t n a : Nat} {f : Nat → Nat} (h : aqK K D t n f a H) {j : Nat} (hj : j < n) : elr D t n a j (some (f j)) H := by obtain ⟨f', h1, h2⟩ := h; exact ⟨f', h1.1, h2 j hj⟩
/-- a world: wd says where it lies: 0 the object, 1 people, 2 partners, 3 carried (4 its array), 10+p Person, 20+p rows; its rules at rd; g, h: the reference's rows -/
def woK (K : Nat → Prop) (D : DD) (wd rd : Nat → Nat) (g : Nat → Int32) (h : Nat → Int64) (nb nch ncr : Nat) (H : Heap) : Prop :=
  obK K D 2 [.ref (rd 0), .ref (wd 1), .ref (wd 2), .ref (wd 3), .int (g 88)] (wd 0) H ∧ aqK K D 4 6 (fun p => wd (10 + p)) (wd 1) H ∧
  (∀ p, p < 6 → obK K D 5 [.int (g (64 + 3 * p + 0)), .int (g (64 + 3 * p + 1)), .int (g (64 + 3 * p + 2))] (wd (10 + p)) H) ∧
  aiK K D 6 (fun p => g (82 + p)) (wd 2) H ∧ alsK K D (wd 3) (wd 4) 6 (fun p => wd (20 + p)) H ∧ (∀ p, p < 6 → alK K D 6 (fun k => h (6 * p + k)) (wd (20 + p)) H) ∧ ruK K D rd g nb nch ncr H
section WO
variable {K : Nat → Prop} {D : DD} {wd rd : Nat → Nat} {g : Nat → Int32} {h : Nat → Int64} {nb nch ncr : Nat} {H H1 : Heap}
theorem woK.fr (w : woK K D wd rd g h nb nch ncr H) (f : fr K H H1) : woK K D wd rd g h nb nch ncr H1 := by
  obtain ⟨h1, h2, h3, h4, h5, h6, h7⟩ := w
  exact ⟨h1.fr f, h2.fr f, fun p hp => (h3 p hp).fr f, h4.fr f, h5.fr f, fun p hp => (h6 p hp).fr f, h7.fr f⟩
theorem woK.o (w : woK K D wd rd g h nb nch ncr H) : obK K D 2 [.ref (rd 0), .ref (wd 1), .ref (wd 2), .ref (wd 3), .int (g 88)] (wd 0) H := w.1
theorem woK.pe (w : woK K D wd rd g h nb nch ncr H) : aqK K D 4 6 (fun p => wd (10 + p)) (wd 1) H := w.2.1
theorem woK.p (w : woK K D wd rd g h nb nch ncr H) {p : Nat} (hp : p < 6) : obK K D 5 [.int (g (64 + 3 * p + 0)), .int (g (64 + 3 * p + 1)), .int (g (64 + 3 * p + 2))] (wd (10 + p)) H := w.2.2.1 p hp
theorem woK.pa (w : woK K D wd rd g h nb nch ncr H) : aiK K D 6 (fun p => g (82 + p)) (wd 2) H := w.2.2.2.1
theorem woK.ca (w : woK K D wd rd g h nb nch ncr H) : alsK K D (wd 3) (wd 4) 6 (fun p => wd (20 + p)) H := w.2.2.2.2.1
theorem woK.c (w : woK K D wd rd g h nb nch ncr H) {p : Nat} (hp : p < 6) : alK K D 6 (fun k => h (6 * p + k)) (wd (20 + p)) H := w.2.2.2.2.2.1 p hp
theorem woK.ru (w : woK K D wd rd g h nb nch ncr H) : ruK K D rd g nb nch ncr H := w.2.2.2.2.2.2
end WO
