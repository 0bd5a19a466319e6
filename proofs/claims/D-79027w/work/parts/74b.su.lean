/-! a static call by the name of a class below the one that declares the method (Need0 has no row for it) -/
set_option maxRecDepth 100000
section SUP
variable {p : Program} {l : Launch} {e : Env} {R : Room} {s : State} {m : MethodId} {args : Array Value} {below : List Frame} {meth : Method} {c : Code} {T : State} {locs : List Loc} {cells slots : Nat}
/-- resolution by the class named, then by the method: asked of the cold tables or of those that know both, it is the same -/
theorem su_cold {Q : Unit → Pre} {E : CtlPost} {d : Bool} {acts : List Action} {U : State} {fr1 : JFrame} {idx ci nt cC : Nat} {mk : MethodId} {dk ck : Class} {cf : ClassFile} {nam des : String} (htop : U.topJava?.isSome) (hpoly : e.platform.polymorphicOnlyByInvokevirtual = true)
    (hw : s.WarmedH U.vm) (hent : s.MethodEntryUp e U.vm fr1.method.cls idx cC mk ci) (hdk : s.vm.classes[fr1.method.cls]? = some dk) (hcf : dk.cf = some cf) (href : cf.constantPool[idx]? = some (.methodref ci nt)) (hnt : cf.constantPool.nameAndType? nt = some (nam, des)) (hck : s.vm.classes[cC]? = some ck) (hno : (ck.methods.any fun z => z.name == nam && !z.isStatic && signaturePolymorphic ck z) = false) :
    wp (invokestatic.sem idx) Q E e d acts (U.setTop fr1) ↔ wp (invokestatic.sem idx) Q E e d acts ((U.setVm (U.vm.calledUp fr1.method.cls ci idx cC mk)).setTop fr1) := by
  obtain ⟨gC, -, wC, gM⟩ := hent.classFirst
  obtain ⟨dA, eA, fA⟩ := hw.alike.2.2 _ _ hdk
  obtain ⟨dB, eB, fB⟩ := hent.warmed.alike.2.2 _ _ hdk
  obtain ⟨cA, xA, yA⟩ := wC.alike.2.2 _ _ hck
  obtain ⟨cB, xB, yB⟩ := hent.warmed.alike.2.2 _ _ hck
  have hr : cf.constantPool[idx]? = some (if false then .interfaceMethodref ci nt else .methodref ci nt) := href
  have mA := memberRef_ask_via (e := e) eA (by rw [fA]; exact hcf) hr hnt
  have mB := memberRef_ask_via (e := e) eB (by rw [fB]; exact hcf) hr hnt
  have nA : (cA.methods.any fun z => z.name == nam && !z.isStatic && signaturePolymorphic cA z) = false := by rw [yA]; exact hno
  have nB : (cB.methods.any fun z => z.name == nam && !z.isStatic && signaturePolymorphic cB z) = false := by rw [yB]; exact hno
  have tA : (U.setVm (U.vm.noted fr1.method.cls ci (.cls cC))).topJava?.isSome := htop
  have tB : (U.setVm (U.vm.calledUp fr1.method.cls ci idx cC mk)).topJava?.isSome := htop
  have first : ∀ {Q' : ClassId → Pre} {d' : Bool} {acts' : List Action}, wp (Jvm.resolveClassAt ci) Q' E e d' acts' (U.setTop fr1) ↔ Q' cC d' acts' ((U.setVm (U.vm.noted fr1.method.cls ci (.cls cC))).setTop fr1) := W.resolveClassAt_links (t := U.setTop fr1) (State.method?_setTop fr1 htop) gC
  have second : ∀ {Q' : MethodId → Pre} {d' : Bool} {acts' : List Action}, wp (Jvm.resolveMethodAt idx) Q' E e d' acts' ((U.setVm (U.vm.noted fr1.method.cls ci (.cls cC))).setTop fr1) ↔ Q' mk d' acts' ((U.setVm (U.vm.calledUp fr1.method.cls ci idx cC mk)).setTop fr1) := W.resolveMethodAt_links (t := (U.setVm (U.vm.noted fr1.method.cls ci (.cls cC))).setTop fr1) (State.method?_setTop fr1 tA) gM
  have firstB := fun {Q' : ClassId → Pre} {d' : Bool} {acts' : List Action} => W.resolveClassAt_ready (e := e) (E := E) (Q := Q') (d := d') (acts := acts') (s := (U.setVm (U.vm.calledUp fr1.method.cls ci idx cC mk)).setTop fr1) (State.method?_setTop fr1 tB) hent.classReady
  have secondB := fun {Q' : MethodId → Pre} {d' : Bool} {acts' : List Action} => W.resolveMethodAt_ready (e := e) (E := E) (Q := Q') (d := d') (acts := acts') (s := (U.setVm (U.vm.calledUp fr1.method.cls ci idx cC mk)).setTop fr1) (State.method?_setTop fr1 tB) hent.ready
  simp [invokestatic.sem, hpoly, Seam.memberRefOf, State.method?_setTop fr1 htop, State.method?_setTop fr1 tB, mA, mB, first, firstB, xA, xB, nA, nB, second, secondB, -Array.any_eq_true]
theorem su_call (X : Stand p l e R s m args below meth c T locs cells slots) (hexec : p.tables.exec = Jvm.exec) {own owner : String} {index : Nat} {x y : MethodName} (hyx : y = ⟨owner, x.name, x.desc⟩) {bytes : ByteArray} {maxL : Nat} {ret : Option FieldType}
    (hown : s.vm.findClass own = some m.cls) (hlink : (Cond.methodLink own index x).before args s = true) (hsame : (Cond.sameMethod x.cls owner x.name x.desc).before args s = true) (hstat : (Cond.static y).before args s = true) (hinit : (Cond.initialized y.cls).before args s = true)
    (hcode : (Cond.code y bytes maxL ret).before args s = true) (hne : y.cls ≠ "java/lang/invoke/MethodHandle" ∧ y.cls ≠ "java/lang/invoke/VarHandle")
    {W9 : Nat} {Pre : Pt → Array Value → Prop} {Post : Pt → Array Value → Option Value → Pt → Prop} (hK : Back l R p e below s args y 3 W9 Pre Post)
    {g : JFrame} (hg : g.method = m) (hsize : g.locals.size = c.maxLocals) {argsL rest : List Value} (hlen : ∀ sig, parseMethodDescriptor y.desc = some sig → argsL.length = sig.parameters.length)
    (hstack : g.stack = argsL.reverse ++ rest) (hW : 2 * g.monitorRoom + (rest.map fun v => v.category).sum ≤ W9) (hdg : decode c.code g.pc = .ok (.invokestatic index, 3))
    (hpre : ∀ vm₁, s.WarmedH vm₁ → Pre ⟨T.setVm vm₁, locs, cells, slots⟩ argsL.toArray) :
    ∃ (v : Option Value) (vm₁ : Vm) (B : Pt), s.WarmedH vm₁ ∧ Stand p l e R s m args below meth c B.U B.locs B.cells B.slots ∧ Post ⟨T.setVm vm₁, locs, cells, slots⟩ argsL.toArray v B ∧
      ∀ target, Steps p.tables e below (B.U.setTop { g with pc := g.pc + 3, stack := v.toList ++ rest }) target → Steps p.tables e below (T.setTop g) target := by
  subst hyx
  have hmag : e.platform.magicAccessors = ({} : Platform).magicAccessors := by rw [X.admits.platform]
  have hpoly : e.platform.polymorphicOnlyByInvokevirtual = true := by rw [X.admits.platform]
  obtain ⟨cn, ck, r1, hcn, hck, hni, hf, hn1⟩ := Cond.sameMethod_found hsame
  obtain ⟨methM, cM, hmethM, -, -, -, -, -, -, hsig⟩ := Cond.code_spec hn1 hcode
  have hstatic : methM.isStatic = true := Cond.static_spec hn1 hmethM hstat
  obtain ⟨kP, hkP, hnP⟩ := className_of_methodNamed hn1
  have hinitP : kP.init = .initialized := Cond.initialized_spec (findClass_of_methodNamed hn1) hkP hinit
  obtain ⟨ci, hl, hright⟩ := Cond.methodLink_specUp hown hcn hck hni hf hlink e.platform hmag (by rw [X.admits.platform])
  have hent : s.MethodEntryUp e T.vm m.cls index cn r1 ci := State.methodEntryUp X.warmed hl hright
  obtain ⟨dk, cf, nt, nam, des, ck', _, _, hd, hcf, hcp, hnt, -, -, hck', -, hnopoly, -⟩ := hl.here
  cases hck.symm.trans hck'
  have hal := hent.warmed.alike
  obtain ⟨dB, eB, fB⟩ := hal.2.2 _ _ hd
  obtain ⟨kB, gB, iB⟩ := hal.2.2 _ _ hkP
  obtain ⟨cB, xB, yB⟩ := hal.2.2 _ _ hck
  have hno : (ck.methods.any fun z => z.name == nam && !z.isStatic && signaturePolymorphic ck z) = false := by simp [hnopoly]
  have hnoB : (cB.methods.any fun z => z.name == nam && !z.isStatic && signaturePolymorphic cB z) = false := by rw [yB]; exact hno
  have hcp' : cf.constantPool[index]? = some (if false then .interfaceMethodref ci nt else .methodref ci nt) := hcp
  have X₁ := X.noted hent.warmed
  obtain ⟨v, B, X', hpost, hsteps⟩ := hK m meth c ⟨T.setVm (T.vm.calledUp m.cls ci index cn r1), locs, cells, slots⟩ { g with stack := rest } (.invokestatic index) r1 argsL.toArray X₁ hg hsize hdg hW (X₁.named hn1) (hpre _ hent.warmed)
  refine ⟨v, _, B, hent.warmed, X', hpost, fun target h => ?_⟩
  subst hg
  jvm_step X.here [hexec, hdg, su_cold (e := e) (U := T) (s := s) (fr1 := g) X.here.top hpoly X.warmed hent hd hcf hcp hnt hck hno,
    invokestatic.wp_ready (e := e) (s := T.setVm (T.vm.calledUp g.method.cls ci index cn r1)) (k := kB) (meth := methM) (m := r1) (args := argsL) (rest := rest) (f := g)
      X.here.top ⟨ci, nam, des, false, cn, cB, memberRef_ask_via (e := e) eB (by rw [fB]; exact hcf) hcp' hnt, hent.classReady, xB, hnoB⟩ hent.ready gB
      (by show (T.vm.calledUp g.method.cls ci index cn r1).method? r1 = some methM; rw [hal.method?]; exact hmethM)
      (by rw [iB]; show signaturePolymorphic kP methM = false; simp [signaturePolymorphic, hnP, hne.1, hne.2]) hstatic (by rw [iB]; exact hinitP) (hlen _ hsig) hstack]
  intro acts
  rw [doInvoke_state]
  exact hsteps.trans h
end SUP
abbrev su_ws (own : String) (idx : Nat) (owner : String) (x y : MethodName) (ws : List Cond) : List Cond := ([.methodLink own idx x, .sameMethod x.cls owner x.name x.desc, .static y, .initialized y.cls] : List Cond) ++ ws
theorem lw_SU {own : String} {idx : Nat} {owner : String} {x y : MethodName} {b : ByteArray} {L : Nat} {r : Option FieldType} (h1 : Cond.methodLink own idx x ∈ lw_all) (h2 : Cond.sameMethod x.cls owner x.name x.desc ∈ lw_all) (h3 : Cond.static y ∈ lw_all) (h4 : Cond.initialized y.cls ∈ lw_all) (h5 : Cond.code y b L r ∈ lw_all) : GoodIn lw_all (su_ws own idx owner x y (ws_ y b L r)) := by
  refine lw_app ?_ (lw_meth h5)
  intro w hw
  simp only [List.mem_cons, List.not_mem_nil, or_false] at hw
  rcases hw with e | e | e | e
  · rw [e]; exact h1
  · rw [e]; exact h2
  · rw [e]; exact h3
  · rw [e]; exact h4
section SUJ
variable {D : DD} {l : Launch} {s : State} {own : String} {args : Array Value} {cc : ByteArray} {nL : Nat} {R : Room} {nm : String} {A : Nat → Prop} {H0 : Heap} {J : Heap → Nat → Nat → Nat → List Value → List (Nat × Value) → Prop} {H : Heap} {KS : Nat → Prop} {Hb : Heap} {F : FJ} {k n pc index : Nat} {ws im : va_W} {st rest : List Value} {lv : List (Nat × Value)}
variable {owner : String} {x y : MethodName} {b : ByteArray} {L f lo : Nat} {ret : Option FieldType} {As : List Value}
theorem j_callSU (q : Nat) (hJ : Jx D l s own args cc nL R nm A H0 J) {v : Option Value} (hyx : y = ⟨owner, x.name, x.desc⟩) (hc : Cp D l y b L ret f lo As H v) (hw : GoodIn lw_all (su_ws own index owner x y (ws_ y b L ret))) (na : Nat) (hy : yOk y na) (hna : As.length = na) (hR : f + 1 ≤ R.frames ∧ 8 + (L + 11) + lo ≤ R.locals) (hst : st = As.reverse ++ rest) (hrest : (rest.map fun v => v.category).sum ≤ 8) (d : decode cc pc = .ok (.invokestatic index, 3)) (hf : k ≤ R.cells ∧ n ≤ R.slots) (e : pc + 3 = q) (kk : J H k n q (v.toList ++ rest) lv) : J H k n pc st lv := by
  subst e; subst hst
  have hAs := hJ.as
  refine hJ.go fun ls locs hx hb hml hown hts hnm hK hA hOK hl hS ret' => ?_
  have hA2 : ∀ q, H.size ≤ q → A q := fun q h => hA q (Nat.le_trans hS.1 h)
  have hM := hc hOK (fun q h => hAs q (hA2 q h))
  have ok : ∀ w ∈ su_ws own index owner x y (ws_ y b L ret), w.before args s = true := fun w h => hts w (hw w h).1
  have hG : GoodIn lw_all (ws_ y b L ret) := fun w h => hw w (List.mem_append_right _ h)
  have hini : (Cond.initialized y.cls).before args s = true := ok _ (by simp [su_ws])
  intro T hT X
  have hK9 : ∀ (p : Program) (e : Env) (below : List Frame), Back l R p e below s args y 3 8 (PreOf R 0 0 (cP D As H)) (PostOf (cQ (fun r H1 => r = v ∧ H1 = H) (fun q => H.size ≤ q)) 0 0 (fun q => H.size ≤ q)) := fun p e below =>
    back_of (bytes := b) (maxL := L) (ret := ret) hM cP_blind rfl rfl hR.1 hR.2 (pay_in hts hG) (List.mem_cons_self) (fun a' U hW => word_at hW (Or.inl (by first | rfl | simp [Cond.onTables, Cond.keeps, Cond.steady])) hini)
  obtain ⟨r, vm₁, ⟨U', l2, c2, s2⟩, hW₁, X', ⟨g', mk, t, L', e1, e2, ⟨r', hr', ⟨hp1, hp2⟩, hz, hkk⟩, h1, hL, h2, h3⟩, st2⟩ := su_call (own := own) (owner := owner) (index := index) (x := x) (y := y) (bytes := b) (maxL := L) (ret := ret) X hx hyx hown (ok _ (by simp [su_ws])) (ok _ (by simp [su_ws])) (ok _ (by simp [su_ws])) hini (ok _ (List.mem_append_right _ List.mem_cons_self)) ⟨hy.1, hy.2.1⟩ (hK9 _ _ _) (g := F0 _ pc ls (As.reverse ++ rest)) rfl (hl.1.trans hml.symm) (argsL := As) (rest := rest) (fun sig h => by have h2 := hy.2.2; rw [h] at h2; exact hna.trans (Option.some.inj h2).symm) rfl (lv_room hrest) (by rw [hb]; exact d) (fun vm₁ hW₁ => ⟨hf.1, hf.2, rfl, hT, hK.warm hW₁⟩)
  dsimp only [Pt.U, Pt.locs, Pt.cells, Pt.slots] at X' e1 e2 h1 h2 h3 st2
  subst h1; subst h2; subst h3
  cases hr'
  subst hp1
  obtain ⟨t3, a1, b1⟩ := ret' _ _ _ _ _ _ kk ls (locs ++ L') hl ⟨hS.1, hS.2.1, fun q hq => (List.mem_append.mp hq).elim (hS.2.2 q) (fun h => hA2 _ (hL q h))⟩ U' (by rw [e1]; exact hp2) X'
  exact ⟨t3, st2 _ a1, b1⟩
theorem f_callSU (q : Nat) (hF : Fx D l s own args cc nL R nm KS Hb F) {v : Option Value} (hyx : y = ⟨owner, x.name, x.desc⟩) (hc : ∀ H, Cp D l y b L ret f lo As H v) (hw : GoodIn lw_all (su_ws own index owner x y (ws_ y b L ret))) (na : Nat) (hy : yOk y na) (hna : As.length = na) (hR : f + 1 ≤ R.frames ∧ 8 + (L + 11) + lo ≤ R.locals) (hst : st = As.reverse ++ rest) (hrest : (rest.map fun v => v.category).sum ≤ 8) (d : decode cc pc = .ok (.invokestatic index, 3)) (hf : k ≤ R.cells ∧ n ≤ R.slots) (e : pc + 3 = q) (kk : F k n ws im q (v.toList ++ rest) lv) : F k n ws im pc st lv := by
  obtain ⟨A, B, H0, J, hJ, hB, hAK, hAB, hBB, rfl⟩ := hF
  intro H hH
  exact j_callSU q hJ hyx (hc H) hw na hy hna hR hst hrest d hf e (kk H hH)
end SUJ
