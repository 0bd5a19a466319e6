/-! laws of methods with handlers, the exception's address told: they follow the texts of the part EXCEPTIONS word by word -/
set_option maxRecDepth 100000
section HWP
variable {l : Launch} {R : Room} {p : Program} {e : Env} {below : List Frame} {s : State} {sargs : Array Value} {y : MethodName} {len W9 : Nat}
theorem vq_backW {ws : List Cond} {rm : Room} {Pc : Array Value → State → Prop} {Qc : Array Value → State → Outcome → State → Prop} {XC : String → Addr → State → State → Prop} {mc ms : Nat} {free : Addr → Prop} {bytes : ByteArray} {maxL : Nat} {ret : Option FieldType} {hh : List (Nat × Nat × Nat × Nat)}
    (hM : vq_Met l y ws rm Pc Qc XC mc ms free) (hblind : FrameBlind Pc) (hrc : rm.cells = mc) (hrs : rm.slots = ms)
    (hframes : rm.frames + 1 ≤ R.frames) (hlocals : W9 + (maxL + 11) + rm.locals ≤ R.locals)
    (hws : ∀ w ∈ ws, ∀ a' U, s.WarmedH U.vm → w.before a' U = true) (hcode : Cond.codeWith y bytes maxL ret hh ∈ ws) (hinit : ∀ a' U, s.WarmedH U.vm → (Cond.initialized y.cls).before a' U = true) :
    vx_Back l R p e below s sargs y len W9 (PreOf R mc ms Pc) (PostOf Qc mc ms free) (vq_Post XC mc ms free) := by
  intro m meth c A g ig mk a X hg hsize hdg hW hn hp
  have h1 : (headSpec ws rm).pre.before a A.U = true := atoms_intro fun w hw => hws w hw _ _ X.warmed
  have h2 : (Cond.codeWith y bytes maxL ret hh).before a A.U = true := hws _ hcode _ _ X.warmed
  have h3 : (Cond.initialized y.cls).before a A.U = true := hinit _ _ X.warmed
  have h4 : A.cells + (headSpec ws rm).room.cells ≤ R.cells := by rw [show (headSpec ws rm).room.cells = mc from hrc]; exact hp.1
  have h5 : A.slots + (headSpec ws rm).room.slots ≤ R.slots := by rw [show (headSpec ws rm).room.slots = ms from hrs]; exact hp.2.1
  have hPc : Pc a (A.U.calling g mk a) := hblind _ _ _ _ hp.2.2
  obtain ⟨U, Ls, c0, s0⟩ := A
  dsimp only [Pt.U, Pt.locs, Pt.cells, Pt.slots] at h1 h2 h3 h4 h5 X hn hPc ⊢
  obtain ⟨m9, methY, cY, hn9, hmY, hcY, -, hlY, -⟩ := Cond.codeWith_spec h2
  cases Option.some.inj (hn9.symm.trans hn)
  obtain ⟨kY, hkY, -⟩ := className_of_methodNamed hn
  have hinitY : kY.init = .initialized := Cond.initialized_spec (findClass_of_methodNamed hn) hkY h3
  have h : At U g.method c below := by rw [hg]; exact X.here
  have hlocals9 : W9 + (maxL + 11) + (headSpec ws rm).room.locals ≤ R.locals := hlocals
  have happ : (headSpec ws rm).appliesLoose y e.platform (U.calling g mk a) = true :=
    Spec.appliesLoose_calling (g := g) h hdg hn hkY hinitY
      (X.room_calling (g := g) (R' := (headSpec ws rm).room) hsize hmY hcY hframes (by rw [hlY]; omega) h4 h5) h1
  obtain ⟨mid, hmid⟩ := h.above
  have hfr : (U.setTop g).frames = (.java g :: mid) ++ below := by rw [State.frames_setTop' g h.top, hmid]; rfl
  obtain ⟨o, s₂, hsteps, -, hend, hq⟩ := Steps.callFree hM p X.admits X.cas X.clock (acts := []) hfr happ hPc trivial
  have hq' : vq_Q Qc XC mc ms free a (U.calling g mk a) o s₂ := hq
  rw [State.frames_setTop' g h.top] at hend
  obtain ⟨g₀, hg0⟩ := Option.isSome_iff_exists.mp h.top
  obtain ⟨r, hr⟩ := State.topJava?_eq_some.mp hg0
  have hr' : (({ U with heap := s₂.heap, slotsUsed := s₂.slotsUsed } : State).setVm s₂.vm).frames = .java g₀ :: r := hr
  rcases hq' with ⟨hqc, L, hfe, hL⟩ | ⟨q, rfl, E, ce, L, hx, hce, hcv, hcl, hW₂, hsm, hL⟩
  · obtain ⟨⟨v, rfl⟩, hW₂, e2, q2, q3, q4, q5, q6⟩ := id hfe
    have e3 : s₂ = ({ (U.calling g mk a).setFrames s₂.frames with heap := s₂.heap, slotsUsed := s₂.slotsUsed } : State).setVm s₂.vm := by
      have : s₂ = ({ s₂ with vm := (U.calling g mk a).vm } : State).setVm s₂.vm := rfl
      rw [e2] at this
      exact this
    obtain ⟨c₂, i₂, len₂, hc₂, hd₂, hf₂⟩ := hend
    have hW' : U.WarmedH s₂.vm := hW₂
    have hcc : c₂ = c := by
      have h1 : s₂.code? g.method = U.code? g.method := by
        rw [State.code?_eq, State.code?_eq, hW'.alike.method?]
      exact Option.some.inj (hc₂.symm.trans (h1.trans h.code))
    subst hcc
    have hlen : len₂ = len := by rw [hdg] at hd₂; cases hd₂; rfl
    subst hlen
    have hs₂ : s₂ = (({ U with heap := s₂.heap, slotsUsed := s₂.slotsUsed } : State).setVm s₂.vm).setTop { g with pc := g.pc + len₂, stack := v.toList ++ g.stack } := by
      refine e3.trans ?_
      rw [hf₂, State.calling_eq h.top, State.setFrames_setFrames, State.setTop_of_frames _ hr', hr]
      rfl
    have hsame : U.sameButNew ({ U with heap := s₂.heap, slotsUsed := s₂.slotsUsed } : State) L mc ms := by
      refine ⟨?_, q2, q3, q4, q5, q6⟩
      obtain ⟨t, ht, -⟩ := State.frames_cons hr
      show ({ U with heap := s₂.heap, slotsUsed := s₂.slotsUsed } : State) = { U.setFrames U.frames with heap := s₂.heap, slotsUsed := s₂.slotsUsed }
      rw [State.setFrames_self ht]
    subst hg
    refine Or.inl ⟨v, ⟨(({ U with heap := s₂.heap, slotsUsed := s₂.slotsUsed } : State).setVm s₂.vm), Ls ++ L, c0 + mc, s0 + ms⟩,
      ⟨X.admits, X.cas, X.clock, X.frames, X.room, X.hears, X.method, X.code, (X.here.setHeapUsed s₂.heap s₂.slotsUsed).setVm hW'.alike, X.tail, State.WarmedH.trans X.warmed hW', X.limits, X.bytes, X.same.trans (hsame.setVm s.vm)⟩,
      ⟨g, mk, s₂, L, rfl, rfl, hqc, rfl, hL, rfl, rfl⟩, ?_⟩
    show Steps p.tables e below _ ((({ U with heap := s₂.heap, slotsUsed := s₂.slotsUsed } : State).setVm s₂.vm).setTop { g with pc := g.pc + len₂, stack := v.toList ++ g.stack })
    rw [← hs₂]
    exact hsteps
  · obtain ⟨e2, q2, q3, q4, q5, q6⟩ := id hsm
    have e3 : s₂ = ({ (U.calling g mk a).setFrames s₂.frames with heap := s₂.heap, slotsUsed := s₂.slotsUsed } : State).setVm s₂.vm := by
      have : s₂ = ({ s₂ with vm := (U.calling g mk a).vm } : State).setVm s₂.vm := rfl
      rw [e2] at this
      exact this
    have hf₂ : s₂.frames = .throwing q :: .java g :: U.frames.tail := hend
    have hW' : U.WarmedH s₂.vm := hW₂
    have hs₂ : s₂ = ((({ U with heap := s₂.heap, slotsUsed := s₂.slotsUsed } : State).setVm s₂.vm).setTop g).pushFrame (.throwing q) := by
      refine e3.trans ?_
      rw [hf₂, State.calling_eq h.top, State.setFrames_setFrames, State.pushFrame, State.frames_setTop _ hr', State.setTop_of_frames _ hr', State.setFrames_setFrames, hr]
      rfl
    have hsame : U.sameButNew ({ U with heap := s₂.heap, slotsUsed := s₂.slotsUsed } : State) L mc ms := by
      refine ⟨?_, q2, q3, q4, q5, q6⟩
      obtain ⟨t, ht, -⟩ := State.frames_cons hr
      show ({ U with heap := s₂.heap, slotsUsed := s₂.slotsUsed } : State) = { U.setFrames U.frames with heap := s₂.heap, slotsUsed := s₂.slotsUsed }
      rw [State.setFrames_self ht]
    subst hg
    refine Or.inr ⟨q, ⟨(({ U with heap := s₂.heap, slotsUsed := s₂.slotsUsed } : State).setVm s₂.vm), Ls ++ L, c0 + mc, s0 + ms⟩,
      ⟨X.admits, X.cas, X.clock, X.frames, X.room, X.hears, X.method, X.code, (X.here.setHeapUsed s₂.heap s₂.slotsUsed).setVm hW'.alike, X.tail, State.WarmedH.trans X.warmed hW', X.limits, X.bytes, X.same.trans (hsame.setVm s.vm)⟩,
      ⟨g, mk, s₂, L, E, ce, rfl, rfl, hx, hce, hcv, hcl, rfl, hL, rfl, rfl⟩, ?_⟩
    show Steps p.tables e below _ (((({ U with heap := s₂.heap, slotsUsed := s₂.slotsUsed } : State).setVm s₂.vm).setTop g).pushFrame (.throwing q))
    rw [← hs₂]
    exact hsteps
end HWP
section HWR
variable {p : Program} {l : Launch} {e : Env} {R : Room} {s : State} {m : MethodId} {args : Array Value} {below : List Frame} {meth : Method} {c : Code} {H : Heap} {locs : List Loc} {cells slots : Nat}
variable {y : MethodName} {bytes cc : ByteArray} {maxL nL mc ms n index : Nat} {ret : Option FieldType} {ws : List Cond} {rm : Room} {Pc : Array Value → State → Prop} {Qc : Array Value → State → Outcome → State → Prop} {XC : String → Addr → State → State → Prop} {free : Addr → Prop} {Ts : List Cond} {own C : String} {b : Addr} {As rest : List Value} {g : JFrame}
theorem vq_runVX {hh : List (Nat × Nat × Nat × Nat)} (S : CallFix p m c cc nL s args Ts own) (hM : vq_Met l y ws rm Pc Qc XC mc ms free) (cw : vx_CVW R s args own C index y bytes maxL ret hh ws rm mc ms n) (hp : PreV s H C b Pc As)
    (hg : g.method = m) (hn : As.length = n) (hsize : g.locals.size = nL) (hstack : g.stack = As.reverse ++ .ref b :: rest) (hW : 2 * g.monitorRoom + (rest.map fun v => v.category).sum ≤ 8) (hdg : decode cc g.pc = .ok (.invokevirtual index, 3)) (hf : cells + mc ≤ R.cells ∧ slots + ms ≤ R.slots) :
    vq_Run p l e R s m args below meth c H locs cells slots mc ms g rest (Qc (Value.ref b :: As).toArray) XC free := by
  obtain ⟨⟨hrc, hrs, hfr, hlo, hws, hcw⟩, hcode, hini, hy, hlen, hl, hin, hse⟩ := cw
  have hK : vx_Back l R p e below s args y 3 8 (PreOf R mc ms Pc) (PostOf Qc mc ms free) (vq_Post XC mc ms free) := vq_backW (hh := hh) (bytes := bytes) (maxL := maxL) (ret := ret) hM hp.1 hrc hrs hfr hlo hws hcw (fun a' U hW => word_at hW (Or.inl (by first | rfl | simp [Cond.onTables, Cond.keeps, Cond.steady])) hini)
  obtain ⟨hx, hb, hml, ho, -⟩ := S
  obtain ⟨-, ⟨cellB, hcB, hoB, hclB⟩, hPc⟩ := hp
  intro T hT X
  rcases vx_callVX X hx (C := C) (hh := hh) (bytes := bytes) (maxL := maxL) (ret := ret) ho hl hin hse hcode hy hK (by rw [hT]; exact hcB) hoB hclB hg (hsize.trans hml.symm) (argsL := As) (rest := rest) (fun sig h => hn.trans (hlen sig h)) hstack hW (by rw [hb]; exact hdg)
    (fun vm₁ hW₁ => ⟨hf.1, hf.2, hPc (T.setVm vm₁) hT hW₁⟩) with ⟨v, vm₁, ⟨U', l2, c2, s2⟩, hW₁, X', ⟨g', mk, t, L, e1, e2, hq, h1, hL, h2, h3⟩, st⟩ | ⟨q, vm₁, ⟨U', l2, c2, s2⟩, hW₁, X', ⟨g', mk, t, L, E, ce, e1, e2, hq, hce, hcv, hcl, h1, hL, h2, h3⟩, st⟩
  · dsimp only [Pt.U, Pt.locs, Pt.cells, Pt.slots] at X' e1 e2 h1 h2 h3 st
    subst h1; subst h2; subst h3
    exact Or.inl ⟨v, (T.setVm vm₁).calling g' mk (Value.ref b :: As).toArray, t, U', L, hT, X', hL, e1, e2, hq, st⟩
  · dsimp only [Pt.U, Pt.locs, Pt.cells, Pt.slots] at X' e1 e2 h1 h2 h3 st hcl
    subst h1; subst h2; subst h3
    exact Or.inr ⟨q, (T.setVm vm₁).calling g' mk (Value.ref b :: As).toArray, t, U', L, E, ce, hT, X', hL, e1, e2, hq, hce, hcv, vx_cls hW₁ hcl, st⟩
theorem vq_runS (S : CallFix p m c cc nL s args Ts own) (hM : vq_Met l y ws rm Pc Qc XC mc ms free) (cw : CallB R s args own index y bytes maxL ret ws rm mc ms n ∧ (Cond.static y).before args s = true) (hp : PreS s H Pc As)
    (hg : g.method = m) (hn : As.length = n) (hsize : g.locals.size = nL) (hstack : g.stack = As.reverse ++ rest) (hW : 2 * g.monitorRoom + (rest.map fun v => v.category).sum ≤ 8) (hdg : decode cc g.pc = .ok (.invokestatic index, 3)) (hf : cells + mc ≤ R.cells ∧ slots + ms ≤ R.slots) :
    vq_Run p l e R s m args below meth c H locs cells slots mc ms g rest (Qc As.toArray) XC free := by
  have hK : vx_Back l R p e below s args y 3 8 (PreOf R mc ms Pc) (PostOf Qc mc ms free) (vq_Post XC mc ms free) := vq_callBack cw.1 hM hp.1
  obtain ⟨⟨-, -, -, -, -, -, hcode, hini, hy, hlen, hl⟩, hstt⟩ := cw
  obtain ⟨hx, hb, hml, ho, -⟩ := S
  intro T hT X
  rcases vx_callS X hx (bytes := bytes) (maxL := maxL) (ret := ret) ho hl hstt hini hcode hy hK hg (hsize.trans hml.symm) (argsL := As) (rest := rest) (fun sig h => hn.trans (hlen sig h)) hstack hW (by rw [hb]; exact hdg)
    (fun vm₁ hW₁ => ⟨hf.1, hf.2, hp.2 (T.setVm vm₁) hT hW₁⟩) with ⟨v, vm₁, ⟨U', l2, c2, s2⟩, hW₁, X', ⟨g', mk, t, L, e1, e2, hq, h1, hL, h2, h3⟩, st⟩ | ⟨q, vm₁, ⟨U', l2, c2, s2⟩, hW₁, X', ⟨g', mk, t, L, E, ce, e1, e2, hq, hce, hcv, hcl, h1, hL, h2, h3⟩, st⟩
  · dsimp only [Pt.U, Pt.locs, Pt.cells, Pt.slots] at X' e1 e2 h1 h2 h3 st
    subst h1; subst h2; subst h3
    exact Or.inl ⟨v, (T.setVm vm₁).calling g' mk As.toArray, t, U', L, hT, X', hL, e1, e2, hq, st⟩
  · dsimp only [Pt.U, Pt.locs, Pt.cells, Pt.slots] at X' e1 e2 h1 h2 h3 st hcl
    subst h1; subst h2; subst h3
    exact Or.inr ⟨q, (T.setVm vm₁).calling g' mk As.toArray, t, U', L, E, ce, hT, X', hL, e1, e2, hq, hce, hcv, vx_cls hW₁ hcl, st⟩
end HWR
theorem vq_ofWH {l : Launch} {y : MethodName} {ws ws' : List Cond} {rm : Room} {Pc : Array Value → State → Prop} {Qc : Array Value → State → Outcome → State → Prop} {XC : String → Addr → State → State → Prop} {mc ms : Nat} {free : Addr → Prop} {cc : ByteArray} {maxL : Nat} {ret : Option FieldType} {hh : List (Nat × Nat × Nat × Nat)}
    (hy : plainName y.cls = true) (hw : ws = Cond.codeWith y cc maxL ret hh :: ws')
    (body : ∀ p e s m args below meth c s₁, BodyLoose p l y (headSpec ws rm) cc maxL ret e s m args below meth c s₁ → c.maxLocals = maxL → Pc args s →
      W p l e (headSpec ws rm).room s m args below meth c s.heap [] 0 0 (vq_MQ below Qc XC args s mc ms free) (entryFrame m args maxL)) : vq_Met l y ws rm Pc Qc XC mc ms free := by
  refine MetFree.of_bodyS (code := cc) (maxLocals := maxL) (ret := ret) hy ?_ ?_
  · intro args s m h hn
    obtain ⟨m9, meth, c, hn9, h1, h2, h3, h4, -, h5, h6, -⟩ := Cond.codeWith_spec (atoms_spec (ws := ws) h _ (by rw [hw]; exact List.mem_cons_self))
    cases hn.symm.trans hn9
    exact ⟨meth, c, h1, h2, h3, h4, h5, h6⟩
  · intro p e s m args below meth c s₁ B hml hP _
    have hh0 : s₁.heap = s.heap := by rw [B.state]; rfl
    obtain ⟨t, a1, o, b1, b2, b3⟩ := body p e s m args below meth c s₁ B hml hP s₁ hh0 (Stand.of_body B)
    exact ⟨t, o, a1, b1, b2, b3⟩
section HWK
variable {p : Program} {l : Launch} {e : Env} {R : Room} {s : State} {m : MethodId} {args : Array Value} {below : List Frame} {meth : Method} {c : Code} {H : Heap} {locs : List Loc} {cells slots : Nat} {Q : State → Prop}
variable {ls : Array Slot} {rest : List Value} {D : va_G} {cl : List vw_C} {tys : List (ClassId × FieldType)} {ws : va_W}
theorem vx_make1 {cc : ByteArray} {pc : Nat} (hexec : p.tables.exec = Jvm.exec) (hb : c.code = cc) (hl : l.stackTraces = false) {own cls : String} {names : List String} {ik ic ci : Nat} {A : Nat → Prop} {T0 : u_T}
    (hown : s.vm.findClass own = some m.cls) (hcls : Bundle.fit cls = true) (hnames : ∀ n ∈ names, Bundle.fit n = true)
    (hk : (Cond.classLink own ik cls).before args s = true) (hini : (Cond.initialized cls).before args s = true) (hat : ∀ w ∈ vx_at0 own ic cls names, w.before args s = true)
    (hgood : ∀ w ∈ Cond.classLink own ik cls :: Cond.initialized cls :: vx_at0 own ic cls names, vx_ot w = true)
    (hU : vx_Zq Bundle.tN "UNASSIGNED_STACK" Bundle.steD A s s.heap) (hN : vx_Zq Bundle.tN "SUPPRESSED_SENTINEL" Bundle.listD A s s.heap) (hS : va_S A s.heap H locs) (hsize : ls.size = c.maxLocals)
    (d0 : decode cc pc = .ok (.new ik, 3)) (d3 : decode cc (pc + 3) = .ok (.dup, 1)) (d4 : decode cc (pc + 4) = .ok (.invokespecial ic, 3))
    (hK : va_K D cl tys s) (hP : va_P D cl ws H) (hD : va_D A ws) (hA : ∀ q, s.heap.size ≤ q → A q) (hc : cl[ci]? = some (cls, T0, 0))
    (hRframes : names.length + 3 < R.frames) (hRlocals : (rest.map fun v => v.category).sum + (13 * (names.length + 1) + 42) ≤ R.locals) (hRcells : cells + 1 ≤ R.cells) (hRslots : slots + 6 ≤ R.slots)
    (kk : ∀ (q : Nat) (H1 : Heap), q = H.size → H.size < H1.size → (∀ y : Nat, y < H.size → H1[y]? = H[y]?) → va_P D cl (ws ++ [(q, .inr (ci, []))]) H1 → va_D A (ws ++ [(q, .inr (ci, []))]) → va_S A s.heap H1 locs → W p l e R s m args below meth c H1 locs (cells + 1) (slots + 6) Q (F0 m (pc + 7) ls (.ref q :: rest))) :
    W p l e R s m args below meth c H locs cells slots Q (F0 m pc ls rest) := by
  intro T hT X
  subst hT
  have htr : e.platform.stackTraces = false := (show e.platform.stackTraces = l.stackTraces by rw [X.admits.platform]).trans hl
  have Y := vx_rebase X (R' := { frames := R.frames, locals := R.locals, cells := 1, slots := 6 }) (Nat.le_refl _) (Nat.le_refl _) hRcells hRslots
  obtain ⟨s', hA'⟩ : ∃ z, z = (T.setVm s.vm).setFrames (.invoking m args :: below) := ⟨_, rfl⟩
  rw [← hA'] at Y
  have hvm : s'.vm = s.vm := by rw [hA']; rfl
  have hhp : s'.heap = T.heap := by rw [hA']; rfl
  have hW0 : s.WarmedH s'.vm := by rw [hvm]; exact State.WarmedH.refl s
  have hat' : ∀ w ∈ vx_at0 own ic cls names, w.before args s' = true := fun w hw => vx_ot_at hW0 hvm.symm (hgood w (List.mem_cons_of_mem _ (List.mem_cons_of_mem _ hw))) (hat w hw)
  have hk' : (Cond.classLink own ik cls).before args s' = true := vx_ot_at hW0 hvm.symm (hgood _ List.mem_cons_self) hk
  have hini' : (Cond.initialized cls).before args s' = true := vx_ot_at hW0 hvm.symm (hgood _ (List.mem_cons_of_mem _ List.mem_cons_self)) hini
  have hU' : vx_Zq Bundle.tN "UNASSIGNED_STACK" Bundle.steD A s' s'.heap := by rw [hhp]; exact vx_Zq.moved hW0.alike (hU.kept hS.2.1)
  have hN' : vx_Zq Bundle.tN "SUPPRESSED_SENTINEL" Bundle.listD A s' s'.heap := by rw [hhp]; exact vx_Zq.moved hW0.alike (hN.kept hS.2.1)
  have h : ∀ w ∈ Bundle.ownAtoms0 own ic cls names, w.before args s' = true := vx_own hat' (vx_isRefq hU'.1) (vx_isRefq hN'.1) hU'.2.word hN'.2.word
  have hown' : s'.vm.findClass own = some m.cls := by rw [hvm]; exact hown
  have hins : (Cond.instantiable cls 6).before args s' = true := h _ (by simp [Bundle.ownAtoms0])
  obtain ⟨vm₁, cX, kX, hfX, hkX, -, -, X₁, st1⟩ := Y.newCold hexec (own := own) (C := cls) (index := ik) (n := 6) hown' hk' hins hini'
    (g := F0 m pc ls rest) rfl (by rw [hb]; exact d0) (Nat.le_refl _) (Nat.le_refl _)
  generalize hT1 : (T.setVm vm₁).pushCell { cls := cX, slots := kX.instanceTypes.map defaultValue, vm := .none } = T1 at X₁ st1
  have hcat : (Value.ref T.heap.size).category = 1 := rfl
  have hcellA : T1.heap[T.heap.size]? = some (freshCell cX kX) := by rw [← hT1]; exact State.heap_pushCell_size _ _
  have d3' : decode c.code (pc + 3) = .ok (.dup, 1) := by rw [hb]; exact d3
  obtain ⟨V, ce, L, Z, hL, hlt, hcl9, hvm9, st⟩ := vx_ctorMade0 X₁ hexec htr (own := own) (cls := cls) (names := names) (ic := ic) hown' hcls hnames h (fun x hx => nomatch hx) hfX hkX hcellA (by rw [hhp]; exact Nat.le_refl _)
    (g := { method := m, pc := pc + 4, locals := ls, stack := .ref T.heap.size :: .ref T.heap.size :: rest, locked := none }) rfl hsize (rest := rest) rfl
    (by rw [hb]; exact d4) hRframes (by simp only [List.map_cons, List.sum_cons, hcat]; omega)
  have Z0 := Stand.forget (locs := []) Z (fun y hy => by rw [hL y hy, hhp]; exact Nat.le_refl _)
  obtain ⟨f1, f2⟩ := vx_frame Z0.same
  rw [hhp] at f1 f2
  have hcid : ce.cls = D.1 ci := by
    rw [hcl9]
    have h1 := (hK.1 ci _ hc).2.1
    rw [hvm] at hfX
    exact Option.some.inj (hfX.symm.trans h1)
  have hh : (V.setCell T.heap.size ce).heap[T.heap.size]? = some ce := heapAt_setCell_self (s := V) ce hlt
  subst hA'
  have X5 := vx_back9 X Y Z0
  have X6 : Stand p l e R s m args below meth c (V.setCell T.heap.size ce) locs (cells + 1) (slots + 6) := { X5 with same := X5.same.mono (by omega) (by omega) }
  have hk9 : ∀ (k : Nat) (x : Nat × va_E), ws[k]? = some x → (V.setCell T.heap.size ce).heap[x.1]? = T.heap[x.1]? := fun k x hx => f2 x.1 ((hP k x hx).lt) (fun z hz => nomatch hz)
  obtain ⟨t, a1, b1⟩ := kk T.heap.size (V.setCell T.heap.size ce).heap rfl (Array.getElem?_eq_some_iff.mp hh).1 (fun y hy => f2 y hy (fun z hz => nomatch hz)) ((hP.kept hk9).app (fun k x hx => by
      have hz : k < 1 := (List.getElem?_eq_some_iff.mp hx).1
      rw [show k = 0 by omega] at hx
      cases hx
      exact ⟨_, hc, ce, hh, hcid, hvm9, fun k hk => absurd hk (Nat.not_lt_zero k)⟩)) (hD.push hP rfl (hA _ hS.1)) ⟨Nat.le_trans hS.1 f1, fun q h1 h2 => (f2 q (Nat.lt_of_lt_of_le h1 hS.1) (fun z hz => nomatch hz)).trans (hS.2.1 q h1 h2), hS.2.2⟩ _ rfl X6
  refine ⟨t, st1 _ ?_, b1⟩
  show Steps p.tables e below (T1.setTop { method := m, pc := pc + 3, locals := ls, stack := .ref T.heap.size :: rest, locked := none }) _
  jvm_step X₁.here [X₁.here.top, hexec, d3', Value.category]
  exact st _ a1
end HWK
/-! contracts of methods that return or throw, over heaps (Vt); methods with handlers (Cw: they return; GcW: they may throw) -/
def Vt (D : DD) (l : Launch) (y : MethodName) (wsy : List Cond) (f mc ms lo : Nat) (As : List Value) (H0 : Heap) (Post : Option Value → Heap → Prop) (PX : String → Nat → Heap → Prop) (A : Nat → Prop) : Prop :=
  HOK D H0 → (∀ q, A q → D.2.2.2.size ≤ q) → vq_Met l y wsy (rm_ f mc ms lo) (cP D As H0) (cQ Post A) (fun E q st t => PX E q t.heap ∧ va_F A st t) mc ms A
def Cw (D : DD) (l : Launch) (y : MethodName) (b : ByteArray) (L : Nat) (ret : Option FieldType) (hh : List (Nat × Nat × Nat × Nat)) (f mc ms lo : Nat) (As : List Value) (H0 : Heap) (Post : Option Value → Heap → Prop) (A : Nat → Prop) : Prop :=
  HOK D H0 → (∀ q, A q → D.2.2.2.size ≤ q) → Met l y (wsW_ y b L ret hh) (rm_ f mc ms lo) (cP D As H0) (cQ Post A) mc ms A
def GcW (D : DD) (l : Launch) (y : MethodName) (b : ByteArray) (Lm : Nat) (ret : Option FieldType) (hh : List (Nat × Nat × Nat × Nat)) (f mc ms lo : Nat) (KS : Nat → Prop) (Hb : Heap) (As : List Value) (ws im : va_W) (Post : Option Value → va_W → va_W → Prop) (PX : PXT) : Prop :=
  ∀ H0, FB D KS Hb → Fst D KS Hb (fun q => KS q ∨ Hb.size ≤ q) (fun _ => True) ws im H0 → HOK D H0 → (∀ q, (q ∈ adr ws ∨ H0.size ≤ q) → D.2.2.2.size ≤ q) → vq_Met l y (wsW_ y b Lm ret hh) (rm_ f mc ms lo) (cP D As H0) (cQ (gPo D KS Hb ws im H0 Post) (fun q => q ∈ adr ws ∨ H0.size ≤ q))
    (fun E q st t => gPx D KS Hb ws im H0 PX E q t.heap ∧ va_F (fun q => q ∈ adr ws ∨ H0.size ≤ q) st t) mc ms (fun q => q ∈ adr ws ∨ H0.size ≤ q)
section VTX
variable {D : DD} {l : Launch} {y : MethodName} {b : ByteArray} {L : Nat} {ret : Option FieldType} {hh : List (Nat × Nat × Nat × Nat)} {wsy : List Cond} {f mc ms lo : Nat} {As : List Value} {H0 : Heap} {Post Post' : Option Value → Heap → Prop} {PX PX' : String → Nat → Heap → Prop} {A A' : Nat → Prop}
theorem va_F.mono {st t : State} (h : va_F A st t) (hA : ∀ q, A q → A' q) : va_F A' st t := ⟨h.1, fun q h1 h2 => h.2 q h1 (fun z => h2 (hA q z))⟩
theorem Vt.weaken (h : Vt D l y wsy f mc ms lo As H0 Post PX A) (hA : ∀ q, A q → A' q) (hp : ∀ r H, Post r H → fr A H0 H → Post' r H) (hx : ∀ E q H, PX E q H → fr A H0 H → PX' E q H) : Vt D l y wsy f mc ms lo As H0 Post' PX' A' := fun a1 a2 => by
  refine MetFree.mono (h a1 (fun q z => a2 q (hA q z))) (fun _ _ h => h) (fun _ _ _ _ _ h => h) (fun a st o t hP hq => ?_)
  have hH : st.heap = H0 := hP.2.1
  rcases hq with ⟨⟨v, e1, h1, h2⟩, L, hL, hf⟩ | ⟨q, e1, E, ce, L, ⟨h1, h2⟩, h3, h4, h5, h6, h7, h8⟩
  · exact Or.inl ⟨⟨v, e1, hp v _ h1 (by rw [← hH]; exact h2), h2.mono hA⟩, L, hL, fun q hq => hA _ (hf q hq)⟩
  · exact Or.inr ⟨q, e1, E, ce, L, ⟨hx E q _ h1 (by rw [← hH]; exact h2), h2.mono hA⟩, h3, h4, h5, h6, h7, fun z hz => hA _ (h8 z hz)⟩
theorem Ct.vt (h : Ct D l y b L ret f mc ms lo As H0 Post A) : Vt D l y (ws_ y b L ret) f mc ms lo As H0 Post PX A := fun a1 a2 =>
  MetFree.mono (h a1 a2) (fun _ _ h => h) (fun _ _ _ _ _ h => h) (fun a st o t hP hq => Or.inl hq)
theorem Xt.vt {E : String} {PE : Heap → Prop} {ci : Nat} {T0 : u_T} (hci : aCl[ci]? = some (E, T0, 0)) (h : Xt D l y b L ret f mc ms lo As H0 E PE A) : Vt D l y (ws_ y b L ret) f mc ms lo As H0 Post (fun E' q H => E' = E ∧ exo D E q H ∧ PE H) A := fun a1 a2 => by
  refine MetFree.mono (h a1 a2) (fun _ _ h => h) (fun _ _ _ _ _ h => h) (fun a st o t hP hq => ?_)
  rcases hq with ⟨⟨v, e1, h1, h2⟩, -⟩ | ⟨q, e1, E', ce, L, ⟨rfl, h1, h2⟩, h3, h4, h5, h6, h7, h8⟩
  · exact absurd h1 id
  · exact Or.inr ⟨q, e1, E', ce, L, ⟨⟨rfl, ⟨ci, T0, hci, ce_ob hP.2.2 hci h3 h4 h5⟩, h1⟩, h2⟩, h3, h4, h5, h6, h7, h8⟩
theorem Gc.vt {KS : Nat → Prop} {Hb : Heap} {ws im : va_W} {Po : Option Value → va_W → va_W → Prop} {Px : PXT} (h : Gc D l y b L ret f mc ms lo KS Hb As ws im Po Px) (hB : FB D KS Hb) (h0 : Fst D KS Hb (fun q => KS q ∨ Hb.size ≤ q) (fun _ => True) ws im H0) : Vt D l y (ws_ y b L ret) f mc ms lo As H0 (gPo D KS Hb ws im H0 Po) (gPx D KS Hb ws im H0 Px) (fun q => q ∈ adr ws ∨ H0.size ≤ q) := fun a1 a2 => h H0 hB h0 a1 a2
theorem GcW.vt {KS : Nat → Prop} {Hb : Heap} {ws im : va_W} {Po : Option Value → va_W → va_W → Prop} {Px : PXT} (h : GcW D l y b L ret hh f mc ms lo KS Hb As ws im Po Px) (hB : FB D KS Hb) (h0 : Fst D KS Hb (fun q => KS q ∨ Hb.size ≤ q) (fun _ => True) ws im H0) : Vt D l y (wsW_ y b L ret hh) f mc ms lo As H0 (gPo D KS Hb ws im H0 Po) (gPx D KS Hb ws im H0 Px) (fun q => q ∈ adr ws ∨ H0.size ≤ q) := fun a1 a2 => h H0 hB h0 a1 a2
theorem Cw.of (hl : l.stackTraces = false) (hy : plainName y.cls = true) (hAs : (lg_sl As).length ≤ L) (hA : ∀ q, H0.size ≤ q → A q)
    (body : ∀ (s : State) (J : Heap → Nat → Nat → Nat → List Value → List (Nat × Value) → Prop) (Y : XJ), Jq D l s y.cls As.toArray b L (rm_ f mc ms lo) y.name A H0 J Y (tableOf hh) → Rt b ret mc ms Post J → J H0 0 0 0 [] (lv_args 0 As)) : Cw D l y b L ret hh f mc ms lo As H0 Post A := by
  intro hOK hAs'
  have hV : vq_Met l y (wsW_ y b L ret hh) (rm_ f mc ms lo) (cP D As H0) (cQ Post A) (fun _ _ _ _ => False) mc ms A := by
    refine vq_ofWH (cc := b) (maxL := L) (ret := ret) (hh := hh) hy rfl ?_
    intro p e s m args below meth c s₁ B hml hv
    obtain ⟨rfl, rfl, hK⟩ := hv
    have hts0 := atoms_spec (ws := wsW_ y b L ret hh) B.pre
    have hts : ∀ w ∈ lw_all, w.before _ s = true := fun w h => hts0 w (List.mem_cons_of_mem _ h)
    have htb : c.exceptionTable.toList = tableOf hh := vx_table (x := y) B (hts0 _ List.mem_cons_self)
    have hx := B.exec
    have hb := B.bytes
    have hr := B.returns
    have hlk := B.notSynchronized
    have hlv := lv_entry As (n := L) hAs
    rw [lg_entry_eq]
    refine body s _ _ ⟨hl, rfl, p, e, m, below, meth, c, _, ⟨hx, hb, hml, findClass_of_methodNamed B.named, hts, (name_of_methodNamed B.named B.method).1, hlk, hK, hA, hAs', hOK⟩, htb, rfl, rfl⟩ ?_ _ [] hlv va_S.rf
    intro H k n pc lv hk hn
    refine ⟨?_, ?_, ?_, ?_, ?_, ?_⟩
    · intro h1 h2 h3 ls locs hl' hS
      exact W.widen hk hn (vq_ret (W.vret hx hb (hr.trans h1) (fun t ht hW => ⟨_, rfl, by rw [ht]; exact h3, hS.F ht⟩) hS.2.2 h2))
    · intro v ty h1 h1' h2 h3 ls locs hl' hS
      exact W.widen hk hn (vq_ret (W.zret hx hb (hr.trans h1) h1' (fun t ht hW => ⟨_, rfl, by rw [ht]; exact h3, hS.F ht⟩) hS.2.2 h2))
    · intro v h1 h2 h3 ls locs hl' hS
      exact W.widen hk hn (vq_ret (W.lret hx hb (hr.trans h1) (fun t ht hW => ⟨_, rfl, by rw [ht]; exact h3, hS.F ht⟩) hS.2.2 h2))
    · intro v h1 h2 h3 ls locs hl' hS
      exact W.widen hk hn (vq_ret (W.fret hx hb (hr.trans h1) (fun t ht hW => ⟨_, rfl, by rw [ht]; exact h3, hS.F ht⟩) hS.2.2 h2))
    · intro v h1 h2 h3 ls locs hl' hS
      exact W.widen hk hn (vq_ret (W.dret hx hb (hr.trans h1) (fun t ht hW => ⟨_, rfl, by rw [ht]; exact h3, hS.F ht⟩) hS.2.2 h2))
    · intro v rt h1 h1' h1'' h2 h3 ls locs hl' hS
      exact W.widen hk hn (vq_ret (W.aret hx hb (hr.trans h1) h1' h1'' (fun t ht hW => ⟨_, rfl, by rw [ht]; exact h3, hS.F ht⟩) hS.2.2 h2))
  refine MetFree.mono hV (fun _ _ h => h) (fun _ _ _ _ _ h => h) (fun a st o t _ hq => ?_)
  rcases hq with hq | ⟨q, e1, E, ce, L, h1, -⟩
  · exact hq
  · exact absurd h1 id
end VTX
section GWOF
variable {D : DD} {l : Launch} {y : MethodName} {b : ByteArray} {Lm : Nat} {ret : Option FieldType} {hh : List (Nat × Nat × Nat × Nat)} {f mc ms lo : Nat} {KS : Nat → Prop} {Hb : Heap} {As : List Value} {ws im : va_W} {Post : Option Value → va_W → va_W → Prop} {PX : PXT}
theorem GcW.of (hl : l.stackTraces = false) (hy : plainName y.cls = true) (hAs : (lg_sl As).length ≤ Lm)
    (body : ∀ (s : State) (F : FJ) (X : FX), Gx D l s y.cls As.toArray b Lm (rm_ f mc ms lo) y.name KS Hb (tableOf hh) F X → FR b ret mc ms Post F → GO (tableOf hh) mc ms PX X → F 0 0 ws im 0 [] (lv_args 0 As)) : GcW D l y b Lm ret hh f mc ms lo KS Hb As ws im Post PX := by
  intro H0 hB h0 hOK hAs'
  refine vq_ofWH (cc := b) (maxL := Lm) (ret := ret) (hh := hh) hy rfl ?_
  intro p e s m args below meth c s₁ B hml hv
  obtain ⟨rfl, rfl, hK⟩ := hv
  have hts0 := atoms_spec (ws := wsW_ y b Lm ret hh) B.pre
  have hts : ∀ w ∈ lw_all, w.before _ s = true := fun w h => hts0 w (List.mem_cons_of_mem _ h)
  have htb : c.exceptionTable.toList = tableOf hh := vx_table (x := y) B (hts0 _ List.mem_cons_self)
  have hx := B.exec
  have hb := B.bytes
  have hr := B.returns
  have hlk := B.notSynchronized
  have hlv := lv_entry As (n := Lm) hAs
  rw [lg_entry_eq]
  have hA0 : ∀ q, (q ∈ adr ws ∨ s.heap.size ≤ q) → KS q ∨ Hb.size ≤ q := fun q h => h.elim (fun h => by obtain ⟨c, hc, rfl⟩ := mem_adr h; exact h0.2.2.2.1 c hc) (fun h => Or.inr (Nat.le_trans h0.1.1 h))
  refine body s (fun k n ws' im' pc st lv => ∀ H, Fst D KS Hb (fun q => q ∈ adr ws ∨ s.heap.size ≤ q) (fun q => q ∈ adr ws ∨ s.heap.size ≤ q ∨ q ∈ adr im ∨ (q < Hb.size ∧ ¬ KS q)) ws' im' H → ∀ ls locs, lv_has ls Lm lv → va_S (fun q => q ∈ adr ws ∨ s.heap.size ≤ q) s.heap H locs → W p l e _ s m As.toArray below meth c H locs k n _ (F0 m pc ls st))
    (fun k n ws' im' pc lv q => ∀ H, Fst D KS Hb (fun q => q ∈ adr ws ∨ s.heap.size ≤ q) (fun q => q ∈ adr ws ∨ s.heap.size ≤ q ∨ q ∈ adr im ∨ (q < Hb.size ∧ ¬ KS q)) ws' im' H → ∀ ls locs st, lv_has ls Lm lv → va_S (fun q => q ∈ adr ws ∨ s.heap.size ≤ q) s.heap H locs → vx_W p l e _ s m As.toArray below meth c H locs k n _ (F0 m pc ls st) q)
    ⟨_, _, s.heap, _, _, ⟨hl, rfl, p, e, m, below, meth, c, _, ⟨hx, hb, hml, findClass_of_methodNamed B.named, hts, (name_of_methodNamed B.named B.method).1, hlk, hK, fun q h => Or.inr h, hAs', hOK⟩, htb, rfl, rfl⟩, hB, hA0, fun q h => h.elim Or.inl (fun h => Or.inr (Or.inl h)), fun q h1 h2 => Or.inr (Or.inr (Or.inr ⟨h1, h2⟩)), rfl, rfl⟩ ?_ ?_ s.heap ?_ _ [] hlv va_S.rf
  · intro k n ws' im' pc lv hk hn
    refine ⟨fun h1 h2 h3 H hH ls locs hl hS => ?_, fun v ty h1 h1' h2 h3 H hH ls locs hl hS => ?_, fun v h1 h2 h3 H hH ls locs hl hS => ?_, fun v rt h1 h4 h5 h2 h3 H hH ls locs hl hS => ?_⟩
    · exact W.widen hk hn (vq_ret (W.vret hx hb (hr.trans h1) (fun t ht hW => ⟨_, rfl, ⟨_, _, h3, by rw [ht]; exact hH⟩, hS.F ht⟩) hS.2.2 h2))
    · exact W.widen hk hn (vq_ret (W.zret hx hb (hr.trans h1) h1' (fun t ht hW => ⟨_, rfl, ⟨_, _, h3, by rw [ht]; exact hH⟩, hS.F ht⟩) hS.2.2 h2))
    · exact W.widen hk hn (vq_ret (W.lret hx hb (hr.trans h1) (fun t ht hW => ⟨_, rfl, ⟨_, _, h3, by rw [ht]; exact hH⟩, hS.F ht⟩) hS.2.2 h2))
    · exact W.widen hk hn (vq_ret (W.aret hx hb (hr.trans h1) h4 h5 (fun t ht hW => ⟨_, rfl, ⟨_, _, h3, by rw [ht]; exact hH⟩, hS.F ht⟩) hS.2.2 h2))
  · intro k n ws2 im2 pc lv q E ws' im' hk hn hcov hsl him hex hp H hH0 ls locs st hl' hS
    have hH := (hH0.sub hsl).imsub him
    obtain ⟨ci, fs, T, N, hm, hc⟩ := hex
    obtain ⟨ce, c1, c2, c3⟩ := ob_cellF hK hc (hH.2.1 _ hm)
    exact vx_widen hk hn (vq_out (by rw [htb]; exact hcov) hlk c1 c2 c3 (fun t ht _ => ⟨⟨_, _, hp, ⟨ci, fs, T, N, hm, hc⟩, by rw [ht]; exact hH⟩, hS.F ht⟩) hS.2.2 (Nat.le_refl _) (Nat.le_refl _))
  · exact ⟨h0.1, h0.2.1, h0.2.2.1, fun q hq => Or.inl (adr_mem hq), h0.2.2.2.2.1, fun q hq => ⟨(h0.2.2.2.2.2 q hq).1, Or.inr (Or.inr (Or.inl (adr_mem hq)))⟩⟩
end GWOF
theorem Fst.cons2 {D : DD} {KS : Nat → Prop} {Hb : Heap} {A B : Nat → Prop} {ws im : va_W} {H H1 : Heap} {e : va_E} (h : Fst D KS Hb A B ws im H) (he : va_at D.1 aCl (H.size, e) H1) (hz : H.size < H1.size) (ho : ∀ y, y < H.size → H1[y]? = H[y]?) (hA : A H.size) : Fst D KS Hb A B ((H.size, e) :: ws) im H1 := by
  obtain ⟨h1, h2, h3, h4, h5, h6⟩ := h
  refine ⟨⟨Nat.le_trans h1.1 (Nat.le_of_lt hz), fun q hq hn => (ho q (Nat.lt_of_lt_of_le hq h1.1)).trans (h1.2 q hq hn)⟩, fun q hq => ?_, ?_, fun q hq => ?_, fun q hq => (h5 q hq).kept (ho q.1 (h5 q hq).lt), fun q hq => ⟨fun z => ?_, (h6 q hq).2⟩⟩
  · rcases List.mem_cons.mp hq with rfl | hq
    · exact he
    · exact (h2 q hq).kept (ho q.1 (h2 q hq).lt)
  · show (H.size :: adr ws).Nodup
    refine List.nodup_cons.mpr ⟨fun z => ?_, h3⟩
    obtain ⟨q, hq, hqa⟩ := mem_adr z
    have := (h2 q hq).lt
    omega
  · rcases List.mem_cons.mp hq with rfl | hq
    · exact hA
    · exact h4 q hq
  · rcases List.mem_cons.mp z with z | z
    · have := (h5 q hq).lt
      simp only at z; omega
    · exact (h6 q hq).1 z
section QROWS
variable {D : DD} {l : Launch} {s : State} {own : String} {args : Array Value} {cc : ByteArray} {nL : Nat} {R : Room} {nm : String} {A : Nat → Prop} {H0 : Heap} {J : Heap → Nat → Nat → Nat → List Value → List (Nat × Value) → Prop} {Y : XJ} {tb : List ExceptionTableEntry} {H : Heap} {KS : Nat → Prop} {Hb : Heap} {F : FJ} {X : FX} {k n pc : Nat} {ws im : va_W} {st rest : List Value} {lv : List (Nat × Value)}
variable {y : MethodName} {b : ByteArray} {L f mc ms lo o index : Nat} {ret : Option FieldType} {hh : List (Nat × Nat × Nat × Nat)} {As : List Value} {A1 : Nat → Prop} {E : String} {q : Nat}
/-- a table's row does not take what is thrown -/
def rwP (own E : String) (pc : Nat) (z : ExceptionTableEntry) : Prop := covers z pc = false ∨ (z.catchType ≠ 0 ∧ ∃ nm : String, Cond.classLink own z.catchType nm ∈ lw_all ∧ (E, nm) ∈ ncL)
theorem q_catch (hJ : Jq D l s own args cc nL R nm A H0 J Y tb) (pre : List ExceptionTableEntry) (x : ExceptionTableEntry) (suf : List ExceptionTableEntry) (htb : tb = pre ++ x :: suf) {ci N : Nat} {T : u_T} {fs : List Value} (hcl : aCl[ci]? = some (E, T, N)) (ho : ob D ci fs q H) (hpass : ∀ z ∈ pre, rwP own E pc z) (hx : covers x pc = true) {name : String} (hcatch : x.catchType = 0 ∨ (x.catchType ≠ 0 ∧ Cond.classLink own x.catchType name ∈ lw_all ∧ Cond.castable E name ∈ nwL)) (kk : J H k n x.handlerPc [.ref q] lv) : Y H k n pc lv q := by
  obtain ⟨hl, hs0, p, e, m, below, meth, c, Q, ⟨hxx, hb, hml, hown, hts, hnm, hlk, hK, hA, hAs2, hOK⟩, htb', rfl, rfl⟩ := hJ
  intro ls locs st0 hl' hS
  have hkk := kk ls locs hl' hS
  obtain ⟨ce, c1, c2, c3⟩ := ob_cellF hK hcl ho
  intro T' hT X'
  have hpl : e.platform.magicAccessors = ({} : Platform).magicAccessors := by rw [X'.admits.platform]
  have hN : ∀ z ∈ pre, RowPassed e.platform s m.cls pc ce.cls z := fun z hz => by
    rcases hpass z hz with h | ⟨hz0, nm', hl1, hn1⟩
    · exact Or.inl h
    · obtain ⟨c6, hc6, hcl6⟩ := Cond.classLink_spec hown (hts _ hl1) e.platform hpl
      obtain ⟨a8, b8, h1, h2, h3⟩ := hK.2.2.2.2.2.2.2.1 _ hn1
      cases Option.some.inj (h1.symm.trans c3)
      cases Option.some.inj (h2.symm.trans hc6)
      exact Or.inr ⟨hz0, _, hcl6, h3⟩
  have hC : RowCatches e.platform s m.cls ce.cls x := by
    rcases hcatch with h | ⟨h0, hlink, hcast⟩
    · exact Or.inl h
    · obtain ⟨c3', c4, hc3, hc4, hasg⟩ := Cond.castable_spec (va_Nw.use (A := args) rfl (hK.2.1 _ hcast rfl))
      cases Option.some.inj (hc3.symm.trans c3)
      obtain ⟨c5, hc5, hcl5⟩ := Cond.classLink_spec hown (hts _ hlink) e.platform hpl
      cases Option.some.inj (hc4.symm.trans hc5)
      exact Or.inr ⟨h0, c4, hcl5, hasg⟩
  obtain ⟨vm', X2, st2⟩ := X'.thenCaughtThrough q (g := F0 m pc ls st0) rfl (Steps.refl _) (by rw [hT]; exact c1) (by rw [c2]; rfl) (by obtain ⟨k9, h9, -⟩ := Vm.findClass_spec c3; exact ⟨k9, h9⟩) pre x suf (htb'.trans htb) hN hx hC
  obtain ⟨t, a1, b1⟩ := hkk (T'.setVm vm') hT X2
  exact ⟨t, st2.trans a1, b1⟩
theorem g_catch (hG : Gx D l s own args cc nL R nm KS Hb tb F X) (pre : List ExceptionTableEntry) (x : ExceptionTableEntry) (suf : List ExceptionTableEntry) (htb : tb = pre ++ x :: suf) {ci N : Nat} {T : u_T} {fs : List Value} (hcl : aCl[ci]? = some (E, T, N)) (p : Nat) (ho : ws[p]? = some (oC q ci fs)) (hpass : ∀ z ∈ pre, rwP own E pc z) (hx : covers x pc = true) {name : String} (hcatch : x.catchType = 0 ∨ (x.catchType ≠ 0 ∧ Cond.classLink own x.catchType name ∈ lw_all ∧ Cond.castable E name ∈ nwL)) (kk : F k n ws im x.handlerPc [.ref q] lv) : X k n ws im pc lv q := by
  obtain ⟨A, B, H0, J, Y, hJ, hB, hAK, hAB, hBB, rfl, rfl⟩ := hG
  intro H hH
  exact q_catch hJ pre x suf htb hcl (hH.k.o p ho) hpass hx hcatch (kk H hH)
variable {Post : Option Value → Heap → Prop} {PX : String → Nat → Heap → Prop}
/-- a call through an object of a method that returns or throws -/
theorem q_callV (q' : Nat) (hJ : Jq D l s own args cc nL R nm A H0 J Y tb) (hc : Vt D l y (ws_ y b L ret) f mc ms lo (.ref o :: As) H Post PX A1) (hw : GoodIn lw_all (wsV own index y.cls y (ws_ y b L ret))) (na : Nat) (hy : yOk y na) (hna : As.length = na) (hR : f + 1 ≤ R.frames ∧ 8 + (L + 11) + lo ≤ R.locals) {cj i : Nat} {w : Value} {T : u_T} {N : Nat} (ho : fld D cj o i w H) (hcl : aCl[cj]? = some (y.cls, T, N)) (hst : st = As.reverse ++ .ref o :: rest) (hrest : (rest.map fun v => v.category).sum ≤ 8) (d : decode cc pc = .ok (.invokevirtual index, 3)) (hf : k + mc ≤ R.cells ∧ n + ms ≤ R.slots) (hA1 : ∀ q, A1 q → A q ∨ H.size ≤ q) (e : pc + 3 = q')
    (kx : ∀ (E : String) (q : Nat) (H1 : Heap), PX E q H1 → fr A1 H H1 → Y H1 (k + mc) (n + ms) pc lv q)
    (kk : ∀ (r : Option Value) (H1 : Heap), Post r H1 → fr A1 H H1 → J H1 (k + mc) (n + ms) q' (r.toList ++ rest) lv) : J H k n pc st lv := by
  subst hst; subst e
  have hAs := hJ.j.as
  obtain ⟨hl, hs0, p, e, m, below, meth, c, Q, ⟨hx, hb, hml, hown, hts, hnm, hlk, hK, hA, hAs2, hOK⟩, htb, rfl, rfl⟩ := hJ
  intro ls locs hl' hS
  have hA2 : ∀ q, A1 q → A q := fun q h => (hA1 q h).elim id (fun h => hA q (Nat.le_trans hS.1 h))
  exact g_run (PostH := Post) (PXH := PX) (mc := mc) (ms := ms) (vq_runV (rm := rm_ f mc ms lo) (mc := mc) (ms := ms) (As := As) (rest := rest) ⟨hx, hb, hml, hown, hts⟩ (hc (hOK.on hAs2 hS.1 hS.2.1) (fun q h => hAs q (hA2 q h))) (cwV na hts hw rfl rfl rfl ⟨rfl, hy⟩ hR) ⟨cP_blind, fld_recv hK ho hcl, fun U hU hW => ⟨rfl, hU, hK.warm hW⟩⟩ rfl hna hl'.1 rfl (lv_room hrest) d hf) hS (fun q _ h => hA2 q h) hA2
    (fun q E H1 locs1 hp hfr1 hS1 => kx E q H1 hp hfr1 ls locs1 _ hl' hS1) (fun r H1 locs1 hp hfr1 hS1 => kk r H1 hp hfr1 ls locs1 hl' hS1)
theorem q_callVW (q' : Nat) (hJ : Jq D l s own args cc nL R nm A H0 J Y tb) (hc : Vt D l y (wsW_ y b L ret hh) f mc ms lo (.ref o :: As) H Post PX A1) (hw : GoodIn lw_all (wsV own index y.cls y (wsW_ y b L ret hh))) (na : Nat) (hy : yOk y na) (hna : As.length = na) (hR : f + 1 ≤ R.frames ∧ 8 + (L + 11) + lo ≤ R.locals) {cj i : Nat} {w : Value} {T : u_T} {N : Nat} (ho : fld D cj o i w H) (hcl : aCl[cj]? = some (y.cls, T, N)) (hst : st = As.reverse ++ .ref o :: rest) (hrest : (rest.map fun v => v.category).sum ≤ 8) (d : decode cc pc = .ok (.invokevirtual index, 3)) (hf : k + mc ≤ R.cells ∧ n + ms ≤ R.slots) (hA1 : ∀ q, A1 q → A q ∨ H.size ≤ q) (e : pc + 3 = q')
    (kx : ∀ (E : String) (q : Nat) (H1 : Heap), PX E q H1 → fr A1 H H1 → Y H1 (k + mc) (n + ms) pc lv q)
    (kk : ∀ (r : Option Value) (H1 : Heap), Post r H1 → fr A1 H H1 → J H1 (k + mc) (n + ms) q' (r.toList ++ rest) lv) : J H k n pc st lv := by
  subst hst; subst e
  have hAs := hJ.j.as
  obtain ⟨hl, hs0, p, e, m, below, meth, c, Q, ⟨hx, hb, hml, hown, hts, hnm, hlk, hK, hA, hAs2, hOK⟩, htb, rfl, rfl⟩ := hJ
  intro ls locs hl' hS
  have hA2 : ∀ q, A1 q → A q := fun q h => (hA1 q h).elim id (fun h => hA q (Nat.le_trans hS.1 h))
  exact g_run (PostH := Post) (PXH := PX) (mc := mc) (ms := ms) (vq_runVX (rm := rm_ f mc ms lo) (mc := mc) (ms := ms) (As := As) (rest := rest) ⟨hx, hb, hml, hown, hts⟩ (hc (hOK.on hAs2 hS.1 hS.2.1) (fun q h => hAs q (hA2 q h))) (vx_cwVW na hts hw rfl rfl rfl ⟨rfl, hy⟩ hR) ⟨cP_blind, fld_recv hK ho hcl, fun U hU hW => ⟨rfl, hU, hK.warm hW⟩⟩ rfl hna hl'.1 rfl (lv_room hrest) d hf) hS (fun q _ h => hA2 q h) hA2
    (fun q E H1 locs1 hp hfr1 hS1 => kx E q H1 hp hfr1 ls locs1 _ hl' hS1) (fun r H1 locs1 hp hfr1 hS1 => kk r H1 hp hfr1 ls locs1 hl' hS1)
/-- a static call of a method with handlers -/
theorem j_callSW (q' : Nat) (hJ : Jx D l s own args cc nL R nm A H0 J) (hc : Cw D l y b L ret hh f mc ms lo As H Post A1) (hw : GoodIn lw_all (va_wsS own index y (wsW_ y b L ret hh))) (na : Nat) (hy : yOk y na) (hna : As.length = na) (hR : f + 1 ≤ R.frames ∧ 8 + (L + 11) + lo ≤ R.locals) (hst : st = As.reverse ++ rest) (hrest : (rest.map fun v => v.category).sum ≤ 8) (d : decode cc pc = .ok (.invokestatic index, 3)) (hf : k + mc ≤ R.cells ∧ n + ms ≤ R.slots) (hA1 : ∀ q, A1 q → A q ∨ H.size ≤ q) (e : pc + 3 = q') (kk : ∀ (r : Option Value) (H1 : Heap), Post r H1 → fr A1 H H1 → J H1 (k + mc) (n + ms) q' (r.toList ++ rest) lv) : J H k n pc st lv := by
  subst hst; subst e
  have hAs := hJ.as
  refine hJ.go fun ls locs hx hb hml hown hts hnm hK hA hOK hl hS ret' => ?_
  have hA2 : ∀ q, A1 q → A q := fun q h => (hA1 q h).elim id (fun h => hA q (Nat.le_trans hS.1 h))
  exact j_run (vx_runSW (As := As) (rest := rest) ⟨hx, hb, hml, hown, hts⟩ (hc hOK (fun q h => hAs q (hA2 q h))) (vx_cwSW na hts hw rfl rfl rfl hy hR) ⟨cP_blind, fun U hU hW => ⟨rfl, hU, hK.warm hW⟩⟩ rfl hna hl.1 rfl (lv_room hrest) d hf) hS (fun q _ h => hA2 q h) hA2 (fun r H1 locs1 hp hfr hS1 => ret' _ _ _ _ _ _ (kk r H1 hp hfr) ls locs1 hl hS1)
/-- a static call of a method that owns cells and may throw -/
theorem g_callS (q' : Nat) (hG : Gx D l s own args cc nL R nm KS Hb tb F X) {Po : Option Value → va_W → va_W → Prop} {Px : PXT} {ws1 wr im1 : va_W} (hc : Gc D l y b L ret f mc ms lo KS Hb As ws1 im1 Po Px) (hws : ws = ws1 ++ wr) (him : ∀ c ∈ im1, c ∈ im) (hw : GoodIn lw_all (va_wsS own index y (ws_ y b L ret))) (na : Nat) (hy : yOk y na) (hna : As.length = na) (hR : f + 1 ≤ R.frames ∧ 8 + (L + 11) + lo ≤ R.locals) (hst : st = As.reverse ++ rest) (hrest : (rest.map fun v => v.category).sum ≤ 8) (d : decode cc pc = .ok (.invokestatic index, 3)) (hf : k + mc ≤ R.cells ∧ n + ms ≤ R.slots) (e : pc + 3 = q')
    (kx : ∀ (E : String) (a : Nat) (ws' im' : va_W), Px E a ws' im' → exq E a ws' → X (k + mc) (n + ms) (ws' ++ wr) (im' ++ im) pc lv a)
    (kk : ∀ (r : Option Value) (ws' im' : va_W), Po r ws' im' → F (k + mc) (n + ms) (ws' ++ wr) (im' ++ im) q' (r.toList ++ rest) lv) : F k n ws im pc st lv := by
  subst hws; subst hst; subst e
  obtain ⟨A, B, H0, J, Y, hJ, hB, hAK, hAB, hBB, rfl, rfl⟩ := hG
  intro H hH
  obtain ⟨hl, hs0, p, e, m, below, meth, c, Q, ⟨hx, hb, hml, hown, hts, hnm, hlk, hK, hA, hAs2, hOK⟩, htb, rfl, rfl⟩ := hJ
  intro ls locs hl' hS
  have hfr : ∀ q, H.size ≤ q → A q := fun q h => hA q (Nat.le_trans hS.1 h)
  have hA2 : ∀ q, (q ∈ adr ws1 ∨ H.size ≤ q) → A q := fun q h => (hH.mem q h).elim id (hfr q)
  exact g_run (PostH := gPo D KS Hb ws1 im1 H Po) (PXH := gPx D KS Hb ws1 im1 H Px) (mc := mc) (ms := ms) (vq_runS (rm := rm_ f mc ms lo) (mc := mc) (ms := ms) (As := As) (rest := rest) ⟨hx, hb, hml, hown, hts⟩ (hc H hB (hH.pre him hAK) (hOK.on hAs2 hS.1 hS.2.1) (fun q h => hAs2 q (hA2 q h))) (va_cwS na hts hw rfl rfl rfl hy hR) ⟨cP_blind, fun U hU hW => ⟨rfl, hU, hK.warm hW⟩⟩ rfl hna hl'.1 rfl (lv_room hrest) d hf) hS (fun q _ h => hA2 q h) hA2
    (fun q E H1 locs1 hp hfr1 hS1 => by
      obtain ⟨ws', im', hp, hex, h'⟩ := hp
      exact kx E q ws' im' hp hex H1 (hH.call him h' hfr1 hAK hfr hAB hBB) ls locs1 _ hl' hS1)
    (fun r H1 locs1 hp hfr1 hS1 => by
      obtain ⟨ws', im', hp, h'⟩ := hp
      exact kk r ws' im' hp H1 (hH.call him h' hfr1 hAK hfr hAB hBB) ls locs1 hl' hS1)
/-- a new exception: the rows new, dup, invokespecial -/
theorem g_make (hG : Gx D l s own args cc nL R nm KS Hb tb F X) {cls : String} {names : List String} {ik ic ci : Nat} {T0 : u_T} (hci : aCl[ci]? = some (cls, T0, 0)) (hcls : Bundle.fit cls = true) (hnames : ∀ n ∈ names, Bundle.fit n = true) (hk : Cond.classLink own ik cls ∈ lw_all) (hini : Cond.initialized cls ∈ lw_all) (hat : ∀ w ∈ vx_at0 own ic cls names, w ∈ lw_all ∨ w ∈ nwL ∧ nwOk w = true)
    (hgood : ∀ w ∈ Cond.classLink own ik cls :: Cond.initialized cls :: vx_at0 own ic cls names, vx_ot w = true)
    (d0 : decode cc pc = .ok (.new ik, 3)) (d3 : decode cc (pc + 3) = .ok (.dup, 1)) (d4 : decode cc (pc + 4) = .ok (.invokespecial ic, 3))
    (hR : names.length + 3 < R.frames ∧ 8 + (13 * (names.length + 1) + 42) ≤ R.locals ∧ k + 1 ≤ R.cells ∧ n + 6 ≤ R.slots) (hrest : (rest.map fun v => v.category).sum ≤ 8)
    (kk : ∀ (q : Nat), F (k + 1) (n + 6) (oC q ci [] :: ws) im (pc + 7) (.ref q :: rest) lv) : F k n ws im pc rest lv := by
  obtain ⟨A, B, H0, J, Y, hJ, hB, hAK, hAB, hBB, rfl, rfl⟩ := hG
  intro H hH
  obtain ⟨hl, hs0, p, e, m, below, meth, c, Q, ⟨hx, hb, hml, hown, hts, hnm, hlk, hK, hA, hAs2, hOK⟩, htb, rfl, rfl⟩ := hJ
  intro ls locs hl' hS
  subst hs0
  have hZ : ∀ {n d : String}, (Bundle.tN, n, d) ∈ stX → vx_Zq Bundle.tN n d A s s.heap := fun h => ((hK.2.2.2.2.1.2.2 _ h).narrow hAs2).kept (fun a ha _ => hOK.2 a ha)
  refine vx_make1 (D := D.1) (cl := aCl) (tys := aTys D.2.1) (ws := []) (A := A) hx hb hl hown hcls hnames (hts _ hk) (hts _ hini) (fun w hw => (hat w hw).elim (hts w) (fun h => va_Nw.use (nw_tab h.2) (hK.2.1 w h.1 h.2))) hgood (hZ (by simp [stX])) (hZ (by simp [stX])) hS (hl'.1.trans hml.symm) d0 d3 d4 hK.1 (fun j y hy => by simp at hy) ⟨fun i j p q hi => by simp at hi, fun j y hy => by simp at hy⟩ hA hci hR.1 (by omega) hR.2.2.1 hR.2.2.2 (fun q H1 hq hz ho hP hD hS1 => ?_)
  subst hq
  exact kk H.size H1 (hH.cons2 (hP 0 _ rfl) hz ho (hA _ hS.1)) ls locs hl' hS1
end QROWS
