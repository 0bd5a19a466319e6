/-! the laws of callees that return or throw, the exception's address told: they follow the texts of the part EXCEPTIONS word by word -/
set_option maxRecDepth 100000
def vq_T (XC : String → Addr → State → State → Prop) (st : State) (q : Addr) (t : State) (mc ms : Nat) (free : Addr → Prop) : Prop :=
  ∃ (E : String) (ce : Cell) (L : List Loc), XC E q st t ∧ t.heap[q]? = some ce ∧ ce.vm = .none ∧ st.vm.findClass E = some ce.cls ∧ st.WarmedH t.vm ∧ st.sameButNew ({ t with vm := st.vm } : State) L mc ms ∧ ∀ z ∈ L, free z.base
def vq_Q (Qc : Array Value → State → Outcome → State → Prop) (XC : String → Addr → State → State → Prop) (mc ms : Nat) (free : Addr → Prop) : Array Value → State → Outcome → State → Prop := fun a st o t =>
  (Qc a st o t ∧ ∃ L, FrameEnd st o t L mc ms ∧ ∀ q ∈ L, free q.base) ∨ ∃ q, o = .threw q ∧ vq_T XC st q t mc ms free
def vq_Met (l : Launch) (y : MethodName) (ws : List Cond) (rm : Room) (Pc : Array Value → State → Prop) (Qc : Array Value → State → Outcome → State → Prop) (XC : String → Addr → State → State → Prop) (mc ms : Nat) (free : Addr → Prop) : Prop :=
  MetFree l y (headSpec ws rm) Pc (fun _ _ _ _ _ => True) (vq_Q Qc XC mc ms free)
def vq_Post (XC : String → Addr → State → State → Prop) (mc ms : Nat) (free : Addr → Prop) : Pt → Array Value → Addr → Pt → Prop := fun A a q B =>
  ∃ (g : JFrame) (mk : MethodId) (t : State) (L : List Loc) (E : String) (ce : Cell), B.U.heap = t.heap ∧ B.U.vm = t.vm ∧ XC E q (A.U.calling g mk a) t ∧ t.heap[q]? = some ce ∧ ce.vm = .none ∧ A.U.vm.findClass E = some ce.cls ∧ B.locs = A.locs ++ L ∧ (∀ z ∈ L, free z.base) ∧ B.cells = A.cells + mc ∧ B.slots = A.slots + ms
section VQP
variable {l : Launch} {R : Room} {p : Program} {e : Env} {below : List Frame} {s : State} {sargs : Array Value} {y : MethodName} {len W9 : Nat}
theorem vq_back {ws : List Cond} {rm : Room} {Pc : Array Value → State → Prop} {Qc : Array Value → State → Outcome → State → Prop} {XC : String → Addr → State → State → Prop} {mc ms : Nat} {free : Addr → Prop} {bytes : ByteArray} {maxL : Nat} {ret : Option FieldType}
    (hM : vq_Met l y ws rm Pc Qc XC mc ms free) (hblind : FrameBlind Pc) (hrc : rm.cells = mc) (hrs : rm.slots = ms)
    (hframes : rm.frames + 1 ≤ R.frames) (hlocals : W9 + (maxL + 11) + rm.locals ≤ R.locals)
    (hws : ∀ w ∈ ws, ∀ a' U, s.WarmedH U.vm → w.before a' U = true) (hcode : Cond.code y bytes maxL ret ∈ ws) (hinit : ∀ a' U, s.WarmedH U.vm → (Cond.initialized y.cls).before a' U = true) :
    vx_Back l R p e below s sargs y len W9 (PreOf R mc ms Pc) (PostOf Qc mc ms free) (vq_Post XC mc ms free) := by
  intro m meth c A g ig mk a X hg hsize hdg hW hn hp
  have h1 : (headSpec ws rm).pre.before a A.U = true := atoms_intro fun w hw => hws w hw _ _ X.warmed
  have h2 : (Cond.code y bytes maxL ret).before a A.U = true := hws _ hcode _ _ X.warmed
  have h3 : (Cond.initialized y.cls).before a A.U = true := hinit _ _ X.warmed
  have h4 : A.cells + (headSpec ws rm).room.cells ≤ R.cells := by rw [show (headSpec ws rm).room.cells = mc from hrc]; exact hp.1
  have h5 : A.slots + (headSpec ws rm).room.slots ≤ R.slots := by rw [show (headSpec ws rm).room.slots = ms from hrs]; exact hp.2.1
  have hPc : Pc a (A.U.calling g mk a) := hblind _ _ _ _ hp.2.2
  obtain ⟨U, Ls, c0, s0⟩ := A
  dsimp only [Pt.U, Pt.locs, Pt.cells, Pt.slots] at h1 h2 h3 h4 h5 X hn hPc ⊢
  obtain ⟨methY, cY, hmY, hcY, -, hlY, -, -, -, -⟩ := Cond.code_spec hn h2
  obtain ⟨kY, hkY, -⟩ := className_of_methodNamed hn
  have hinitY : kY.init = .initialized := Cond.initialized_spec (findClass_of_methodNamed hn) hkY h3
  have h : At U g.method c below := by rw [hg]; exact X.here
  have hlocals9 : W9 + (maxL + 11) + (headSpec ws rm).room.locals ≤ R.locals := hlocals
  have happ : (headSpec ws rm).appliesLoose y e.platform (U.calling g mk a) = true :=
    Spec.appliesLoose_calling (g := g) h hdg hn hkY hinitY
      (X.room_calling (g := g) (R' := (headSpec ws rm).room) hsize hmY hcY hframes (by rw [hlY]; omega) h4 h5) h1
  obtain ⟨mid, hmid⟩ := h.above
  have hfr : (U.setTop g).frames = (.java g :: mid) ++ below := by rw [State.frames_setTop' g h.top, hmid]; rfl
  obtain ⟨o, s₂, hsteps, -, hend, hq⟩ := Steps.callFree hM p X.admits X.cas X.clock (acts := []) hfr happ hPc trivial
  have hq' : vq_Q Qc XC mc ms free a (U.calling g mk a) o s₂ := hq
  rw [State.frames_setTop' g h.top] at hend
  obtain ⟨g₀, hg0⟩ := Option.isSome_iff_exists.mp h.top
  obtain ⟨r, hr⟩ := State.topJava?_eq_some.mp hg0
  have hr' : (({ U with heap := s₂.heap, slotsUsed := s₂.slotsUsed } : State).setVm s₂.vm).frames = .java g₀ :: r := hr
  rcases hq' with ⟨hqc, L, hfe, hL⟩ | ⟨q, rfl, E, ce, L, hx, hce, hcv, hcl, hW₂, hsm, hL⟩
  · obtain ⟨⟨v, rfl⟩, hW₂, e2, q2, q3, q4, q5, q6⟩ := id hfe
    have e3 : s₂ = ({ (U.calling g mk a).setFrames s₂.frames with heap := s₂.heap, slotsUsed := s₂.slotsUsed } : State).setVm s₂.vm := by
      have : s₂ = ({ s₂ with vm := (U.calling g mk a).vm } : State).setVm s₂.vm := rfl
      rw [e2] at this
      exact this
    obtain ⟨c₂, i₂, len₂, hc₂, hd₂, hf₂⟩ := hend
    have hW' : U.WarmedH s₂.vm := hW₂
    have hcc : c₂ = c := by
      have h1 : s₂.code? g.method = U.code? g.method := by
        rw [State.code?_eq, State.code?_eq, hW'.alike.method?]
      exact Option.some.inj (hc₂.symm.trans (h1.trans h.code))
    subst hcc
    have hlen : len₂ = len := by rw [hdg] at hd₂; cases hd₂; rfl
    subst hlen
    have hs₂ : s₂ = (({ U with heap := s₂.heap, slotsUsed := s₂.slotsUsed } : State).setVm s₂.vm).setTop { g with pc := g.pc + len₂, stack := v.toList ++ g.stack } := by
      refine e3.trans ?_
      rw [hf₂, State.calling_eq h.top, State.setFrames_setFrames, State.setTop_of_frames _ hr', hr]
      rfl
    have hsame : U.sameButNew ({ U with heap := s₂.heap, slotsUsed := s₂.slotsUsed } : State) L mc ms := by
      refine ⟨?_, q2, q3, q4, q5, q6⟩
      obtain ⟨t, ht, -⟩ := State.frames_cons hr
      show ({ U with heap := s₂.heap, slotsUsed := s₂.slotsUsed } : State) = { U.setFrames U.frames with heap := s₂.heap, slotsUsed := s₂.slotsUsed }
      rw [State.setFrames_self ht]
    subst hg
    refine Or.inl ⟨v, ⟨(({ U with heap := s₂.heap, slotsUsed := s₂.slotsUsed } : State).setVm s₂.vm), Ls ++ L, c0 + mc, s0 + ms⟩,
      ⟨X.admits, X.cas, X.clock, X.frames, X.room, X.hears, X.method, X.code, (X.here.setHeapUsed s₂.heap s₂.slotsUsed).setVm hW'.alike, X.tail, State.WarmedH.trans X.warmed hW', X.limits, X.bytes, X.same.trans (hsame.setVm s.vm)⟩,
      ⟨g, mk, s₂, L, rfl, rfl, hqc, rfl, hL, rfl, rfl⟩, ?_⟩
    show Steps p.tables e below _ ((({ U with heap := s₂.heap, slotsUsed := s₂.slotsUsed } : State).setVm s₂.vm).setTop { g with pc := g.pc + len₂, stack := v.toList ++ g.stack })
    rw [← hs₂]
    exact hsteps
  · obtain ⟨e2, q2, q3, q4, q5, q6⟩ := id hsm
    have e3 : s₂ = ({ (U.calling g mk a).setFrames s₂.frames with heap := s₂.heap, slotsUsed := s₂.slotsUsed } : State).setVm s₂.vm := by
      have : s₂ = ({ s₂ with vm := (U.calling g mk a).vm } : State).setVm s₂.vm := rfl
      rw [e2] at this
      exact this
    have hf₂ : s₂.frames = .throwing q :: .java g :: U.frames.tail := hend
    have hW' : U.WarmedH s₂.vm := hW₂
    have hs₂ : s₂ = ((({ U with heap := s₂.heap, slotsUsed := s₂.slotsUsed } : State).setVm s₂.vm).setTop g).pushFrame (.throwing q) := by
      refine e3.trans ?_
      rw [hf₂, State.calling_eq h.top, State.setFrames_setFrames, State.pushFrame, State.frames_setTop _ hr', State.setTop_of_frames _ hr', State.setFrames_setFrames, hr]
      rfl
    have hsame : U.sameButNew ({ U with heap := s₂.heap, slotsUsed := s₂.slotsUsed } : State) L mc ms := by
      refine ⟨?_, q2, q3, q4, q5, q6⟩
      obtain ⟨t, ht, -⟩ := State.frames_cons hr
      show ({ U with heap := s₂.heap, slotsUsed := s₂.slotsUsed } : State) = { U.setFrames U.frames with heap := s₂.heap, slotsUsed := s₂.slotsUsed }
      rw [State.setFrames_self ht]
    subst hg
    refine Or.inr ⟨q, ⟨(({ U with heap := s₂.heap, slotsUsed := s₂.slotsUsed } : State).setVm s₂.vm), Ls ++ L, c0 + mc, s0 + ms⟩,
      ⟨X.admits, X.cas, X.clock, X.frames, X.room, X.hears, X.method, X.code, (X.here.setHeapUsed s₂.heap s₂.slotsUsed).setVm hW'.alike, X.tail, State.WarmedH.trans X.warmed hW', X.limits, X.bytes, X.same.trans (hsame.setVm s.vm)⟩,
      ⟨g, mk, s₂, L, E, ce, rfl, rfl, hx, hce, hcv, hcl, rfl, hL, rfl, rfl⟩, ?_⟩
    show Steps p.tables e below _ (((({ U with heap := s₂.heap, slotsUsed := s₂.slotsUsed } : State).setVm s₂.vm).setTop g).pushFrame (.throwing q))
    rw [← hs₂]
    exact hsteps
end VQP
def vq_Run (p : Program) (l : Launch) (e : Env) (R : Room) (s : State) (m : MethodId) (args : Array Value) (below : List Frame) (meth : Method) (c : Code) (H : Heap) (locs : List Loc) (cells slots mc ms : Nat) (g : JFrame) (rest : List Value) (Qa : State → Outcome → State → Prop) (XC : String → Addr → State → State → Prop) (free : Addr → Prop) : Prop :=
  ∀ T : State, T.heap = H → Stand p l e R s m args below meth c T locs cells slots →
    (∃ (v : Option Value) (st₀ t T' : State) (L : List Loc), st₀.heap = H ∧ Stand p l e R s m args below meth c T' (locs ++ L) (cells + mc) (slots + ms) ∧ (∀ q ∈ L, free q.base) ∧ T'.heap = t.heap ∧ T'.vm = t.vm ∧ Qa st₀ (.returned v) t ∧
      Goes p e below T g T' { g with pc := g.pc + 3, stack := v.toList ++ rest }) ∨
    (∃ (q : Addr) (st₀ t T' : State) (L : List Loc) (E : String) (ce : Cell), st₀.heap = H ∧ Stand p l e R s m args below meth c T' (locs ++ L) (cells + mc) (slots + ms) ∧ (∀ z ∈ L, free z.base) ∧ T'.heap = t.heap ∧ T'.vm = t.vm ∧ XC E q st₀ t ∧ t.heap[q]? = some ce ∧ ce.vm = .none ∧ s.vm.findClass E = some ce.cls ∧
      Steps p.tables e below (T.setTop g) ((T'.setTop { g with stack := rest }).pushFrame (.throwing q)))
section VQR
variable {p : Program} {l : Launch} {e : Env} {R : Room} {s : State} {m : MethodId} {args : Array Value} {below : List Frame} {meth : Method} {c : Code} {H : Heap} {locs : List Loc} {cells slots : Nat}
variable {y : MethodName} {bytes cc : ByteArray} {maxL nL mc ms n index : Nat} {ret : Option FieldType} {ws : List Cond} {rm : Room} {Pc : Array Value → State → Prop} {Qc : Array Value → State → Outcome → State → Prop} {XC : String → Addr → State → State → Prop} {free : Addr → Prop} {Ts : List Cond} {own C : String} {b : Addr} {As rest : List Value} {g : JFrame}
theorem vq_callBack (cb : CallB R s args own index y bytes maxL ret ws rm mc ms n) (hM : vq_Met l y ws rm Pc Qc XC mc ms free) (hbl : FrameBlind Pc) : vx_Back l R p e below s args y 3 8 (PreOf R mc ms Pc) (PostOf Qc mc ms free) (vq_Post XC mc ms free) := by
  obtain ⟨hrc, hrs, hfr, hlo, hws, hcw, -, hini, -⟩ := cb
  exact vq_back (bytes := bytes) (maxL := maxL) (ret := ret) hM hbl hrc hrs hfr hlo hws hcw (fun a' U hW => word_at hW (Or.inl (by first | rfl | simp [Cond.onTables, Cond.keeps, Cond.steady])) hini)
theorem vq_runV (S : CallFix p m c cc nL s args Ts own) (hM : vq_Met l y ws rm Pc Qc XC mc ms free) (cw : CallW R s args own C index y bytes maxL ret ws rm mc ms n) (hp : PreV s H C b Pc As)
    (hg : g.method = m) (hn : As.length = n) (hsize : g.locals.size = nL) (hstack : g.stack = As.reverse ++ .ref b :: rest) (hW : 2 * g.monitorRoom + (rest.map fun v => v.category).sum ≤ 8) (hdg : decode cc g.pc = .ok (.invokevirtual index, 3)) (hf : cells + mc ≤ R.cells ∧ slots + ms ≤ R.slots) :
    vq_Run p l e R s m args below meth c H locs cells slots mc ms g rest (Qc (Value.ref b :: As).toArray) XC free := by
  have hK : vx_Back l R p e below s args y 3 8 (PreOf R mc ms Pc) (PostOf Qc mc ms free) (vq_Post XC mc ms free) := vq_callBack cw.1 hM hp.1
  obtain ⟨⟨-, -, -, -, -, -, hcode, -, hy, hlen, hl⟩, hin, hse⟩ := cw
  obtain ⟨hx, hb, hml, ho, -⟩ := S
  obtain ⟨-, ⟨cellB, hcB, hoB, hclB⟩, hPc⟩ := hp
  intro T hT X
  rcases vx_callV X hx (C := C) (bytes := bytes) (maxL := maxL) (ret := ret) ho hl hin hse hcode hy hK (by rw [hT]; exact hcB) hoB hclB hg (hsize.trans hml.symm) (argsL := As) (rest := rest) (fun sig h => hn.trans (hlen sig h)) hstack hW (by rw [hb]; exact hdg)
    (fun vm₁ hW₁ => ⟨hf.1, hf.2, hPc (T.setVm vm₁) hT hW₁⟩) with ⟨v, vm₁, ⟨U', l2, c2, s2⟩, hW₁, X', ⟨g', mk, t, L, e1, e2, hq, h1, hL, h2, h3⟩, st⟩ | ⟨q, vm₁, ⟨U', l2, c2, s2⟩, hW₁, X', ⟨g', mk, t, L, E, ce, e1, e2, hq, hce, hcv, hcl, h1, hL, h2, h3⟩, st⟩
  · dsimp only [Pt.U, Pt.locs, Pt.cells, Pt.slots] at X' e1 e2 h1 h2 h3 st
    subst h1; subst h2; subst h3
    exact Or.inl ⟨v, (T.setVm vm₁).calling g' mk (Value.ref b :: As).toArray, t, U', L, hT, X', hL, e1, e2, hq, st⟩
  · dsimp only [Pt.U, Pt.locs, Pt.cells, Pt.slots] at X' e1 e2 h1 h2 h3 st hcl
    subst h1; subst h2; subst h3
    exact Or.inr ⟨q, (T.setVm vm₁).calling g' mk (Value.ref b :: As).toArray, t, U', L, E, ce, hT, X', hL, e1, e2, hq, hce, hcv, vx_cls hW₁ hcl, st⟩
end VQR
section VQE
variable {p : Program} {l : Launch} {e : Env} {R : Room} {s : State} {m : MethodId} {args : Array Value} {below : List Frame} {meth : Method} {c : Code} {H : Heap} {locs : List Loc} {cells slots : Nat} {Q : State → Prop}
variable {mc ms : Nat} {free : Addr → Prop} {A0 A1 : Nat → Prop} {H0 : Heap} {a : Array Value} {ls : Array Slot} {st0 rest : List Value}
variable {Qc : Array Value → State → Outcome → State → Prop} {XC : String → Addr → State → State → Prop}
def vq_MQ (below : List Frame) (Qc : Array Value → State → Outcome → State → Prop) (XC : String → Addr → State → State → Prop) (a : Array Value) (s : State) (mc ms : Nat) (free : Addr → Prop) : State → Prop := fun t =>
  ∃ o, t.status = .running ∧ Ended t below o ∧ vq_Q Qc XC mc ms free a s o t
theorem vq_ret {g : JFrame} {mc ms : Nat} (k : W p l e R s m args below meth c H locs cells slots (MQ below Qc args s mc ms free) g) : W p l e R s m args below meth c H locs cells slots (vq_MQ below Qc XC args s mc ms free) g := by
  intro T hT X
  obtain ⟨t, a1, o, b1, b2, b3, b4⟩ := k T hT X
  exact ⟨t, a1, o, b1, b2, Or.inl ⟨b3, b4⟩⟩
theorem vq_out {pc : Nat} {E : String} {ce : Cell} {q : Addr} {mc ms : Nat} (hout : ∀ x ∈ c.exceptionTable.toList, covers x pc = false) (hlocks : meth.locks = false) (hcell : H[q]? = some ce) (hv : ce.vm = .none) (hcl : s.vm.findClass E = some ce.cls)
    (hx : ∀ t : State, t.heap = H → s.vm.Alike t.vm → XC E q s t) (hf : ∀ z ∈ locs, free z.base) (hc : cells ≤ mc) (hs : slots ≤ ms) :
    vx_W p l e R s m args below meth c H locs cells slots (vq_MQ below Qc XC args s mc ms free) (F0 m pc ls rest) q := by
  intro T hT X
  obtain ⟨st1, hrun, hend, hW, hsm⟩ := X.leaveThrown q (g := F0 m pc ls rest) rfl rfl rfl hout hlocks
  have hcell9 : (T.setFrames (.throwing q :: below)).heap[q]? = some ce := by
    show T.heap[q]? = some ce
    rw [hT]; exact hcell
  exact ⟨_, st1, .threw q, hrun, hend, Or.inr ⟨q, rfl, E, ce, locs, hx _ hT hW.alike, hcell9, hv, hcl, hW, hsm.mono hc hs, hf⟩⟩
end VQE
section VQB
variable {l : Launch}
theorem vq_ofW {y : MethodName} {ws ws' : List Cond} {rm : Room} {Pc : Array Value → State → Prop} {Qc : Array Value → State → Outcome → State → Prop} {XC : String → Addr → State → State → Prop} {mc ms : Nat} {free : Addr → Prop} {cc : ByteArray} {maxL : Nat} {ret : Option FieldType}
    (hy : plainName y.cls = true) (hw : ws = Cond.code y cc maxL ret :: ws')
    (body : ∀ p e s m args below meth c s₁, BodyLoose p l y (headSpec ws rm) cc maxL ret e s m args below meth c s₁ → c.maxLocals = maxL → (∀ x ∈ c.exceptionTable.toList, False) → Pc args s →
      W p l e (headSpec ws rm).room s m args below meth c s.heap [] 0 0 (vq_MQ below Qc XC args s mc ms free) (entryFrame m args maxL)) : vq_Met l y ws rm Pc Qc XC mc ms free := by
  refine MetFree.of_bodyS (code := cc) (maxLocals := maxL) (ret := ret) hy ?_ ?_
  · intro args s m h hn
    obtain ⟨meth, c, h1, h2, h3, h4, h5, h6, -, -⟩ := Cond.code_spec hn (atoms_spec (ws := ws) h _ (by rw [hw]; exact List.mem_cons_self))
    exact ⟨meth, c, h1, h2, h3, h4, h5, h6⟩
  · intro p e s m args below meth c s₁ B hml hP _
    have hh0 : s₁.heap = s.heap := by rw [B.state]; rfl
    have ht : ∀ x ∈ c.exceptionTable.toList, False := by
      obtain ⟨meth9, c9, h1, h2, -, -, -, -, h7, -⟩ := Cond.code_spec B.named (atoms_spec (ws := ws) B.pre _ (by rw [hw]; exact List.mem_cons_self))
      cases Option.some.inj (h1.symm.trans B.method)
      cases Option.some.inj (h2.symm.trans (Stand.of_body B).code)
      intro x hx
      rw [Array.isEmpty_iff.mp h7] at hx
      cases hx
    obtain ⟨t, a1, o, b1, b2, b3⟩ := body p e s m args below meth c s₁ B hml ht hP s₁ hh0 (Stand.of_body B)
    exact ⟨t, o, a1, b1, b2, b3⟩
end VQB
/-! G: the judgement F with its end by an exception -/
abbrev FX : Type := Nat → Nat → va_W → va_W → Nat → List (Nat × Value) → Nat → Prop
def Jq (D : DD) (l : Launch) (s : State) (own : String) (args : Array Value) (cc : ByteArray) (nL : Nat) (R : Room) (nm : String) (A : Nat → Prop) (H0 : Heap) (J : Heap → Nat → Nat → Nat → List Value → List (Nat × Value) → Prop) (X : XJ) (tb : List ExceptionTableEntry) : Prop :=
  l.stackTraces = false ∧ s.heap = H0 ∧ ∃ (p : Program) (e : Env) (m : MethodId) (below : List Frame) (meth : Method) (c : Code) (Q : State → Prop), (p.tables.exec = Jvm.exec ∧ c.code = cc ∧ c.maxLocals = nL ∧ s.vm.findClass own = some m.cls ∧ (∀ w ∈ lw_all, w.before args s = true) ∧ meth.name = nm ∧ meth.locks = false ∧ KK D s ∧ (∀ q, H0.size ≤ q → A q) ∧ (∀ q, A q → D.2.2.2.size ≤ q) ∧ HOK D H0) ∧ c.exceptionTable.toList = tb ∧
    (J = fun H k n pc st lv => ∀ ls locs, lv_has ls nL lv → va_S A H0 H locs → W p l e R s m args below meth c H locs k n Q (F0 m pc ls st)) ∧
    (X = fun H k n pc lv q => ∀ ls locs st, lv_has ls nL lv → va_S A H0 H locs → vx_W p l e R s m args below meth c H locs k n Q (F0 m pc ls st) q)
def Gx (D : DD) (l : Launch) (s : State) (own : String) (args : Array Value) (cc : ByteArray) (nL : Nat) (R : Room) (nm : String) (KS : Nat → Prop) (Hb : Heap) (tb : List ExceptionTableEntry) (F : FJ) (X : FX) : Prop :=
  ∃ (A B : Nat → Prop) (H0 : Heap) (J : Heap → Nat → Nat → Nat → List Value → List (Nat × Value) → Prop) (Y : XJ), Jq D l s own args cc nL R nm A H0 J Y tb ∧ FB D KS Hb ∧ (∀ q, A q → KS q ∨ Hb.size ≤ q) ∧ (∀ q, A q → B q) ∧ (∀ q, q < Hb.size → ¬ KS q → B q) ∧ (F = fun k n ws im pc st lv => ∀ H, Fst D KS Hb A B ws im H → J H k n pc st lv) ∧ X = fun k n ws im pc lv q => ∀ H, Fst D KS Hb A B ws im H → Y H k n pc lv q
/-- the exception q, of class E, among the cells -/
def exq (E : String) (q : Nat) (ws : va_W) : Prop := ∃ ci fs T N, oC q ci fs ∈ ws ∧ aCl[ci]? = some (E, T, N)
abbrev PXT : Type := String → Nat → va_W → va_W → Prop
def gPo (D : DD) (KS : Nat → Prop) (Hb : Heap) (ws im : va_W) (H0 : Heap) (Post : Option Value → va_W → va_W → Prop) : Option Value → Heap → Prop := fun r H => ∃ ws' im', Post r ws' im' ∧ Fst D KS Hb (fun q => q ∈ adr ws ∨ H0.size ≤ q) (fun q => q ∈ adr ws ∨ H0.size ≤ q ∨ q ∈ adr im ∨ (q < Hb.size ∧ ¬ KS q)) ws' im' H
def gPx (D : DD) (KS : Nat → Prop) (Hb : Heap) (ws im : va_W) (H0 : Heap) (PX : PXT) : String → Nat → Heap → Prop := fun E q H => ∃ ws' im', PX E q ws' im' ∧ exq E q ws' ∧ Fst D KS Hb (fun q => q ∈ adr ws ∨ H0.size ≤ q) (fun q => q ∈ adr ws ∨ H0.size ≤ q ∨ q ∈ adr im ∨ (q < Hb.size ∧ ¬ KS q)) ws' im' H
/-- from the cells ws the method returns (Post) or throws (PX) -/
def Gc (D : DD) (l : Launch) (y : MethodName) (b : ByteArray) (Lm : Nat) (ret : Option FieldType) (f mc ms lo : Nat) (KS : Nat → Prop) (Hb : Heap) (As : List Value) (ws im : va_W) (Post : Option Value → va_W → va_W → Prop) (PX : PXT) : Prop :=
  ∀ H0, FB D KS Hb → Fst D KS Hb (fun q => KS q ∨ Hb.size ≤ q) (fun _ => True) ws im H0 → HOK D H0 → (∀ q, (q ∈ adr ws ∨ H0.size ≤ q) → D.2.2.2.size ≤ q) → vq_Met l y (ws_ y b Lm ret) (rm_ f mc ms lo) (cP D As H0) (cQ (gPo D KS Hb ws im H0 Post) (fun q => q ∈ adr ws ∨ H0.size ≤ q))
    (fun E q st t => gPx D KS Hb ws im H0 PX E q t.heap ∧ va_F (fun q => q ∈ adr ws ∨ H0.size ≤ q) st t) mc ms (fun q => q ∈ adr ws ∨ H0.size ≤ q)
/-- the body's end by an exception -/
def GO (tb : List ExceptionTableEntry) (mc ms : Nat) (PX : PXT) (X : FX) : Prop := ∀ (k n : Nat) (ws im : va_W) (pc : Nat) (lv : List (Nat × Value)) (q : Nat) (E : String) (ws' im' : va_W), k ≤ mc → n ≤ ms → (∀ x ∈ tb, covers x pc = false) → ws'.Sublist ws → (∀ q ∈ im', q ∈ im) → exq E q ws' → PX E q ws' im' → X k n ws im pc lv q
section GXS
variable {D : DD} {l : Launch} {s : State} {own : String} {args : Array Value} {cc : ByteArray} {nL : Nat} {R : Room} {nm : String} {A : Nat → Prop} {H0 : Heap} {J : Heap → Nat → Nat → Nat → List Value → List (Nat × Value) → Prop} {Y : XJ} {KS : Nat → Prop} {Hb : Heap} {tb : List ExceptionTableEntry} {F : FJ} {X : FX}
theorem Jq.j (h : Jq D l s own args cc nL R nm A H0 J Y tb) : Jx D l s own args cc nL R nm A H0 J := by
  obtain ⟨-, -, p, e, m, below, meth, c, Q, ⟨h1, h2, h3, h4, h5, h6, h7, h8, h9, h10, h11⟩, -, hJ, -⟩ := h
  exact ⟨p, e, m, below, meth, c, Q, h1, h2, h3, h4, h5, h6, h7, h8, h9, h10, h11, hJ⟩
theorem Gx.f (h : Gx D l s own args cc nL R nm KS Hb tb F X) : Fx D l s own args cc nL R nm KS Hb F := by
  obtain ⟨A, B, H0, J, Y, hJ, h1, h2, h3, h4, h5, -⟩ := h
  exact ⟨A, B, H0, J, hJ.j, h1, h2, h3, h4, h5⟩
end GXS
theorem ob_cellF {D : DD} {s : State} (hK : KK D s) {ci q : Nat} {T : u_T} {N : Nat} {E : String} {fs : List Value} {H : Heap} (hc : aCl[ci]? = some (E, T, N)) (ho : ob D ci fs q H) : ∃ ce : Cell, H[q]? = some ce ∧ ce.vm = .none ∧ s.vm.findClass E = some ce.cls := by
  obtain ⟨r, h1, cell, q1, q2, q3, q4⟩ := ho
  have hr : r = (E, T, N) := Option.some.inj (h1.symm.trans hc)
  subst hr
  exact ⟨cell, q1, q3, by rw [q2]; exact (hK.1.1 ci _ hc).2.1⟩
section GOF
variable {D : DD} {l : Launch} {y : MethodName} {b : ByteArray} {Lm : Nat} {ret : Option FieldType} {f mc ms lo : Nat} {KS : Nat → Prop} {Hb : Heap} {As : List Value} {ws im : va_W} {Post : Option Value → va_W → va_W → Prop} {PX : PXT}
theorem Gc.of (hl : l.stackTraces = false) (hy : plainName y.cls = true) (hAs : (lg_sl As).length ≤ Lm)
    (body : ∀ (s : State) (F : FJ) (X : FX), Gx D l s y.cls As.toArray b Lm (rm_ f mc ms lo) y.name KS Hb [] F X → FR b ret mc ms Post F → GO [] mc ms PX X → F 0 0 ws im 0 [] (lv_args 0 As)) : Gc D l y b Lm ret f mc ms lo KS Hb As ws im Post PX := by
  intro H0 hB h0 hOK hAs'
  refine vq_ofW (cc := b) (maxL := Lm) (ret := ret) hy rfl ?_
  intro p e s m args below meth c s₁ B hml hout hv
  obtain ⟨rfl, rfl, hK⟩ := hv
  have hts := atoms_spec (ws := ws_ y b Lm ret) B.pre
  have hts : ∀ w ∈ lw_all, w.before _ s = true := fun w h => hts w (List.mem_cons_of_mem _ h)
  have hx := B.exec
  have hb := B.bytes
  have hr := B.returns
  have hlk := B.notSynchronized
  have hlv := lv_entry As (n := Lm) hAs
  have htb : c.exceptionTable.toList = [] := List.eq_nil_iff_forall_not_mem.mpr (fun x hx => hout x hx)
  rw [lg_entry_eq]
  have hA0 : ∀ q, (q ∈ adr ws ∨ s.heap.size ≤ q) → KS q ∨ Hb.size ≤ q := fun q h => h.elim (fun h => by obtain ⟨c, hc, rfl⟩ := mem_adr h; exact h0.2.2.2.1 c hc) (fun h => Or.inr (Nat.le_trans h0.1.1 h))
  refine body s (fun k n ws' im' pc st lv => ∀ H, Fst D KS Hb (fun q => q ∈ adr ws ∨ s.heap.size ≤ q) (fun q => q ∈ adr ws ∨ s.heap.size ≤ q ∨ q ∈ adr im ∨ (q < Hb.size ∧ ¬ KS q)) ws' im' H → ∀ ls locs, lv_has ls Lm lv → va_S (fun q => q ∈ adr ws ∨ s.heap.size ≤ q) s.heap H locs → W p l e _ s m As.toArray below meth c H locs k n _ (F0 m pc ls st))
    (fun k n ws' im' pc lv q => ∀ H, Fst D KS Hb (fun q => q ∈ adr ws ∨ s.heap.size ≤ q) (fun q => q ∈ adr ws ∨ s.heap.size ≤ q ∨ q ∈ adr im ∨ (q < Hb.size ∧ ¬ KS q)) ws' im' H → ∀ ls locs st, lv_has ls Lm lv → va_S (fun q => q ∈ adr ws ∨ s.heap.size ≤ q) s.heap H locs → vx_W p l e _ s m As.toArray below meth c H locs k n _ (F0 m pc ls st) q)
    ⟨_, _, s.heap, _, _, ⟨hl, rfl, p, e, m, below, meth, c, _, ⟨hx, hb, hml, findClass_of_methodNamed B.named, hts, (name_of_methodNamed B.named B.method).1, hlk, hK, fun q h => Or.inr h, hAs', hOK⟩, htb, rfl, rfl⟩, hB, hA0, fun q h => h.elim Or.inl (fun h => Or.inr (Or.inl h)), fun q h1 h2 => Or.inr (Or.inr (Or.inr ⟨h1, h2⟩)), rfl, rfl⟩ ?_ ?_ s.heap ?_ _ [] hlv va_S.rf
  · intro k n ws' im' pc lv hk hn
    refine ⟨fun h1 h2 h3 H hH ls locs hl hS => ?_, fun v ty h1 h1' h2 h3 H hH ls locs hl hS => ?_, fun v h1 h2 h3 H hH ls locs hl hS => ?_, fun v rt h1 h4 h5 h2 h3 H hH ls locs hl hS => ?_⟩
    · exact W.widen hk hn (vq_ret (W.vret hx hb (hr.trans h1) (fun t ht hW => ⟨_, rfl, ⟨_, _, h3, by rw [ht]; exact hH⟩, hS.F ht⟩) hS.2.2 h2))
    · exact W.widen hk hn (vq_ret (W.zret hx hb (hr.trans h1) h1' (fun t ht hW => ⟨_, rfl, ⟨_, _, h3, by rw [ht]; exact hH⟩, hS.F ht⟩) hS.2.2 h2))
    · exact W.widen hk hn (vq_ret (W.lret hx hb (hr.trans h1) (fun t ht hW => ⟨_, rfl, ⟨_, _, h3, by rw [ht]; exact hH⟩, hS.F ht⟩) hS.2.2 h2))
    · exact W.widen hk hn (vq_ret (W.aret hx hb (hr.trans h1) h4 h5 (fun t ht hW => ⟨_, rfl, ⟨_, _, h3, by rw [ht]; exact hH⟩, hS.F ht⟩) hS.2.2 h2))
  · intro k n ws2 im2 pc lv q E ws' im' hk hn hcov hsl him hex hp H hH0 ls locs st hl' hS
    have hH := (hH0.sub hsl).imsub him
    obtain ⟨ci, fs, T, N, hm, hc⟩ := hex
    obtain ⟨ce, c1, c2, c3⟩ := ob_cellF hK hc (hH.2.1 _ hm)
    exact vx_widen hk hn (vq_out (by rw [htb]; exact hcov) hlk c1 c2 c3 (fun t ht _ => ⟨⟨_, _, hp, ⟨ci, fs, T, N, hm, hc⟩, by rw [ht]; exact hH⟩, hS.F ht⟩) hS.2.2 (Nat.le_refl _) (Nat.le_refl _))
  · exact ⟨h0.1, h0.2.1, h0.2.2.1, fun q hq => Or.inl (adr_mem hq), h0.2.2.2.2.1, fun q hq => ⟨(h0.2.2.2.2.2 q hq).1, Or.inr (Or.inr (Or.inl (adr_mem hq)))⟩⟩
end GOF
theorem Fst.callc {D : DD} {KS : Nat → Prop} {Hb : Heap} {A B : Nat → Prop} {H H1 : Heap} {ws1 wr ws' im im1 im' : va_W} (h : Fst D KS Hb A B (ws1 ++ wr) im H) (him : ∀ q ∈ im1, q ∈ im ∨ q ∈ wr) (hz : ∀ q ∈ im', ∀ c ∈ wr, c ∈ im1 → ¬ c ∈ im → q.1 ≠ c.1) (h' : Fst D KS Hb (fun q => q ∈ adr ws1 ∨ H.size ≤ q) (fun q => q ∈ adr ws1 ∨ H.size ≤ q ∨ q ∈ adr im1 ∨ (q < Hb.size ∧ ¬ KS q)) ws' im' H1) (hf : fr (fun q => q ∈ adr ws1 ∨ H.size ≤ q) H H1) (hA : ∀ q, A q → KS q ∨ Hb.size ≤ q) (hAf : ∀ q, H.size ≤ q → A q) (hAB : ∀ q, A q → B q) (hB : ∀ q, q < Hb.size → ¬ KS q → B q) : Fst D KS Hb A B (ws' ++ wr) (im' ++ im) H1 := by
  obtain ⟨h1, h2, h3, h4, h5, h6⟩ := h
  obtain ⟨g1, g2, g3, g4, g5, g6⟩ := h'
  have hadr : adr (ws1 ++ wr) = adr ws1 ++ adr wr := List.map_append
  rw [hadr] at h3 h6
  obtain ⟨n1, n2, n3⟩ := List.nodup_append.mp h3
  have hAw : ∀ a, a ∈ adr ws1 → A a := fun a ha => by
    obtain ⟨q, hq, rfl⟩ := mem_adr ha
    exact h4 q (List.mem_append_left _ hq)
  have hwr : ∀ q ∈ wr, q.1 < H.size ∧ q.1 ∉ adr ws1 := fun q hq => ⟨(h2 q (List.mem_append_right _ hq)).lt, fun z => n3 _ z _ (adr_mem hq) rfl⟩
  have him2 : ∀ q ∈ im, q.1 < H.size ∧ q.1 ∉ adr ws1 := fun q hq => ⟨(h5 q hq).lt, fun z => (h6 q hq).1 (List.mem_append_left _ z)⟩
  have kept : ∀ a, a < H.size → a ∉ adr ws1 → H1[a]? = H[a]? := fun a h1 h2 => hf.2 a h1 (fun z => z.elim h2 (fun z => absurd h1 (Nat.not_lt.mpr z)))
  have hne : ∀ a, a ∈ adr ws' → ∀ q : Nat, q < H.size → q ∉ adr ws1 → a ≠ q := fun a ha q hq1 hq2 e => by
    obtain ⟨c, hc, rfl⟩ := mem_adr ha
    rcases g4 c hc with z | z
    · exact hq2 (e ▸ z)
    · omega
  refine ⟨g1, fun q hq => ?_, ?_, fun q hq => ?_, fun q hq => ?_, fun q hq => ?_⟩
  · rcases List.mem_append.mp hq with hq | hq
    · exact g2 q hq
    · exact (h2 q (List.mem_append_right _ hq)).kept (kept _ (hwr q hq).1 (hwr q hq).2)
  · show ((ws' ++ wr).map Prod.fst).Nodup
    rw [List.map_append]
    refine List.nodup_append.mpr ⟨g3, n2, fun a ha c hc => ?_⟩
    obtain ⟨q, hq, rfl⟩ := mem_adr hc
    exact hne a ha _ (hwr q hq).1 (hwr q hq).2
  · rcases List.mem_append.mp hq with hq | hq
    · rcases g4 q hq with z | z
      · exact hAw _ z
      · exact hAf _ z
    · exact h4 q (List.mem_append_right _ hq)
  · rcases List.mem_append.mp hq with hq | hq
    · exact g5 q hq
    · exact (h5 q hq).kept (kept _ (him2 q hq).1 (him2 q hq).2)
  · show q.1 ∉ (ws' ++ wr).map Prod.fst ∧ _
    rw [List.map_append]
    rcases List.mem_append.mp hq with hq | hq
    · refine ⟨fun z => ?_, ?_⟩
      · rcases List.mem_append.mp z with z | z
        · exact (g6 q hq).1 z
        · obtain ⟨c, hc, e⟩ := mem_adr z
          have c1 := hwr c hc
          rcases (g6 q hq).2 with y | y | y | y
          · exact c1.2 (e ▸ y)
          · rw [e] at c1; omega
          · obtain ⟨u, hu1, hu2⟩ := mem_adr y
            by_cases hnb : u ∈ im
            · exact (h6 u hnb).1 (List.mem_append_right _ (by rw [hu2, ← e]; exact adr_mem hc))
            · exact hz q hq u ((him u hu1).resolve_left hnb) hu1 hnb hu2.symm
          · rcases hA _ (h4 c (List.mem_append_right _ hc)) with w | w
            · exact y.2 (e ▸ w)
            · rw [e] at w; omega
      · rcases (g6 q hq).2 with y | y | y | y
        · exact hAB _ (hAw _ y)
        · exact hAB _ (hAf _ y)
        · obtain ⟨u, hu1, hu2⟩ := mem_adr y
          by_cases hnb : u ∈ im
          · exact hu2 ▸ (h6 u hnb).2
          · exact absurd hu2.symm (hz q hq u ((him u hu1).resolve_left hnb) hu1 hnb)
        · exact hB _ y.1 y.2
    · refine ⟨fun z => ?_, (h6 q hq).2⟩
      rcases List.mem_append.mp z with z | z
      · exact hne _ z _ (him2 q hq).1 (him2 q hq).2 rfl
      · exact (h6 q hq).1 (List.mem_append_right _ z)
section GROWS
variable {D : DD} {l : Launch} {s : State} {own : String} {args : Array Value} {cc : ByteArray} {nL : Nat} {R : Room} {nm : String} {KS : Nat → Prop} {Hb : Heap} {tb : List ExceptionTableEntry} {F : FJ} {X : FX} {k n : Nat} {ws im : va_W} {pc : Nat} {st rest : List Value} {lv : List (Nat × Value)} {b : ByteArray} {mc ms : Nat} {Post : Option Value → va_W → va_W → Prop} {PX : PXT}
variable {y : MethodName} {Lm f lo o index : Nat} {ret : Option FieldType} {As : List Value} {ws1 wr im1 : va_W}
theorem g_athrow (hG : Gx D l s own args cc nL R nm KS Hb tb F X) {q : Nat} (d : decode cc pc = .ok (.athrow, 1)) (kk : X k n ws im pc lv q) : F k n ws im pc (.ref q :: st) lv := by
  obtain ⟨A, B, H0, J, Y, hJ, hB, hAK, hAB, hBB, rfl, rfl⟩ := hG
  intro H hH
  have h1 := kk H hH
  obtain ⟨hl, hs0, p, e, m, below, meth, c, Q, ⟨hx, hb, hml, hown, hts, hnm, hlk, hK, hA, hAs2, hOK⟩, htb, rfl, rfl⟩ := hJ
  intro ls locs hl' hS
  exact vx_athrow hx hb d (h1 ls locs st hl' hS)
theorem g_run {A A1 : Nat → Prop} {H0 H : Heap} {p : Program} {e : Env} {m : MethodId} {below : List Frame} {meth : Method} {c : Code} {Q : State → Prop} {ls : Array Slot} {locs : List Loc} {a : Array Value} {free : Nat → Prop} {PostH : Option Value → Heap → Prop} {PXH : String → Nat → Heap → Prop}
    (hr : vq_Run p l e R s m args below meth c H locs k n mc ms (F0 m pc ls st) rest (cQ PostH A1 a) (fun E q st t => PXH E q t.heap ∧ va_F A1 st t) free) (hS : va_S A H0 H locs) (hA : ∀ q, q < H.size → A1 q → A q) (hf : ∀ q, free q → A q)
    (kx : ∀ (q : Nat) (E : String) (H1 : Heap) (locs1 : List Loc), PXH E q H1 → fr A1 H H1 → va_S A H0 H1 locs1 → vx_W p l e R s m args below meth c H1 locs1 (k + mc) (n + ms) Q (F0 m pc ls rest) q)
    (kk : ∀ (r : Option Value) (H1 : Heap) (locs1 : List Loc), PostH r H1 → fr A1 H H1 → va_S A H0 H1 locs1 → W p l e R s m args below meth c H1 locs1 (k + mc) (n + ms) Q (F0 m (pc + 3) ls (r.toList ++ rest))) : W p l e R s m args below meth c H locs k n Q (F0 m pc ls st) := by
  intro T hT X'
  have hSS : ∀ {T' t : State} {L : List Loc}, T'.heap = t.heap → (∀ q ∈ L, free q.base) → H.size ≤ t.heap.size → (∀ q : Nat, q < H.size → ¬ A1 q → t.heap[q]? = H[q]?) → va_S A H0 T'.heap (locs ++ L) := fun e1 hL hz hk =>
    ⟨Nat.le_trans hS.1 (by rw [e1]; exact hz), fun q h1 h2 => by rw [e1, hk q (Nat.lt_of_lt_of_le h1 hS.1) (fun z => h2 (hA q (Nat.lt_of_lt_of_le h1 hS.1) z))]; exact hS.2.1 q h1 h2, fun q hq => by
      rcases List.mem_append.mp hq with h | h
      · exact hS.2.2 q h
      · exact hf _ (hL q h)⟩
  rcases hr T hT X' with ⟨v, st₀, t, T', L, h0, X'', hL, e1, e2, ⟨r, hv, hp, hz, hk⟩, stp⟩ | ⟨q, st₀, t, T', L, E', ce, h0, X'', hL, e1, e2, ⟨hp, hz, hk⟩, hce, hcv, hcl, stp⟩
  · cases hv
    rw [h0] at hz hk
    obtain ⟨t2, a1, b1⟩ := kk v T'.heap (locs ++ L) (by rw [e1]; exact hp) ⟨by rw [e1]; exact hz, fun q h1 h2 => by rw [e1]; exact hk q h1 h2⟩ (hSS e1 hL hz hk) T' rfl X''
    exact ⟨t2, stp t2 a1, b1⟩
  · rw [h0] at hz hk
    obtain ⟨t2, a1, b1⟩ := kx q E' T'.heap (locs ++ L) (by rw [e1]; exact hp) ⟨by rw [e1]; exact hz, fun q h1 h2 => by rw [e1]; exact hk q h1 h2⟩ (hSS e1 hL hz hk) T' rfl X''
    exact ⟨t2, stp.trans a1, b1⟩
theorem g_callV (q : Nat) (hG : Gx D l s own args cc nL R nm KS Hb tb F X) (hc : Gc D l y b Lm ret f mc ms lo KS Hb (.ref o :: As) ws1 im1 Post PX) (hws : ws = ws1 ++ wr) (him : ∀ c ∈ im1, c ∈ im) (hw : GoodIn lw_all (wsV own index y.cls y (ws_ y b Lm ret))) (na : Nat) (hy : yOk y na) (hna : As.length = na) (hR : f + 1 ≤ R.frames ∧ 8 + (Lm + 11) + lo ≤ R.locals) {ci i : Nat} {w : Value} {T : u_T} {N : Nat} (ho : ∀ H, Fk D KS Hb ws im H → fld D ci o i w H) (hcl : aCl[ci]? = some (y.cls, T, N)) (hst : st = As.reverse ++ .ref o :: rest) (hrest : (rest.map fun v => v.category).sum ≤ 8) (d : decode cc pc = .ok (.invokevirtual index, 3)) (hf : k + mc ≤ R.cells ∧ n + ms ≤ R.slots) (e : pc + 3 = q)
    (kx : ∀ (E : String) (a : Nat) (ws' im' : va_W), PX E a ws' im' → exq E a ws' → X (k + mc) (n + ms) (ws' ++ wr) (im' ++ im) pc lv a)
    (kk : ∀ (r : Option Value) (ws' im' : va_W), Post r ws' im' → F (k + mc) (n + ms) (ws' ++ wr) (im' ++ im) q (r.toList ++ rest) lv) : F k n ws im pc st lv := by
  subst hws; subst hst; subst e
  obtain ⟨A, B, H0, J, Y, hJ, hB, hAK, hAB, hBB, rfl, rfl⟩ := hG
  intro H hH
  obtain ⟨hl, hs0, p, e, m, below, meth, c, Q, ⟨hx, hb, hml, hown, hts, hnm, hlk, hK, hA, hAs2, hOK⟩, htb, rfl, rfl⟩ := hJ
  intro ls locs hl' hS
  have hfr : ∀ q, H.size ≤ q → A q := fun q h => hA q (Nat.le_trans hS.1 h)
  have hA2 : ∀ q, (q ∈ adr ws1 ∨ H.size ≤ q) → A q := fun q h => (hH.mem q h).elim id (hfr q)
  exact g_run (PostH := gPo D KS Hb ws1 im1 H Post) (PXH := gPx D KS Hb ws1 im1 H PX) (mc := mc) (ms := ms) (vq_runV (rm := rm_ f mc ms lo) (mc := mc) (ms := ms) (As := As) (rest := rest) ⟨hx, hb, hml, hown, hts⟩ (hc H hB (hH.pre him hAK) (hOK.on hAs2 hS.1 hS.2.1) (fun q h => hAs2 q (hA2 q h))) (cwV na hts hw rfl rfl rfl ⟨rfl, hy⟩ hR) ⟨cP_blind, fld_recv hK (ho H hH.k) hcl, fun U hU hW => ⟨rfl, hU, hK.warm hW⟩⟩ rfl hna hl'.1 rfl (lv_room hrest) d hf) hS (fun q _ h => hA2 q h) hA2
    (fun q E H1 locs1 hp hfr1 hS1 => by
      obtain ⟨ws', im', hp, hex, h'⟩ := hp
      exact kx E q ws' im' hp hex H1 (hH.call him h' hfr1 hAK hfr hAB hBB) ls locs1 _ hl' hS1)
    (fun r H1 locs1 hp hfr1 hS1 => by
      obtain ⟨ws', im', hp, h'⟩ := hp
      exact kk r ws' im' hp H1 (hH.call him h' hfr1 hAK hfr hAB hBB) ls locs1 hl' hS1)
theorem g_callVc (q : Nat) (hG : Gx D l s own args cc nL R nm KS Hb tb F X) (hc : Gc D l y b Lm ret f mc ms lo KS Hb (.ref o :: As) ws1 im1 Post PX) (hws : ws = ws1 ++ wr) (him : ∀ c ∈ im1, c ∈ im ∨ c ∈ wr) (hz : ∀ r ws' im', Post r ws' im' → ∀ q ∈ im', ∀ c ∈ wr, c ∈ im1 → ¬ c ∈ im → q.1 ≠ c.1) (hzx : ∀ E a ws' im', PX E a ws' im' → im' = []) (hw : GoodIn lw_all (wsV own index y.cls y (ws_ y b Lm ret))) (na : Nat) (hy : yOk y na) (hna : As.length = na) (hR : f + 1 ≤ R.frames ∧ 8 + (Lm + 11) + lo ≤ R.locals) {ci i : Nat} {w : Value} {T : u_T} {N : Nat} (ho : ∀ H, Fk D KS Hb ws im H → fld D ci o i w H) (hcl : aCl[ci]? = some (y.cls, T, N)) (hst : st = As.reverse ++ .ref o :: rest) (hrest : (rest.map fun v => v.category).sum ≤ 8) (d : decode cc pc = .ok (.invokevirtual index, 3)) (hf : k + mc ≤ R.cells ∧ n + ms ≤ R.slots) (e : pc + 3 = q)
    (kx : ∀ (E : String) (a : Nat) (ws' im' : va_W), PX E a ws' im' → exq E a ws' → X (k + mc) (n + ms) (ws' ++ wr) (im' ++ im) pc lv a)
    (kk : ∀ (r : Option Value) (ws' im' : va_W), Post r ws' im' → F (k + mc) (n + ms) (ws' ++ wr) (im' ++ im) q (r.toList ++ rest) lv) : F k n ws im pc st lv := by
  subst hws; subst hst; subst e
  obtain ⟨A, B, H0, J, Y, hJ, hB, hAK, hAB, hBB, rfl, rfl⟩ := hG
  intro H hH
  obtain ⟨hl, hs0, p, e, m, below, meth, c, Q, ⟨hx, hb, hml, hown, hts, hnm, hlk, hK, hA, hAs2, hOK⟩, htb, rfl, rfl⟩ := hJ
  intro ls locs hl' hS
  have hfr : ∀ q, H.size ≤ q → A q := fun q h => hA q (Nat.le_trans hS.1 h)
  have hA2 : ∀ q, (q ∈ adr ws1 ∨ H.size ≤ q) → A q := fun q h => (hH.mem q h).elim id (hfr q)
  exact g_run (PostH := gPo D KS Hb ws1 im1 H Post) (PXH := gPx D KS Hb ws1 im1 H PX) (mc := mc) (ms := ms) (vq_runV (rm := rm_ f mc ms lo) (mc := mc) (ms := ms) (As := As) (rest := rest) ⟨hx, hb, hml, hown, hts⟩ (hc H hB (hH.preb him hAK) (hOK.on hAs2 hS.1 hS.2.1) (fun q h => hAs2 q (hA2 q h))) (cwV na hts hw rfl rfl rfl ⟨rfl, hy⟩ hR) ⟨cP_blind, fld_recv hK (ho H hH.k) hcl, fun U hU hW => ⟨rfl, hU, hK.warm hW⟩⟩ rfl hna hl'.1 rfl (lv_room hrest) d hf) hS (fun q _ h => hA2 q h) hA2
    (fun q E H1 locs1 hp hfr1 hS1 => by
      obtain ⟨ws', im', hp, hex, h'⟩ := hp
      exact kx E q ws' im' hp hex H1 (hH.callc him (by rw [hzx E q ws' im' hp]; exact fun q hq => absurd hq List.not_mem_nil) h' hfr1 hAK hfr hAB hBB) ls locs1 _ hl' hS1)
    (fun r H1 locs1 hp hfr1 hS1 => by
      obtain ⟨ws', im', hp, h'⟩ := hp
      exact kk r ws' im' hp H1 (hH.callc him (hz r ws' im' hp) h' hfr1 hAK hfr hAB hBB) ls locs1 hl' hS1)
theorem f_frzx (hF : Fx D l s own args cc nL R nm KS Hb F) {c : Nat × va_E} (kk : (∀ q ∈ im, q.1 ≠ c.1) → F k n ws (c :: im) pc st lv) : F k n (c :: ws) im pc st lv := by
  obtain ⟨A, B, H0, J, hJ, hB, hAK, hAB, hBB, rfl⟩ := hF
  intro H hH
  exact kk (fun q hq z => (hH.2.2.2.2.2 q hq).1 (z ▸ List.mem_cons_self)) H (hH.frz hAB)
end GROWS
/-! the reader's exception -/
abbrev fxC (q pos : Nat) : Nat × va_E := oC q 9 [.null, .null, .null, .null, .null, .int 0, .int (nI pos)]
def pxF (b : Prop) (pos : Nat) : PXT := fun E q w i => b ∧ E = "TaxWorkbench$FaultException" ∧ w = [fxC q pos] ∧ i = []
theorem g_out {mc ms : Nat} {b : Prop} {pos pos' : Nat} {X : FX} (hO : GO [] mc ms (pxF b pos) X) {k n : Nat} {ws im : va_W} {pc : Nat} {lv : List (Nat × Value)} {q : Nat} (p : Nat) (hp : ws[p]? = some (fxC q pos')) (hk : k ≤ mc) (hn : n ≤ ms) (hb : b ∧ pos' = pos) : X k n ws im pc lv q := by
  obtain ⟨hb, rfl⟩ := hb
  exact hO _ _ _ _ _ _ _ "TaxWorkbench$FaultException" [fxC q pos'] [] hk hn (fun x hx => absurd hx List.not_mem_nil) (List.singleton_sublist.mpr (List.mem_of_getElem? hp)) (fun _ h => absurd h List.not_mem_nil) ⟨9, _, TX10, 7, List.mem_cons_self, rfl⟩ ⟨hb, rfl, rfl, rfl⟩
section GETX
variable {D : DD} {l : Launch} {s : State} {own : String} {args : Array Value} {cc : ByteArray} {nL : Nat} {R : Room} {nm : String} {A : Nat → Prop} {H0 : Heap} {J : Heap → Nat → Nat → Nat → List Value → List (Nat × Value) → Prop} {H : Heap} {KS : Nat → Prop} {Hb : Heap} {F : FJ} {k n pc index : Nat} {ws im : va_W} {st rest : List Value} {lv : List (Nat × Value)}
theorem j_getsX (q : Nat) (hJ : Jx D l s own args cc nL R nm A H0 J) {C nn dd : String} (hst : (C, nn, dd) ∈ stX) (hlink : Cond.fieldLink own index C nn dd ∈ lw_all) (d : decode cc pc = .ok (.getstatic index, 3)) (e : pc + 3 = q) (kk : ∀ v, (v = .null ∨ ∃ t, v = .ref t) → J H k n q (v :: st) lv) : J H k n pc st lv := by
  subst e
  refine hJ.go fun ls locs hx hb hml hown hts hnm hK hA hOK hl hS ret => ?_
  have hz : ∃ v : Value, (v = .null ∨ ∃ t, v = .ref t) ∧ va_Z C nn dd v (fun a => D.2.2.2.size ≤ a) s D.2.2.2 := by
    rcases (hK.2.2.2.2.1.2.2 _ hst).1 with h | ⟨t, h⟩
    · exact ⟨_, Or.inl rfl, h⟩
    · exact ⟨_, Or.inr ⟨t, rfl⟩, h⟩
  obtain ⟨v, hv, cf, kf, fi, f, a, cell, h1, h2, h3, h4, h5, h6, h7, h8⟩ := hz
  have hcell : H[a]? = some cell := by rw [hOK.2 a (Array.getElem?_eq_some_iff.mp h5).1]; exact h5
  have hc : v.category = 1 := by rcases hv with rfl | ⟨t, rfl⟩ <;> rfl
  exact W.gets hx hb hown (hts _ hlink) h1 h2 h3 h4 hcell (fun e => by rw [e] at h6; cases h6) h7 (by rcases hv with rfl | ⟨t, rfl⟩ <;> rfl) d (ret _ _ _ _ _ _ (kk v hv) ls locs hl hS)
theorem f_getsX (q : Nat) (hF : Fx D l s own args cc nL R nm KS Hb F) {C nn dd : String} (hst : (C, nn, dd) ∈ stX) (hlink : Cond.fieldLink own index C nn dd ∈ lw_all) (d : decode cc pc = .ok (.getstatic index, 3)) (e : pc + 3 = q) (kk : ∀ v, (v = .null ∨ ∃ t, v = .ref t) → F k n ws im q (v :: st) lv) : F k n ws im pc st lv := by
  obtain ⟨A, B, H0, J, hJ, hB, hAK, hAB, hBB, rfl⟩ := hF
  intro H hH
  exact j_getsX q hJ hst hlink d e (fun v hv => kk v hv H hH)
theorem j_calde (q : Nat) (hJ : Jx D l s own args cc nL R nm A H0 J) {N a : Nat} {f : Nat → Int32} {i : Int32} (j : Nat) (ho : arc D N f a H) (hi : i = nI j) (hj : j < N) (hj2 : j < 2 ^ 31) (d : decode cc pc = .ok (.caload, 1)) (e : pc + 1 = q) (kk : J H k n q (.int (f j) :: st) lv) : J H k n pc (.int i :: .ref a :: st) lv := j_cald q hJ ho j hi hj hj2 d e kk
theorem j_callSNc {v : Value} {host : String} {y : MethodName} {b : ByteArray} {L f lo : Nat} {ret : Option FieldType} {As : List Value} (q : Nat) (hJ : Jx D l s own args cc nL R nm A H0 J) (hc : Cs D l y b L ret f lo As v) (hcode : Cond.code y b L ret ∈ lw_all) (hini : Cond.initialized y.cls ∈ lw_all) (hlk : Cond.methodLinkNest own index y host ∈ nwL) (hstc : Cond.static y ∈ lw_all) (na : Nat) (hy : yOk y na) (hna : As.length = na) (hR : f + 1 ≤ R.frames ∧ 8 + (L + 11) + lo ≤ R.locals) (hst : st = As.reverse ++ rest) (hrest : (rest.map fun v => v.category).sum ≤ 8) (d : decode cc pc = .ok (.invokestatic index, 3)) (hf : k ≤ R.cells ∧ n ≤ R.slots) (e : pc + 3 = q) (kk : J H k n q (v :: rest) lv) : J H k n pc st lv := by
  refine j_callSN q hJ (hc H) hcode hini hlk hstc na hy hna hR hst hrest d hf (fun x hx => Or.inr hx) e ?_
  rintro r H1 ⟨rfl, rfl⟩ _
  exact kk
end GETX
/-! calls of methods that the receiver's class has from another -/
abbrev uOk (owner : String) (x : MethodName) (na : Nat) : Prop := owner ≠ "java/lang/invoke/MethodHandle" ∧ owner ≠ "java/lang/invoke/VarHandle" ∧ (parseMethodDescriptor x.desc).map (fun d => d.parameters.length) = some na
theorem lw_U {own : String} {idx : Nat} {C owner : String} {x y : MethodName} {b : ByteArray} {L : Nat} {r : Option FieldType} (h1 : Cond.methodLink own idx x ∈ lw_all) (h2 : Cond.sameMethod x.cls owner x.name x.desc ∈ lw_all) (h3 : Cond.selects C x y ∈ lw_all) (h4 : Cond.instanceMethod y ∈ lw_all) (h5 : Cond.initialized y.cls ∈ lw_all) (h6 : Cond.code y b L r ∈ lw_all) : GoodIn lw_all (va_wsU own idx C owner x y (ws_ y b L r)) := by
  refine lw_app ?_ (lw_meth h6)
  intro w hw
  simp only [List.mem_cons, List.not_mem_nil, or_false] at hw
  rcases hw with e | e | e | e | e
  · rw [e]; exact h1
  · rw [e]; exact h2
  · rw [e]; exact h3
  · rw [e]; exact h4
  · rw [e]; exact h5
section CALLU
variable {D : DD} {l : Launch} {s : State} {own : String} {args : Array Value} {cc : ByteArray} {nL : Nat} {R : Room} {nm : String} {A : Nat → Prop} {H0 : Heap} {J : Heap → Nat → Nat → Nat → List Value → List (Nat × Value) → Prop} {H : Heap} {KS : Nat → Prop} {Hb : Heap} {F : FJ} {k n pc index : Nat} {ws im : va_W} {st rest : List Value} {lv : List (Nat × Value)}
variable {y x : MethodName} {b : ByteArray} {L f mc ms lo o : Nat} {ret : Option FieldType} {As : List Value} {PostH : Option Value → Heap → Prop} {A1 : Nat → Prop} {C owner : String} {Post : Option Value → va_W → va_W → Prop} {ws1 wr im1 : va_W}
theorem j_callU (q : Nat) (hJ : Jx D l s own args cc nL R nm A H0 J) (hc : Ct D l y b L ret f mc ms lo (.ref o :: As) H PostH A1) (hw : GoodIn lw_all (va_wsU own index C owner x y (ws_ y b L ret))) (hz : Cond.declares ⟨owner, x.name, x.desc⟩ ∈ nwL) (na : Nat) (hy : uOk owner x na) (hna : As.length = na) (hR : f + 1 ≤ R.frames ∧ 8 + (L + 11) + lo ≤ R.locals) {ci i : Nat} {w : Value} {T : u_T} {N : Nat} (ho : fld D ci o i w H) (hcl : aCl[ci]? = some (C, T, N)) (hst : st = As.reverse ++ .ref o :: rest) (hrest : (rest.map fun v => v.category).sum ≤ 8) (d : decode cc pc = .ok (.invokevirtual index, 3)) (hf : k + mc ≤ R.cells ∧ n + ms ≤ R.slots) (hA1 : ∀ q, A1 q → A q ∨ H.size ≤ q) (e : pc + 3 = q) (kk : ∀ (r : Option Value) (H1 : Heap), PostH r H1 → fr A1 H H1 → J H1 (k + mc) (n + ms) q (r.toList ++ rest) lv) : J H k n pc st lv := by
  subst e; subst hst
  have hAs := hJ.as
  refine hJ.go fun ls locs hx hb hml hown hts hnm hK hA hOK hl hS ret' => ?_
  have hA2 : ∀ q, A1 q → A q := fun q h => (hA1 q h).elim id (fun h => hA q (Nat.le_trans hS.1 h))
  exact j_run (va_runU (As := As) (rest := rest) ⟨hx, hb, hml, hown, hts⟩ (hc hOK (fun q h => hAs q (hA2 q h))) (va_cwA na hts hw rfl rfl rfl (hK.2.1 _ hz rfl) hy hR) ⟨cP_blind, fld_recv hK ho hcl, fun U hU hW => ⟨rfl, hU, hK.warm hW⟩⟩ rfl hna hl.1 rfl (lv_room hrest) d hf) hS (fun q _ h => hA2 q h) hA2 (fun r H1 locs1 hp hfr hS1 => ret' _ _ _ _ _ _ (kk r H1 hp hfr) ls locs1 hl hS1)
theorem f_callU (q : Nat) (hF : Fx D l s own args cc nL R nm KS Hb F) (hc : Fc D l y b L ret f mc ms lo KS Hb (.ref o :: As) ws1 im1 Post) (hws : ws = ws1 ++ wr) (him : ∀ c ∈ im1, c ∈ im) (hw : GoodIn lw_all (va_wsU own index C owner x y (ws_ y b L ret))) (hz : Cond.declares ⟨owner, x.name, x.desc⟩ ∈ nwL) (na : Nat) (hy : uOk owner x na) (hna : As.length = na) (hR : f + 1 ≤ R.frames ∧ 8 + (L + 11) + lo ≤ R.locals) {ci i : Nat} {w : Value} {T : u_T} {N : Nat} (ho : ∀ H, Fk D KS Hb ws im H → fld D ci o i w H) (hcl : aCl[ci]? = some (C, T, N)) (hst : st = As.reverse ++ .ref o :: rest) (hrest : (rest.map fun v => v.category).sum ≤ 8) (d : decode cc pc = .ok (.invokevirtual index, 3)) (hf : k + mc ≤ R.cells ∧ n + ms ≤ R.slots) (e : pc + 3 = q) (kk : ∀ (r : Option Value) (ws' im' : va_W), Post r ws' im' → F (k + mc) (n + ms) (ws' ++ wr) (im' ++ im) q (r.toList ++ rest) lv) : F k n ws im pc st lv := by
  subst hws
  obtain ⟨A, B, H0, J, hJ, hB, hAK, hAB, hBB, rfl⟩ := hF
  intro H hH
  refine hJ.fresh fun hfr => j_callU q hJ (hc H hB (hH.pre him hAK)) hw hz na hy hna hR (ho H hH.k) hcl hst hrest d hf hH.mem e ?_
  rintro r H1 ⟨ws', im', hp, h'⟩ hfr1
  exact kk r ws' im' hp H1 (hH.call him h' hfr1 hAK hfr hAB hBB)
end CALLU
/-! what the reader reckons -/
def heC (t : Nat → Int32) (ln sp : Nat) : Int32 := if sp < ln then t sp else 32
theorem heC_eq {t : Nat → Int32} {ln sp : Nat} {c : Int32} (h1 : ¬ c = -1) (h2 : ¬ c = 32) : heC t ln sp = c ↔ heV t ln sp = c := by
  unfold heC heV; split
  · exact Iff.rfl
  · exact ⟨fun h => absurd h.symm h2, fun h => absurd h.symm h1⟩
theorem heC_dg {t : Nat → Int32} {ln sp : Nat} : inB (heC t ln sp) 48 57 = dgB t ln sp := by
  unfold dgB heC heV; split
  · rfl
  · decide
theorem heC_nr {t : Nat → Int32} {ln sp : Nat} (h : ∀ i, i < ln → inB (t i) 33 126 = true) : narrow .char (.int (heC t ln sp)) = .int (heC t ln sp) := by
  unfold heC; split
  · exact (ch_i2c (h _ (by assumption))).2
  · decide
