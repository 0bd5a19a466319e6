/-! more rows of J: single fields, elements, casts, statics, pure calls, interfaces, nest mates' methods -/
set_option maxRecDepth 100000
def fld (D : DD) (ci a i : Nat) (v : Value) (H : Heap) : Prop := ∃ fs, ob D ci fs a H ∧ fs[i]? = some v
theorem fld.kept {D : DD} {ci a i : Nat} {v : Value} {H H1 : Heap} (h : fld D ci a i v H) (e : H1[a]? = H[a]?) : fld D ci a i v H1 := by
  obtain ⟨fs, h1, h2⟩ := h; exact ⟨fs, h1.kept e, h2⟩
theorem fld.lt {D : DD} {ci a i : Nat} {v : Value} {H : Heap} (h : fld D ci a i v H) : a < H.size := by obtain ⟨fs, h1, h2⟩ := h; exact h1.lt
theorem ob.fld {D : DD} {ci a : Nat} {fs : List Value} {H : Heap} (h : ob D ci fs a H) (i : Nat) {v : Value} (hv : fs[i]? = some v) : fld D ci a i v H := ⟨fs, h, hv⟩
/-- an array's element that is known: n places, at j the value x -/
def eli (D : DD) (n a j : Nat) (x : Int32) (H : Heap) : Prop := ∃ f, ari D n f a H ∧ f j = x
def ell (D : DD) (n a j : Nat) (x : Int64) (H : Heap) : Prop := ∃ f, arl D n f a H ∧ f j = x
def elr (D : DD) (t n a j : Nat) (x : Option Nat) (H : Heap) : Prop := ∃ f, ar D t (n, .inr (.inr (.inr (.inr f)))) a H ∧ f j = x
theorem eli.kept {D : DD} {n a j : Nat} {x : Int32} {H H1 : Heap} (h : eli D n a j x H) (e : H1[a]? = H[a]?) : eli D n a j x H1 := by obtain ⟨f, h1, h2⟩ := h; exact ⟨f, h1.kept e, h2⟩
theorem ell.kept {D : DD} {n a j : Nat} {x : Int64} {H H1 : Heap} (h : ell D n a j x H) (e : H1[a]? = H[a]?) : ell D n a j x H1 := by obtain ⟨f, h1, h2⟩ := h; exact ⟨f, h1.kept e, h2⟩
theorem elr.kept {D : DD} {t n a j : Nat} {x : Option Nat} {H H1 : Heap} (h : elr D t n a j x H) (e : H1[a]? = H[a]?) : elr D t n a j x H1 := by obtain ⟨f, h1, h2⟩ := h; exact ⟨f, h1.kept e, h2⟩
theorem eli.lt {D : DD} {n a j : Nat} {x : Int32} {H : Heap} (h : eli D n a j x H) : a < H.size := by obtain ⟨f, h1, h2⟩ := h; exact h1.lt
theorem ell.lt {D : DD} {n a j : Nat} {x : Int64} {H : Heap} (h : ell D n a j x H) : a < H.size := by obtain ⟨f, h1, h2⟩ := h; exact h1.lt
theorem elr.lt {D : DD} {t n a j : Nat} {x : Option Nat} {H : Heap} (h : elr D t n a j x H) : a < H.size := by obtain ⟨f, h1, h2⟩ := h; exact h1.lt
/-- a method that only answers, from this heap -/
def Cp (D : DD) (l : Launch) (y : MethodName) (b : ByteArray) (Lm : Nat) (ret : Option FieldType) (f lo : Nat) (As : List Value) (H0 : Heap) (v : Option Value) : Prop :=
  Ct D l y b Lm ret f 0 0 lo As H0 (fun r H => r = v ∧ H = H0) (fun q => H0.size ≤ q)
theorem Cp.of {D : DD} {l : Launch} {y : MethodName} {b : ByteArray} {Lm : Nat} {ret : Option FieldType} {f lo : Nat} {As : List Value} {H0 : Heap} {v : Option Value} (hy : plainName y.cls = true) (hAs : (lg_sl As).length ≤ Lm)
    (body : ∀ (s : State) (A : Nat → Prop) (J : Heap → Nat → Nat → Nat → List Value → List (Nat × Value) → Prop), Jx D l s y.cls As.toArray b Lm (rm_ f 0 0 lo) y.name A H0 J → Rt b ret 0 0 (fun r H => r = v ∧ H = H0) J → J H0 0 0 0 [] (lv_args 0 As)) : Cp D l y b Lm ret f lo As H0 v :=
  Ct.of hy hAs (fun q h => h) (fun s J hJ hR => body s _ J hJ hR)
/-- what a call through an interface asks -/
theorem lw_F {own : String} {idx : Nat} {C : String} {x y : MethodName} {b : ByteArray} {L : Nat} {r : Option FieldType} (h1 : Cond.methodLink own idx x ∈ lw_all) (h2 : Cond.selects C x y ∈ lw_all) (h3 : Cond.instanceMethod y ∈ lw_all) (h4 : Cond.initialized y.cls ∈ lw_all) (h5 : Cond.code y b L r ∈ lw_all) : GoodIn lw_all (va_wsF own idx C x y (ws_ y b L r)) := by
  refine lw_app ?_ (lw_meth h5)
  intro w hw
  simp only [List.mem_cons, List.not_mem_nil, or_false] at hw
  rcases hw with e | e | e | e
  · rw [e]; exact h1
  · rw [e]; exact h2
  · rw [e]; exact h3
  · rw [e]; exact h4
theorem nI_dec {x y : Nat} (h : x = y + 1) : nI x + Int32.ofInt (-1) = nI y := by subst h; exact pk_m1 y
section JROWS3
variable {D : DD} {l : Launch} {s : State} {own : String} {args : Array Value} {cc : ByteArray} {nL : Nat} {R : Room} {nm : String} {A : Nat → Prop} {H0 : Heap} {J : Heap → Nat → Nat → Nat → List Value → List (Nat × Value) → Prop} {H : Heap} {k n pc : Nat} {st rest : List Value} {lv : List (Nat × Value)}
variable {y : MethodName} {b : ByteArray} {L : Nat} {ret : Option FieldType} {f mc ms lo o index : Nat} {As : List Value} {Post : Option Value → Heap → Prop} {A1 : Nat → Prop}
theorem j_getf (q : Nat) (hJ : Jx D l s own args cc nL R nm A H0 J) {ref C : String} {T : u_T} {N ci a : Nat} {ty : Nat → FieldType} (i : Nat) {v : Value} (hcl : clsOk C T N ty) (ho : fld D ci a i v H) (hc : aCl[ci]? = some (C, T, N)) (hi : i < N) (hlink : fLk own index ref (T i).2.1 (T i).2.2.1) (hsame : fSm ref (T i)) (d : decode cc pc = .ok (.getfield index, 3)) (e : pc + 3 = q) (kk : J H k n q (v :: st) lv) : J H k n pc (.ref a :: st) lv := by
  obtain ⟨fs, h1, h2⟩ := ho
  exact j_get q hJ hcl.1 h1 hc i hi hlink hsame h2 d e kk
theorem j_ialde (q : Nat) (hJ : Jx D l s own args cc nL R nm A H0 J) {N a : Nat} {i x : Int32} (j : Nat) (ho : eli D N a j x H) (hi : i = nI j) (hj : j < N) (hj2 : j < 2 ^ 31) (d : decode cc pc = .ok (.iaload, 1)) (e : pc + 1 = q) (kk : J H k n q (.int x :: st) lv) : J H k n pc (.int i :: .ref a :: st) lv := by
  obtain ⟨f, h1, rfl⟩ := ho
  exact j_iald q hJ h1 j hi hj hj2 d e kk
theorem j_lalde (q : Nat) (hJ : Jx D l s own args cc nL R nm A H0 J) {N a : Nat} {i : Int32} {x : Int64} (j : Nat) (ho : ell D N a j x H) (hi : i = nI j) (hj : j < N) (hj2 : j < 2 ^ 31) (d : decode cc pc = .ok (.laload, 1)) (e : pc + 1 = q) (kk : J H k n q (.long x :: st) lv) : J H k n pc (.int i :: .ref a :: st) lv := by
  obtain ⟨f, h1, rfl⟩ := ho
  exact j_lald q hJ h1 j hi hj hj2 d e kk
theorem j_aalde (q : Nat) (hJ : Jx D l s own args cc nL R nm A H0 J) {N a t : Nat} {C : String} {i : Int32} {x : Option Nat} (j : Nat) (ho : elr D t N a j x H) (ht : (aTys D.2.1)[t]? = some (D.2.1 t, .object C)) (hi : i = nI j) (hj : j < N) (hj2 : j < 2 ^ 31) (d : decode cc pc = .ok (.aaload, 1)) (e : pc + 1 = q) (kk : J H k n q (va_rf x :: st) lv) : J H k n pc (.int i :: .ref a :: st) lv := by
  obtain ⟨f, h1, rfl⟩ := ho
  exact j_aald q hJ h1 ht j hi hj hj2 d e kk
theorem j_alen (q : Nat) (hJ : Jx D l s own args cc nL R nm A H0 J) {a t : Nat} {x : vp_A} {ty : FieldType} (ho : ar D t x a H) (ht : (aTys D.2.1)[t]? = some (D.2.1 t, ty)) (d : decode cc pc = .ok (.arraylength, 1)) (e : pc + 1 = q) (kk : J H k n q (.int (nI x.1) :: st) lv) : J H k n pc (.ref a :: st) lv := by
  subst e
  refine hJ.go fun ls locs hx hb hml hown hts hnm hK hA hOK hl hS ret => ?_
  obtain ⟨c0, g1, g2, g3, -, g4, g5⟩ := ho.wk
  have g6 : c0.slots.size = x.1 := by rw [g5]; obtain ⟨n, f | f | f | f | f⟩ := x <;> exact arrV_size _ _ _
  exact W.alen (n := nI x.1) hx hb g1 (aIs hK ht g2 g4) (by rw [g6] <;> rfl) rfl rfl d (ret _ _ _ _ _ _ kk ls locs hl hS)
theorem fld_recv {ci a i : Nat} {v : Value} {C : String} {T : u_T} {N : Nat} (hK : KK D s) (ho : fld D ci a i v H) (hc : aCl[ci]? = some (C, T, N)) : ∃ cell : Cell, H[a]? = some cell ∧ cell.vm.isStatics = false ∧ s.vm.findClass C = some cell.cls := by
  obtain ⟨fs, h1, -⟩ := ho; exact ob_recv hK h1 hc
theorem j_cast (q : Nat) (hJ : Jx D l s own args cc nL R nm A H0 J) {C : String} {T : u_T} {N ci a : Nat} {fs : List Value} (ho : ob D ci fs a H) (hc : aCl[ci]? = some (C, T, N)) (hlk : Cond.classLink own index C ∈ lw_all) (d : decode cc pc = .ok (.checkcast index, 3)) (e : pc + 3 = q) (kk : J H k n q (.ref a :: st) lv) : J H k n pc (.ref a :: st) lv := by
  subst e
  refine hJ.go fun ls locs hx hb hml hown hts hnm hK hA hOK hl hS ret => ?_
  exact va_castS hx hb hown (hts _ hlk) (hK.1.1 ci _ hc).2 (ob_recv hK ho hc) d (ret _ _ _ _ _ _ kk ls locs hl hS)
theorem j_castf (q : Nat) (hJ : Jx D l s own args cc nL R nm A H0 J) {C : String} {T : u_T} {N ci a i : Nat} {v : Value} (ho : fld D ci a i v H) (hc : aCl[ci]? = some (C, T, N)) (hlk : Cond.classLink own index C ∈ lw_all) (d : decode cc pc = .ok (.checkcast index, 3)) (e : pc + 3 = q) (kk : J H k n q (.ref a :: st) lv) : J H k n pc (.ref a :: st) lv := by
  obtain ⟨fs, h1, -⟩ := ho
  exact j_cast q hJ h1 hc hlk d e kk
/-- a constant's static field -/
theorem j_gets (q : Nat) (hJ : Jx D l s own args cc nL R nm A H0 J) {C nn dd : String} {i : Nat} (hst : (C, nn, dd, i) ∈ stL) (hlink : fLk own index C nn dd) (d : decode cc pc = .ok (.getstatic index, 3)) (e : pc + 3 = q) (kk : J H k n q (.ref (D.2.2.1 i) :: st) lv) : J H k n pc st lv := by
  subst e
  refine hJ.go fun ls locs hx hb hml hown hts hnm hK hA hOK hl hS ret => ?_
  obtain ⟨cf, kf, fi, f, a, cell, h1, h2, h3, h4, h5, h6, h7, h8⟩ := hK.2.2.2.2.1.1 _ hst
  have hcell : H[a]? = some cell := by rw [hOK.2 a (Array.getElem?_eq_some_iff.mp h5).1]; exact h5
  rcases hlink with hlink | ⟨host, hlink⟩
  · exact W.gets hx hb hown (hts _ hlink) h1 h2 h3 h4 hcell (fun e => by rw [e] at h6; cases h6) h7 rfl d (ret _ _ _ _ _ _ kk ls locs hl hS)
  · exact va_WgetsN hx hb hown (va_Nw.use rfl (hK.2.1 _ hlink rfl)) h1 h2 h3 h4 hcell (fun e => by rw [e] at h6; cases h6) h7 rfl d (ret _ _ _ _ _ _ kk ls locs hl hS)
theorem j_callp (q : Nat) (hJ : Jx D l s own args cc nL R nm A H0 J) {v : Option Value} (hc : Cp D l y b L ret f lo (.ref o :: As) H v) (hw : GoodIn lw_all (wsV own index y.cls y (ws_ y b L ret))) (na : Nat) (hy : yOk y na) (hna : As.length = na) (hR : f + 1 ≤ R.frames ∧ 8 + (L + 11) + lo ≤ R.locals) {ci i : Nat} {w : Value} {T : u_T} {N : Nat} (ho : fld D ci o i w H) (hcl : aCl[ci]? = some (y.cls, T, N)) (hst : st = As.reverse ++ .ref o :: rest) (hrest : (rest.map fun v => v.category).sum ≤ 8) (d : decode cc pc = .ok (.invokevirtual index, 3)) (hf : k ≤ R.cells ∧ n ≤ R.slots) (e : pc + 3 = q) (kk : J H k n q (v.toList ++ rest) lv) : J H k n pc st lv := by
  obtain ⟨fs, h1, -⟩ := ho
  refine j_callV q hJ hc hw na hy hna hR h1 hcl hst hrest d hf (fun x hx => Or.inr hx) e ?_
  rintro r H1 ⟨rfl, rfl⟩ _
  exact kk
theorem j_callps (q : Nat) (hJ : Jx D l s own args cc nL R nm A H0 J) {v : Option Value} (hc : Cp D l y b L ret f lo As H v) (hw : GoodIn lw_all (va_wsS own index y (ws_ y b L ret))) (na : Nat) (hy : yOk y na) (hna : As.length = na) (hR : f + 1 ≤ R.frames ∧ 8 + (L + 11) + lo ≤ R.locals) (hst : st = As.reverse ++ rest) (hrest : (rest.map fun v => v.category).sum ≤ 8) (d : decode cc pc = .ok (.invokestatic index, 3)) (hf : k ≤ R.cells ∧ n ≤ R.slots) (e : pc + 3 = q) (kk : J H k n q (v.toList ++ rest) lv) : J H k n pc st lv := by
  refine j_callS q hJ hc hw na hy hna hR hst hrest d hf (fun x hx => Or.inr hx) e ?_
  rintro r H1 ⟨rfl, rfl⟩ _
  exact kk
theorem j_run5 {p : Program} {e : Env} {m : MethodId} {below : List Frame} {meth : Method} {c : Code} {Q : State → Prop} {ls : Array Slot} {locs : List Loc} {a : Array Value} {free : Nat → Prop}
    (hr : va_Run5 p l e R s m args below meth c H locs k n mc ms (F0 m pc ls st) rest (cQ Post A1 a) free) (hS : va_S A H0 H locs) (hA : ∀ q, q < H.size → A1 q → A q) (hf : ∀ q, free q → A q)
    (kk : ∀ (r : Option Value) (H1 : Heap) (locs1 : List Loc), Post r H1 → fr A1 H H1 → va_S A H0 H1 locs1 → W p l e R s m args below meth c H1 locs1 (k + mc) (n + ms) Q (F0 m (pc + 5) ls (r.toList ++ rest))) : W p l e R s m args below meth c H locs k n Q (F0 m pc ls st) := by
  intro T hT X
  obtain ⟨v, st₀, t, T', L, h0, X', hL, e1, e2, ⟨r, hv, hp, hz, hk⟩, st⟩ := hr T hT X
  cases hv
  rw [h0] at hz hk
  obtain ⟨t2, a1, b1⟩ := kk v T'.heap (locs ++ L) (by rw [e1]; exact hp) ⟨by rw [e1]; exact hz, fun q h1 h2 => by rw [e1]; exact hk q h1 h2⟩
    ⟨Nat.le_trans hS.1 (by rw [e1]; exact hz), fun q h1 h2 => by rw [e1, hk q (Nat.lt_of_lt_of_le h1 hS.1) (fun z => h2 (hA q (Nat.lt_of_lt_of_le h1 hS.1) z))]; exact hS.2.1 q h1 h2, fun q hq => by
      rcases List.mem_append.mp hq with h | h
      · exact hS.2.2 q h
      · exact hf _ (hL q h)⟩ T' rfl X'
  exact ⟨t2, st t2 a1, b1⟩
/-- through an interface x; the receiver's class C has y -/
theorem j_callF {x : MethodName} {C : String} {cnt : Nat} (q : Nat) (hJ : Jx D l s own args cc nL R nm A H0 J) (hc : Ct D l y b L ret f mc ms lo (.ref o :: As) H Post A1) (hw : GoodIn lw_all (va_wsF own index C x y (ws_ y b L ret))) (hF : (C, x, y) ∈ fwL) (hFo : fwOk (C, x, y) = true) (na : Nat) (hy : yOk x na) (hna : As.length = na) (hR : f + 1 ≤ R.frames ∧ 8 + (L + 11) + lo ≤ R.locals) {ci i : Nat} {w : Value} {T : u_T} {N : Nat} (ho : fld D ci o i w H) (hcl : aCl[ci]? = some (C, T, N)) (hst : st = As.reverse ++ .ref o :: rest) (hrest : (rest.map fun v => v.category).sum ≤ 8) (d : decode cc pc = .ok (.invokeinterface index cnt, 5)) (hf : k + mc ≤ R.cells ∧ n + ms ≤ R.slots) (hA1 : ∀ q, A1 q → A q ∨ H.size ≤ q) (e : pc + 5 = q) (kk : ∀ (r : Option Value) (H1 : Heap), Post r H1 → fr A1 H H1 → J H1 (k + mc) (n + ms) q (r.toList ++ rest) lv) : J H k n pc st lv := by
  subst e; subst hst
  have hAs := hJ.as
  refine hJ.go fun ls locs hx hb hml hown hts hnm hK hA hOK hl hS ret' => ?_
  have hA2 : ∀ q, A1 q → A q := fun q h => (hA1 q h).elim id (fun h => hA q (Nat.le_trans hS.1 h))
  exact j_run5 (va_runF (As := As) (rest := rest) (hK.1.1 ci _ hcl).2 ⟨hx, hb, hml, hown, hts⟩ (hc hOK (fun q h => hAs q (hA2 q h))) (va_cwF na hts hw rfl rfl rfl (hK.2.2.1 _ hF hFo) hy hR) ⟨cP_blind, fld_recv hK ho hcl, fun U hU hW => ⟨rfl, hU, hK.warm hW⟩⟩ rfl hna hl.1 rfl (lv_room hrest) d hf) hS (fun q _ h => hA2 q h) hA2 (fun r H1 locs1 hp hfr hS1 => ret' _ _ _ _ _ _ (kk r H1 hp hfr) ls locs1 hl hS1)
end JROWS3
