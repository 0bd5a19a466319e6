/-! BASE: judgements with the machine's context hidden. P pc stack locals (Pu: closed under the pure rows); J heap cells slots pc stack locals (Jx); contracts Ct. -/
set_option maxRecDepth 100000
def Pu (s : State) (own : String) (args : Array Value) (cc : ByteArray) (nL : Nat) (P : Nat → List Value → List (Nat × Value) → Prop) : Prop :=
  ∃ (p : Program) (l : Launch) (e : Env) (R : Room) (m : MethodId) (below : List Frame) (meth : Method) (c : Code) (Q : State → Prop) (X : Heap → List Loc → Nat → Nat → Prop),
    p.tables.exec = Jvm.exec ∧ c.code = cc ∧ s.vm.findClass own = some m.cls ∧ (∀ w ∈ lw_all, w.before args s = true) ∧
    ∀ pc st lv, P pc st lv ↔ ∀ H locs k n, X H locs k n → ∀ ls, lv_has ls nL lv → W p l e R s m args below meth c H locs k n Q (F0 m pc ls st)
section PUGO
variable {s : State} {own : String} {args : Array Value} {cc : ByteArray} {nL : Nat} {P : Nat → List Value → List (Nat × Value) → Prop} {pc pc' : Nat} {st st' : List Value} {lv lv' : List (Nat × Value)}
theorem Pu.go (h : Pu s own args cc nL P)
    (f : ∀ {p : Program} {l : Launch} {e : Env} {R : Room} {m : MethodId} {below : List Frame} {meth : Method} {c : Code} {Q : State → Prop} {H : Heap} {locs : List Loc} {k n : Nat} {ls : Array Slot}, p.tables.exec = Jvm.exec → c.code = cc → s.vm.findClass own = some m.cls → (∀ w ∈ lw_all, w.before args s = true) → lv_has ls nL lv → W p l e R s m args below meth c H locs k n Q (F0 m pc' ls st') → W p l e R s m args below meth c H locs k n Q (F0 m pc ls st))
    (w : P pc' st' lv) : P pc st lv := by
  obtain ⟨p, l, e, R, m, below, meth, c, Q, X, hx, hb, ho, ht, hi⟩ := h
  rw [hi] at w ⊢
  intro H locs k n hX ls hl
  exact f hx hb ho ht hl (w H locs k n hX ls hl)
theorem Pu.goS (h : Pu s own args cc nL P)
    (f : ∀ {p : Program} {l : Launch} {e : Env} {R : Room} {m : MethodId} {below : List Frame} {meth : Method} {c : Code} {Q : State → Prop} {H : Heap} {locs : List Loc} {k n : Nat} {ls : Array Slot}, p.tables.exec = Jvm.exec → c.code = cc → lv_has ls nL lv → (∀ ls' : Array Slot, lv_has ls' nL lv' → W p l e R s m args below meth c H locs k n Q (F0 m pc' ls' st')) → W p l e R s m args below meth c H locs k n Q (F0 m pc ls st))
    (w : P pc' st' lv') : P pc st lv := by
  obtain ⟨p, l, e, R, m, below, meth, c, Q, X, hx, hb, ho, ht, hi⟩ := h
  rw [hi] at w ⊢
  intro H locs k n hX ls hl
  exact f hx hb hl (fun ls' hl' => w H locs k n hX ls' hl')
theorem Pu.go2 (h : Pu s own args cc nL P) {A B : Prop} {pc'' : Nat} {st'' : List Value}
    (f : ∀ {p : Program} {l : Launch} {e : Env} {R : Room} {m : MethodId} {below : List Frame} {meth : Method} {c : Code} {Q : State → Prop} {H : Heap} {locs : List Loc} {k n : Nat} {ls : Array Slot}, p.tables.exec = Jvm.exec → c.code = cc → (A → W p l e R s m args below meth c H locs k n Q (F0 m pc' ls st')) → (B → W p l e R s m args below meth c H locs k n Q (F0 m pc'' ls st'')) → W p l e R s m args below meth c H locs k n Q (F0 m pc ls st))
    (w1 : A → P pc' st' lv) (w2 : B → P pc'' st'' lv) : P pc st lv := by
  obtain ⟨p, l, e, R, m, below, meth, c, Q, X, hx, hb, ho, ht, hi⟩ := h
  rw [hi]
  intro H locs k n hX ls hl
  exact f hx hb (fun a => (hi _ _ _).mp (w1 a) H locs k n hX ls hl) (fun b => (hi _ _ _).mp (w2 b) H locs k n hX ls hl)
end PUGO
section PURE
variable {s : State} {own : String} {args : Array Value} {cc : ByteArray} {nL : Nat} {P : Nat → List Value → List (Nat × Value) → Prop} {pc : Nat} {st : List Value} {lv : List (Nat × Value)}
theorem r_iconst (q : Nat) {n : Int} (v : Int32) (h : Pu s own args cc nL P) (d : decode cc pc = .ok (.iconst n, 1)) (hv : Int32.ofInt n = v) (e : pc + 1 = q) (k : P q (.int v :: st) lv) : P pc (st) lv := by subst e; exact h.go (fun hx hb ho ht hl w => lv_iconst hx hb d hv w) k
theorem r_bipush (q : Nat) {n : Int} (v : Int32) (h : Pu s own args cc nL P) (d : decode cc pc = .ok (.bipush n, 2)) (hv : (Int8.ofInt n).toInt32 = v) (e : pc + 2 = q) (k : P q (.int v :: st) lv) : P pc (st) lv := by subst e; exact h.go (fun hx hb ho ht hl w => lv_bipush hx hb d hv w) k
theorem r_sipush (q : Nat) {n : Int} (v : Int32) (h : Pu s own args cc nL P) (d : decode cc pc = .ok (.sipush n, 3)) (hv : (Int16.ofInt n).toInt32 = v) (e : pc + 3 = q) (k : P q (.int v :: st) lv) : P pc (st) lv := by subst e; exact h.go (fun hx hb ho ht hl w => lv_sipush hx hb d hv w) k
theorem r_lconst (q : Nat) {n : Fin 2} (v : Int64) (h : Pu s own args cc nL P) (d : decode cc pc = .ok (.lconst n, 1)) (hv : Int64.ofNat (n : Nat) = v) (e : pc + 1 = q) (k : P q (.long v :: st) lv) : P pc (st) lv := by subst e; exact h.go (fun hx hb ho ht hl w => lv_lconst hx hb d hv w) k
theorem r_dconst0 (q : Nat)  (h : Pu s own args cc nL P) (d : decode cc pc = .ok (.dconst 0, 1))  (e : pc + 1 = q) (k : P q (.double FP.dconst0 :: st) lv) : P pc (st) lv := by subst e; exact h.go (fun hx hb ho ht hl w => lv_dconst0 hx hb d w) k
theorem r_null (q : Nat)  (h : Pu s own args cc nL P) (d : decode cc pc = .ok (.aconst_null, 1))  (e : pc + 1 = q) (k : P q (.null :: st) lv) : P pc (st) lv := by subst e; exact h.go (fun hx hb ho ht hl w => lv_null hx hb d w) k
theorem r_iload_n (q : Nat) {k : Fin 4} {x : Int32} (j : Nat) (h : Pu s own args cc nL P) (d : decode cc pc = .ok (.iload_n k, 1)) (hj : lv[j]? = some ((k : Nat), .int x)) (e : pc + 1 = q) (k : P q (.int x :: st) lv) : P pc (st) lv := by subst e; exact h.go (fun hx hb ho ht hl w => lv_iload_n hx hb d rfl (lv_at hl j hj) w) k
theorem r_iload (q : Nat) {i : Nat} {x : Int32} (j : Nat) (h : Pu s own args cc nL P) (d : decode cc pc = .ok (.iload i, 2)) (hj : lv[j]? = some (i, .int x)) (e : pc + 2 = q) (k : P q (.int x :: st) lv) : P pc (st) lv := by subst e; exact h.go (fun hx hb ho ht hl w => lv_iload hx hb d (lv_at hl j hj) w) k
theorem r_lload_n (q : Nat) {k : Fin 4} {x : Int64} (j : Nat) (h : Pu s own args cc nL P) (d : decode cc pc = .ok (.lload_n k, 1)) (hj : lv[j]? = some ((k : Nat), .long x)) (e : pc + 1 = q) (k : P q (.long x :: st) lv) : P pc (st) lv := by subst e; exact h.go (fun hx hb ho ht hl w => lv_lload_n hx hb d rfl (lv_at hl j hj) w) k
theorem r_lload (q : Nat) {i : Nat} {x : Int64} (j : Nat) (h : Pu s own args cc nL P) (d : decode cc pc = .ok (.lload i, 2)) (hj : lv[j]? = some (i, .long x)) (e : pc + 2 = q) (k : P q (.long x :: st) lv) : P pc (st) lv := by subst e; exact h.go (fun hx hb ho ht hl w => lv_lload hx hb d (lv_at hl j hj) w) k
theorem r_aload_n (q : Nat) {k : Fin 4} {x : Nat} (j : Nat) (h : Pu s own args cc nL P) (d : decode cc pc = .ok (.aload_n k, 1)) (hj : lv[j]? = some ((k : Nat), .ref x)) (e : pc + 1 = q) (k : P q (.ref x :: st) lv) : P pc (st) lv := by subst e; exact h.go (fun hx hb ho ht hl w => lv_aload_n hx hb d rfl (lv_at hl j hj) w) k
theorem r_aload (q : Nat) {i : Nat} {x : Nat} (j : Nat) (h : Pu s own args cc nL P) (d : decode cc pc = .ok (.aload i, 2)) (hj : lv[j]? = some (i, .ref x)) (e : pc + 2 = q) (k : P q (.ref x :: st) lv) : P pc (st) lv := by subst e; exact h.go (fun hx hb ho ht hl w => lv_aload hx hb d (lv_at hl j hj) w) k
theorem r_dload_n (q : Nat) {k : Fin 4} {x : UInt64} (j : Nat) (h : Pu s own args cc nL P) (d : decode cc pc = .ok (.dload_n k, 1)) (hj : lv[j]? = some ((k : Nat), .double x)) (e : pc + 1 = q) (k : P q (.double x :: st) lv) : P pc (st) lv := by subst e; exact h.go (fun hx hb ho ht hl w => lv_dload_n hx hb d rfl (lv_at hl j hj) w) k
theorem r_dload (q : Nat) {i : Nat} {x : UInt64} (j : Nat) (h : Pu s own args cc nL P) (d : decode cc pc = .ok (.dload i, 2)) (hj : lv[j]? = some (i, .double x)) (e : pc + 2 = q) (k : P q (.double x :: st) lv) : P pc (st) lv := by subst e; exact h.go (fun hx hb ho ht hl w => lv_dload hx hb d (lv_at hl j hj) w) k
theorem r_aload_nN (q : Nat) {k : Fin 4} (j : Nat) (h : Pu s own args cc nL P) (d : decode cc pc = .ok (.aload_n k, 1)) (hj : lv[j]? = some ((k : Nat), .null)) (e : pc + 1 = q) (k : P q (.null :: st) lv) : P pc (st) lv := by subst e; exact h.go (fun hx hb ho ht hl w => lv_aload_nN hx hb d rfl (lv_at hl j hj) w) k
theorem r_aloadN (q : Nat) {i : Nat} (j : Nat) (h : Pu s own args cc nL P) (d : decode cc pc = .ok (.aload i, 2)) (hj : lv[j]? = some (i, .null)) (e : pc + 2 = q) (k : P q (.null :: st) lv) : P pc (st) lv := by subst e; exact h.go (fun hx hb ho ht hl w => lv_aloadN hx hb d (lv_at hl j hj) w) k
theorem r_istore_n (q : Nat) {k : Fin 4} {i : Nat} {x : Int32} (lv' : List (Nat × Value)) (h : Pu s own args cc nL P) (d : decode cc pc = .ok (.istore_n k, 1)) (hi : (k : Nat) = i) (hn : i < nL) (hl' : (i, Value.int x) :: lv.filter (fun q => !(q.1 == i) && !(q.1 + 1 == i && q.2.category == 2)) = lv') (e : pc + 1 = q) (k : P q st lv') : P pc (.int x :: st) lv := by subst e; exact h.goS (fun hx hb hl w => lv_istore_n hx hb d hi hl hn hl' w) k
theorem r_istore (q : Nat) {i : Nat} {x : Int32} (lv' : List (Nat × Value)) (h : Pu s own args cc nL P) (d : decode cc pc = .ok (.istore i, 2)) (hn : i < nL) (hl' : (i, Value.int x) :: lv.filter (fun q => !(q.1 == i) && !(q.1 + 1 == i && q.2.category == 2)) = lv') (e : pc + 2 = q) (k : P q st lv') : P pc (.int x :: st) lv := by subst e; exact h.goS (fun hx hb hl w => lv_istore hx hb d hl hn hl' w) k
theorem r_lstore_n (q : Nat) {k : Fin 4} {i : Nat} {x : Int64} (lv' : List (Nat × Value)) (h : Pu s own args cc nL P) (d : decode cc pc = .ok (.lstore_n k, 1)) (hi : (k : Nat) = i) (hn : i + 1 < nL) (hl' : (i, Value.long x) :: lv.filter (fun q => !(q.1 == i) && (!(q.1 == i + 1) && !(q.1 + 1 == i && q.2.category == 2))) = lv') (e : pc + 1 = q) (k : P q st lv') : P pc (.long x :: st) lv := by subst e; exact h.goS (fun hx hb hl w => lv_lstore_n hx hb d hi hl hn hl' w) k
theorem r_lstore (q : Nat) {i : Nat} {x : Int64} (lv' : List (Nat × Value)) (h : Pu s own args cc nL P) (d : decode cc pc = .ok (.lstore i, 2)) (hn : i + 1 < nL) (hl' : (i, Value.long x) :: lv.filter (fun q => !(q.1 == i) && (!(q.1 == i + 1) && !(q.1 + 1 == i && q.2.category == 2))) = lv') (e : pc + 2 = q) (k : P q st lv') : P pc (.long x :: st) lv := by subst e; exact h.goS (fun hx hb hl w => lv_lstore hx hb d hl hn hl' w) k
theorem r_astore_n (q : Nat) {k : Fin 4} {i : Nat} {x : Nat} (lv' : List (Nat × Value)) (h : Pu s own args cc nL P) (d : decode cc pc = .ok (.astore_n k, 1)) (hi : (k : Nat) = i) (hn : i < nL) (hl' : (i, Value.ref x) :: lv.filter (fun q => !(q.1 == i) && !(q.1 + 1 == i && q.2.category == 2)) = lv') (e : pc + 1 = q) (k : P q st lv') : P pc (.ref x :: st) lv := by subst e; exact h.goS (fun hx hb hl w => lv_astore_n hx hb d hi hl hn hl' w) k
theorem r_astore (q : Nat) {i : Nat} {x : Nat} (lv' : List (Nat × Value)) (h : Pu s own args cc nL P) (d : decode cc pc = .ok (.astore i, 2)) (hn : i < nL) (hl' : (i, Value.ref x) :: lv.filter (fun q => !(q.1 == i) && !(q.1 + 1 == i && q.2.category == 2)) = lv') (e : pc + 2 = q) (k : P q st lv') : P pc (.ref x :: st) lv := by subst e; exact h.goS (fun hx hb hl w => lv_astore hx hb d hl hn hl' w) k
theorem r_dstore_n (q : Nat) {k : Fin 4} {i : Nat} {x : UInt64} (lv' : List (Nat × Value)) (h : Pu s own args cc nL P) (d : decode cc pc = .ok (.dstore_n k, 1)) (hi : (k : Nat) = i) (hn : i + 1 < nL) (hl' : (i, Value.double x) :: lv.filter (fun q => !(q.1 == i) && (!(q.1 == i + 1) && !(q.1 + 1 == i && q.2.category == 2))) = lv') (e : pc + 1 = q) (k : P q st lv') : P pc (.double x :: st) lv := by subst e; exact h.goS (fun hx hb hl w => lv_dstore_n hx hb d hi hl hn hl' w) k
theorem r_dstore (q : Nat) {i : Nat} {x : UInt64} (lv' : List (Nat × Value)) (h : Pu s own args cc nL P) (d : decode cc pc = .ok (.dstore i, 2)) (hn : i + 1 < nL) (hl' : (i, Value.double x) :: lv.filter (fun q => !(q.1 == i) && (!(q.1 == i + 1) && !(q.1 + 1 == i && q.2.category == 2))) = lv') (e : pc + 2 = q) (k : P q st lv') : P pc (.double x :: st) lv := by subst e; exact h.goS (fun hx hb hl w => lv_dstore hx hb d hl hn hl' w) k
theorem r_astore_nN (q : Nat) {k : Fin 4} {i : Nat}  (lv' : List (Nat × Value)) (h : Pu s own args cc nL P) (d : decode cc pc = .ok (.astore_n k, 1)) (hi : (k : Nat) = i) (hn : i < nL) (hl' : (i, Value.null) :: lv.filter (fun q => !(q.1 == i) && !(q.1 + 1 == i && q.2.category == 2)) = lv') (e : pc + 1 = q) (k : P q st lv') : P pc (.null :: st) lv := by subst e; exact h.goS (fun hx hb hl w => lv_astore_nN hx hb d hi hl hn hl' w) k
theorem r_astoreN (q : Nat) {i : Nat}  (lv' : List (Nat × Value)) (h : Pu s own args cc nL P) (d : decode cc pc = .ok (.astore i, 2)) (hn : i < nL) (hl' : (i, Value.null) :: lv.filter (fun q => !(q.1 == i) && !(q.1 + 1 == i && q.2.category == 2)) = lv') (e : pc + 2 = q) (k : P q st lv') : P pc (.null :: st) lv := by subst e; exact h.goS (fun hx hb hl w => lv_astoreN hx hb d hl hn hl' w) k
theorem r_iinc (q : Nat) {i : Nat} {n : Int} {x : Int32} (v : Int32) (j : Nat) (lv' : List (Nat × Value)) (h : Pu s own args cc nL P) (d : decode cc pc = .ok (.iinc i n, 3)) (hj : lv[j]? = some (i, .int x)) (hv : x + Int32.ofInt n = v) (hn : i < nL) (hl' : (i, Value.int v) :: lv.filter (fun q => !(q.1 == i) && !(q.1 + 1 == i && q.2.category == 2)) = lv') (e : pc + 3 = q) (k : P q st lv') : P pc st lv := by subst e; exact h.goS (fun hx hb hl w => lv_iinc hx hb d hl hj hv hn hl' w) k
theorem r_iadd (q : Nat) {x y : Int32} (h : Pu s own args cc nL P) (d : decode cc pc = .ok (.iadd, 1))  (e : pc + 1 = q) (k : P q (.int (x + y) :: st) lv) : P pc (.int y :: .int x :: st) lv := by subst e; exact h.go (fun hx hb ho ht hl w => lv_iadd hx hb d w) k
theorem r_isub (q : Nat) {x y : Int32} (h : Pu s own args cc nL P) (d : decode cc pc = .ok (.isub, 1))  (e : pc + 1 = q) (k : P q (.int (x - y) :: st) lv) : P pc (.int y :: .int x :: st) lv := by subst e; exact h.go (fun hx hb ho ht hl w => lv_isub hx hb d w) k
theorem r_imul (q : Nat) {x y : Int32} (h : Pu s own args cc nL P) (d : decode cc pc = .ok (.imul, 1))  (e : pc + 1 = q) (k : P q (.int (x * y) :: st) lv) : P pc (.int y :: .int x :: st) lv := by subst e; exact h.go (fun hx hb ho ht hl w => lv_imul hx hb d w) k
theorem r_iand (q : Nat) {x y : Int32} (h : Pu s own args cc nL P) (d : decode cc pc = .ok (.iand, 1))  (e : pc + 1 = q) (k : P q (.int (x &&& y) :: st) lv) : P pc (.int y :: .int x :: st) lv := by subst e; exact h.go (fun hx hb ho ht hl w => lv_iand hx hb d w) k
theorem r_ior (q : Nat) {x y : Int32} (h : Pu s own args cc nL P) (d : decode cc pc = .ok (.ior, 1))  (e : pc + 1 = q) (k : P q (.int (x ||| y) :: st) lv) : P pc (.int y :: .int x :: st) lv := by subst e; exact h.go (fun hx hb ho ht hl w => lv_ior hx hb d w) k
theorem r_ixor (q : Nat) {x y : Int32} (h : Pu s own args cc nL P) (d : decode cc pc = .ok (.ixor, 1))  (e : pc + 1 = q) (k : P q (.int (x ^^^ y) :: st) lv) : P pc (.int y :: .int x :: st) lv := by subst e; exact h.go (fun hx hb ho ht hl w => lv_ixor hx hb d w) k
theorem r_ishl (q : Nat) {x y : Int32} (h : Pu s own args cc nL P) (d : decode cc pc = .ok (.ishl, 1))  (e : pc + 1 = q) (k : P q (.int (x <<< (y &&& 31)) :: st) lv) : P pc (.int y :: .int x :: st) lv := by subst e; exact h.go (fun hx hb ho ht hl w => lv_ishl hx hb d w) k
theorem r_ishr (q : Nat) {x y : Int32} (h : Pu s own args cc nL P) (d : decode cc pc = .ok (.ishr, 1))  (e : pc + 1 = q) (k : P q (.int (x >>> (y &&& 31)) :: st) lv) : P pc (.int y :: .int x :: st) lv := by subst e; exact h.go (fun hx hb ho ht hl w => lv_ishr hx hb d w) k
theorem r_ladd (q : Nat) {x y : Int64} (h : Pu s own args cc nL P) (d : decode cc pc = .ok (.ladd, 1))  (e : pc + 1 = q) (k : P q (.long (x + y) :: st) lv) : P pc (.long y :: .long x :: st) lv := by subst e; exact h.go (fun hx hb ho ht hl w => lv_ladd hx hb d w) k
theorem r_lsub (q : Nat) {x y : Int64} (h : Pu s own args cc nL P) (d : decode cc pc = .ok (.lsub, 1))  (e : pc + 1 = q) (k : P q (.long (x - y) :: st) lv) : P pc (.long y :: .long x :: st) lv := by subst e; exact h.go (fun hx hb ho ht hl w => lv_lsub hx hb d w) k
theorem r_lmul (q : Nat) {x y : Int64} (h : Pu s own args cc nL P) (d : decode cc pc = .ok (.lmul, 1))  (e : pc + 1 = q) (k : P q (.long (x * y) :: st) lv) : P pc (.long y :: .long x :: st) lv := by subst e; exact h.go (fun hx hb ho ht hl w => lv_lmul hx hb d w) k
theorem r_land (q : Nat) {x y : Int64} (h : Pu s own args cc nL P) (d : decode cc pc = .ok (.land, 1))  (e : pc + 1 = q) (k : P q (.long (x &&& y) :: st) lv) : P pc (.long y :: .long x :: st) lv := by subst e; exact h.go (fun hx hb ho ht hl w => lv_land hx hb d w) k
theorem r_lor (q : Nat) {x y : Int64} (h : Pu s own args cc nL P) (d : decode cc pc = .ok (.lor, 1))  (e : pc + 1 = q) (k : P q (.long (x ||| y) :: st) lv) : P pc (.long y :: .long x :: st) lv := by subst e; exact h.go (fun hx hb ho ht hl w => lv_lor hx hb d w) k
theorem r_lxor (q : Nat) {x y : Int64} (h : Pu s own args cc nL P) (d : decode cc pc = .ok (.lxor, 1))  (e : pc + 1 = q) (k : P q (.long (x ^^^ y) :: st) lv) : P pc (.long y :: .long x :: st) lv := by subst e; exact h.go (fun hx hb ho ht hl w => lv_lxor hx hb d w) k
theorem r_idiv (q : Nat) {x y : Int32} (h : Pu s own args cc nL P) (d : decode cc pc = .ok (.idiv, 1)) (hne : ¬ y = 0) (e : pc + 1 = q) (k : P q (.int (x / y) :: st) lv) : P pc (.int y :: .int x :: st) lv := by subst e; exact h.go (fun hx hb ho ht hl w => lv_idiv hx hb d hne w) k
theorem r_irem (q : Nat) {x y : Int32} (h : Pu s own args cc nL P) (d : decode cc pc = .ok (.irem, 1)) (hne : ¬ y = 0) (e : pc + 1 = q) (k : P q (.int (x - x / y * y) :: st) lv) : P pc (.int y :: .int x :: st) lv := by subst e; exact h.go (fun hx hb ho ht hl w => lv_irem hx hb d hne w) k
theorem r_ldiv (q : Nat) {x y : Int64} (h : Pu s own args cc nL P) (d : decode cc pc = .ok (.ldiv, 1)) (hne : ¬ y = 0) (e : pc + 1 = q) (k : P q (.long (x / y) :: st) lv) : P pc (.long y :: .long x :: st) lv := by subst e; exact h.go (fun hx hb ho ht hl w => lv_ldiv hx hb d hne w) k
theorem r_ineg (q : Nat) {x : Int32} (h : Pu s own args cc nL P) (d : decode cc pc = .ok (.ineg, 1))  (e : pc + 1 = q) (k : P q (.int (-x) :: st) lv) : P pc (.int x :: st) lv := by subst e; exact h.go (fun hx hb ho ht hl w => lv_ineg hx hb d w) k
theorem r_lneg (q : Nat) {x : Int64} (h : Pu s own args cc nL P) (d : decode cc pc = .ok (.lneg, 1))  (e : pc + 1 = q) (k : P q (.long (-x) :: st) lv) : P pc (.long x :: st) lv := by subst e; exact h.go (fun hx hb ho ht hl w => lv_lneg hx hb d w) k
theorem r_iushr (q : Nat) {x y : Int32} (h : Pu s own args cc nL P) (d : decode cc pc = .ok (.iushr, 1))  (e : pc + 1 = q) (k : P q (.int ((x.toUInt32 >>> (y.toUInt32 &&& Int32.toUInt32 31)).toInt32) :: st) lv) : P pc (.int y :: .int x :: st) lv := by subst e; exact h.go (fun hx hb ho ht hl w => lv_iushr hx hb d rfl w) k
theorem r_lushr (q : Nat) {x : Int64} {y : Int32} (h : Pu s own args cc nL P) (d : decode cc pc = .ok (.lushr, 1))  (e : pc + 1 = q) (k : P q (.long ((x.toUInt64 >>> (y.toInt64.toUInt64 &&& Int64.toUInt64 63)).toInt64) :: st) lv) : P pc (.int y :: .long x :: st) lv := by subst e; exact h.go (fun hx hb ho ht hl w => lv_lushr hx hb d rfl w) k
theorem r_lshl (q : Nat) {x : Int64} {y : Int32} (h : Pu s own args cc nL P) (d : decode cc pc = .ok (.lshl, 1))  (e : pc + 1 = q) (k : P q (.long (x <<< (y.toInt64 &&& 63)) :: st) lv) : P pc (.int y :: .long x :: st) lv := by subst e; exact h.go (fun hx hb ho ht hl w => lv_lshl hx hb d rfl w) k
theorem r_i2l (q : Nat) {x : Int32} (h : Pu s own args cc nL P) (d : decode cc pc = .ok (.i2l, 1))  (e : pc + 1 = q) (k : P q (.long x.toInt64 :: st) lv) : P pc (.int x :: st) lv := by subst e; exact h.go (fun hx hb ho ht hl w => lv_i2l hx hb d rfl w) k
theorem r_l2i (q : Nat) {x : Int64} (h : Pu s own args cc nL P) (d : decode cc pc = .ok (.l2i, 1))  (e : pc + 1 = q) (k : P q (.int x.toInt32 :: st) lv) : P pc (.long x :: st) lv := by subst e; exact h.go (fun hx hb ho ht hl w => lv_l2i hx hb d rfl w) k
theorem r_i2c (q : Nat) {x : Int32} (h : Pu s own args cc nL P) (d : decode cc pc = .ok (.i2c, 1))  (e : pc + 1 = q) (k : P q (.int (x.toUInt32 % 65536).toInt32 :: st) lv) : P pc (.int x :: st) lv := by subst e; exact h.go (fun hx hb ho ht hl w => lv_i2c hx hb d rfl w) k
theorem r_i2b (q : Nat) {x : Int32} (h : Pu s own args cc nL P) (d : decode cc pc = .ok (.i2b, 1))  (e : pc + 1 = q) (k : P q (.int x.toInt8.toInt32 :: st) lv) : P pc (.int x :: st) lv := by subst e; exact h.go (fun hx hb ho ht hl w => lv_i2b hx hb d rfl w) k
theorem r_i2f (q : Nat) {x : Int32} (h : Pu s own args cc nL P) (d : decode cc pc = .ok (.i2f, 1))  (e : pc + 1 = q) (k : P q (.float (FP.i2f x) :: st) lv) : P pc (.int x :: st) lv := by subst e; exact h.go (fun hx hb ho ht hl w => lv_i2f hx hb d w) k
theorem r_l2d (q : Nat) {x : Int64} (h : Pu s own args cc nL P) (d : decode cc pc = .ok (.l2d, 1))  (e : pc + 1 = q) (k : P q (.double (FP.l2d x) :: st) lv) : P pc (.long x :: st) lv := by subst e; exact h.go (fun hx hb ho ht hl w => lv_l2d hx hb d w) k
theorem r_f2d (q : Nat) {x : UInt32} (h : Pu s own args cc nL P) (d : decode cc pc = .ok (.f2d, 1)) (hne : vf_n64 (FP.f2d x)) (e : pc + 1 = q) (k : P q (.double (FP.f2d x) :: st) lv) : P pc (.float x :: st) lv := by subst e; exact h.go (fun hx hb ho ht hl w => lv_f2d hx hb d hne w) k
theorem r_fdiv (q : Nat) {x y : UInt32} (h : Pu s own args cc nL P) (d : decode cc pc = .ok (.fdiv, 1)) (hne : vf_n32 (FP.fdiv x y)) (e : pc + 1 = q) (k : P q (.float (FP.fdiv x y) :: st) lv) : P pc (.float y :: .float x :: st) lv := by subst e; exact h.go (fun hx hb ho ht hl w => lv_fdiv hx hb d hne w) k
theorem r_ddiv (q : Nat) {x y : UInt64} (h : Pu s own args cc nL P) (d : decode cc pc = .ok (.ddiv, 1)) (hne : vf_n64 (FP.ddiv x y)) (e : pc + 1 = q) (k : P q (.double (FP.ddiv x y) :: st) lv) : P pc (.double y :: .double x :: st) lv := by subst e; exact h.go (fun hx hb ho ht hl w => lv_ddiv hx hb d hne w) k
theorem r_dcmp (q : Nat) {x y : UInt64} {op : CmpOp} (h : Pu s own args cc nL P) (d : decode cc pc = .ok (.dcmp op, 1))  (e : pc + 1 = q) (k : P q (.int (Op.cmpValue (FP.dcmp x y) op) :: st) lv) : P pc (.double y :: .double x :: st) lv := by subst e; exact h.go (fun hx hb ho ht hl w => lv_dcmp hx hb d w) k
theorem r_lcmp (q : Nat) {x y : Int64} (h : Pu s own args cc nL P) (d : decode cc pc = .ok (.lcmp, 1))  (e : pc + 1 = q) (k : P q (.int (lg_cmp x y) :: st) lv) : P pc (.long y :: .long x :: st) lv := by subst e; exact h.go (fun hx hb ho ht hl w => W.lcmp hx hb d w) k
theorem r_dup (q : Nat) {va : Value} (h : Pu s own args cc nL P) (d : decode cc pc = .ok (.dup, 1)) (hva : va.category = 1) (e : pc + 1 = q) (k : P q (va :: va :: st) lv) : P pc (va :: st) lv := by subst e; exact h.go (fun hx hb ho ht hl w => lv_dup hx hb d hva w) k
theorem r_pop (q : Nat) {va : Value} (h : Pu s own args cc nL P) (d : decode cc pc = .ok (.pop, 1)) (hva : va.category = 1) (e : pc + 1 = q) (k : P q (st) lv) : P pc (va :: st) lv := by subst e; exact h.go (fun hx hb ho ht hl w => lv_pop hx hb d hva w) k
theorem r_pop2 (q : Nat) {va : Value} (h : Pu s own args cc nL P) (d : decode cc pc = .ok (.pop2, 1)) (hva : va.category = 2) (e : pc + 1 = q) (k : P q (st) lv) : P pc (va :: st) lv := by subst e; exact h.go (fun hx hb ho ht hl w => lv_pop2_2 hx hb d hva w) k
theorem r_dup_x1 (q : Nat) {va vb : Value} (h : Pu s own args cc nL P) (d : decode cc pc = .ok (.dup_x1, 1)) (hva : va.category = 1) (hvb : vb.category = 1) (e : pc + 1 = q) (k : P q (va :: vb :: va :: st) lv) : P pc (va :: vb :: st) lv := by subst e; exact h.go (fun hx hb ho ht hl w => lv_dup_x1 hx hb d hva hvb w) k
theorem r_dup2_2 (q : Nat) {va : Value} (h : Pu s own args cc nL P) (d : decode cc pc = .ok (.dup2, 1)) (hva : va.category = 2) (e : pc + 1 = q) (k : P q (va :: va :: st) lv) : P pc (va :: st) lv := by subst e; exact h.go (fun hx hb ho ht hl w => lv_dup2_2 hx hb d hva w) k
theorem r_dup2_11 (q : Nat) {va vb : Value} (h : Pu s own args cc nL P) (d : decode cc pc = .ok (.dup2, 1)) (hva : va.category = 1) (hvb : vb.category = 1) (e : pc + 1 = q) (k : P q (va :: vb :: va :: vb :: st) lv) : P pc (va :: vb :: st) lv := by subst e; exact h.go (fun hx hb ho ht hl w => lv_dup2_11 hx hb d hva hvb w) k
theorem r_ldc (q : Nat) {index : Nat} {v : Int32} (h : Pu s own args cc nL P) (d : decode cc pc = .ok (.ldc index, 2)) (hq : Cond.constant own index v ∈ lw_all) (e : pc + 2 = q) (k : P q (.int v :: st) lv) : P pc (st) lv := by subst e; exact h.go (fun hx hb ho ht hl w => lv_ldc hx hb ho (ht _ hq) d w) k
theorem r_ldcw (q : Nat) {index : Nat} {v : Int32} (h : Pu s own args cc nL P) (d : decode cc pc = .ok (.ldc_w index, 3)) (hq : Cond.constant own index v ∈ lw_all) (e : pc + 3 = q) (k : P q (.int v :: st) lv) : P pc (st) lv := by subst e; exact h.go (fun hx hb ho ht hl w => lv_ldcw hx hb ho (ht _ hq) d w) k
theorem r_ldc2 (q : Nat) {index : Nat} {v : Int64} (h : Pu s own args cc nL P) (d : decode cc pc = .ok (.ldc2_w index, 3)) (hq : Cond.constantLong own index v ∈ lw_all) (e : pc + 3 = q) (k : P q (.long v :: st) lv) : P pc (st) lv := by subst e; exact h.go (fun hx hb ho ht hl w => lv_ldc2 hx hb ho (ht _ hq) d w) k
theorem r_ldcf (q : Nat) {index : Nat} {v : UInt32} (h : Pu s own args cc nL P) (d : decode cc pc = .ok (.ldc index, 2)) (hq : Cond.constantFloat own index v ∈ lw_all) (e : pc + 2 = q) (k : P q (.float v :: st) lv) : P pc (st) lv := by subst e; exact h.go (fun hx hb ho ht hl w => lv_ldcf hx hb ho (ht _ hq) d w) k
theorem r_ldc2d (q : Nat) {index : Nat} {v : UInt64} (h : Pu s own args cc nL P) (d : decode cc pc = .ok (.ldc2_w index, 3)) (hq : Cond.constantDouble own index v ∈ lw_all) (e : pc + 3 = q) (k : P q (.double v :: st) lv) : P pc (st) lv := by subst e; exact h.go (fun hx hb ho ht hl w => lv_ldc2d hx hb ho (ht _ hq) d w) k
theorem r_if_eq (q tgt : Nat) {x : Int32} {off : Int} (h : Pu s own args cc nL P) (d : decode cc pc = .ok (.ifCond .eq off, 3)) (ht : (pc : Int) + off = (tgt : Int)) (kt : x = 0 → P tgt st lv) (e : pc + 3 = q) (kf : ¬ x = 0 → P q st lv) : P pc (.int x :: st) lv := by subst e; exact h.go2 (fun hx hb w1 w2 => lv_if_eq hx hb d ht w1 w2) kt kf
theorem r_icmp_eq (q tgt : Nat) {x y : Int32} {off : Int} (h : Pu s own args cc nL P) (d : decode cc pc = .ok (.if_icmp .eq off, 3)) (ht : (pc : Int) + off = (tgt : Int)) (kt : x = y → P tgt st lv) (e : pc + 3 = q) (kf : ¬ x = y → P q st lv) : P pc (.int y :: .int x :: st) lv := by subst e; exact h.go2 (fun hx hb w1 w2 => lv_icmp_eq hx hb d ht w1 w2) kt kf
theorem r_if_ne (q tgt : Nat) {x : Int32} {off : Int} (h : Pu s own args cc nL P) (d : decode cc pc = .ok (.ifCond .ne off, 3)) (ht : (pc : Int) + off = (tgt : Int)) (kt : ¬ x = 0 → P tgt st lv) (e : pc + 3 = q) (kf : x = 0 → P q st lv) : P pc (.int x :: st) lv := by subst e; exact h.go2 (fun hx hb w1 w2 => lv_if_ne hx hb d ht w1 w2) kt kf
theorem r_icmp_ne (q tgt : Nat) {x y : Int32} {off : Int} (h : Pu s own args cc nL P) (d : decode cc pc = .ok (.if_icmp .ne off, 3)) (ht : (pc : Int) + off = (tgt : Int)) (kt : ¬ x = y → P tgt st lv) (e : pc + 3 = q) (kf : x = y → P q st lv) : P pc (.int y :: .int x :: st) lv := by subst e; exact h.go2 (fun hx hb w1 w2 => lv_icmp_ne hx hb d ht w1 w2) kt kf
theorem r_if_lt (q tgt : Nat) {x : Int32} {off : Int} (h : Pu s own args cc nL P) (d : decode cc pc = .ok (.ifCond .lt off, 3)) (ht : (pc : Int) + off = (tgt : Int)) (kt : x < 0 → P tgt st lv) (e : pc + 3 = q) (kf : ¬ x < 0 → P q st lv) : P pc (.int x :: st) lv := by subst e; exact h.go2 (fun hx hb w1 w2 => lv_if_lt hx hb d ht w1 w2) kt kf
theorem r_icmp_lt (q tgt : Nat) {x y : Int32} {off : Int} (h : Pu s own args cc nL P) (d : decode cc pc = .ok (.if_icmp .lt off, 3)) (ht : (pc : Int) + off = (tgt : Int)) (kt : x < y → P tgt st lv) (e : pc + 3 = q) (kf : ¬ x < y → P q st lv) : P pc (.int y :: .int x :: st) lv := by subst e; exact h.go2 (fun hx hb w1 w2 => lv_icmp_lt hx hb d ht w1 w2) kt kf
theorem r_if_ge (q tgt : Nat) {x : Int32} {off : Int} (h : Pu s own args cc nL P) (d : decode cc pc = .ok (.ifCond .ge off, 3)) (ht : (pc : Int) + off = (tgt : Int)) (kt : 0 ≤ x → P tgt st lv) (e : pc + 3 = q) (kf : ¬ 0 ≤ x → P q st lv) : P pc (.int x :: st) lv := by subst e; exact h.go2 (fun hx hb w1 w2 => lv_if_ge hx hb d ht w1 w2) kt kf
theorem r_icmp_ge (q tgt : Nat) {x y : Int32} {off : Int} (h : Pu s own args cc nL P) (d : decode cc pc = .ok (.if_icmp .ge off, 3)) (ht : (pc : Int) + off = (tgt : Int)) (kt : y ≤ x → P tgt st lv) (e : pc + 3 = q) (kf : ¬ y ≤ x → P q st lv) : P pc (.int y :: .int x :: st) lv := by subst e; exact h.go2 (fun hx hb w1 w2 => lv_icmp_ge hx hb d ht w1 w2) kt kf
theorem r_if_gt (q tgt : Nat) {x : Int32} {off : Int} (h : Pu s own args cc nL P) (d : decode cc pc = .ok (.ifCond .gt off, 3)) (ht : (pc : Int) + off = (tgt : Int)) (kt : 0 < x → P tgt st lv) (e : pc + 3 = q) (kf : ¬ 0 < x → P q st lv) : P pc (.int x :: st) lv := by subst e; exact h.go2 (fun hx hb w1 w2 => lv_if_gt hx hb d ht w1 w2) kt kf
theorem r_icmp_gt (q tgt : Nat) {x y : Int32} {off : Int} (h : Pu s own args cc nL P) (d : decode cc pc = .ok (.if_icmp .gt off, 3)) (ht : (pc : Int) + off = (tgt : Int)) (kt : y < x → P tgt st lv) (e : pc + 3 = q) (kf : ¬ y < x → P q st lv) : P pc (.int y :: .int x :: st) lv := by subst e; exact h.go2 (fun hx hb w1 w2 => lv_icmp_gt hx hb d ht w1 w2) kt kf
theorem r_if_le (q tgt : Nat) {x : Int32} {off : Int} (h : Pu s own args cc nL P) (d : decode cc pc = .ok (.ifCond .le off, 3)) (ht : (pc : Int) + off = (tgt : Int)) (kt : x ≤ 0 → P tgt st lv) (e : pc + 3 = q) (kf : ¬ x ≤ 0 → P q st lv) : P pc (.int x :: st) lv := by subst e; exact h.go2 (fun hx hb w1 w2 => lv_if_le hx hb d ht w1 w2) kt kf
theorem r_icmp_le (q tgt : Nat) {x y : Int32} {off : Int} (h : Pu s own args cc nL P) (d : decode cc pc = .ok (.if_icmp .le off, 3)) (ht : (pc : Int) + off = (tgt : Int)) (kt : x ≤ y → P tgt st lv) (e : pc + 3 = q) (kf : ¬ x ≤ y → P q st lv) : P pc (.int y :: .int x :: st) lv := by subst e; exact h.go2 (fun hx hb w1 w2 => lv_icmp_le hx hb d ht w1 w2) kt kf
theorem r_goto {off : Int} (tgt : Nat) (h : Pu s own args cc nL P) (d : decode cc pc = .ok (.goto off, 3)) (htg : (pc : Int) + off = (tgt : Int)) (k : P tgt (st) lv) : P pc (st) lv := h.go (fun hx hb ho ht hl w => lv_goto hx hb d htg w) k
theorem r_ifnonnull {x : Nat} {off : Int} (tgt : Nat) (h : Pu s own args cc nL P) (d : decode cc pc = .ok (.ifnonnull off, 3)) (htg : (pc : Int) + off = (tgt : Int)) (k : P tgt (st) lv) : P pc (.ref x :: st) lv := h.go (fun hx hb ho ht hl w => lv_ifnonnull hx hb d htg w) k
theorem r_ifnull (q : Nat) {x : Nat} {off : Int} (h : Pu s own args cc nL P) (d : decode cc pc = .ok (.ifnull off, 3))  (e : pc + 3 = q) (k : P q (st) lv) : P pc (.ref x :: st) lv := by subst e; exact h.go (fun hx hb ho ht hl w => lv_ifnull hx hb d w) k
theorem r_ifnullN {off : Int} (tgt : Nat) (h : Pu s own args cc nL P) (d : decode cc pc = .ok (.ifnull off, 3)) (htg : (pc : Int) + off = (tgt : Int)) (k : P tgt (st) lv) : P pc (.null :: st) lv := h.go (fun hx hb ho ht hl w => lv_ifnullN hx hb d htg w) k
theorem r_ifnonnullN (q : Nat) {off : Int} (h : Pu s own args cc nL P) (d : decode cc pc = .ok (.ifnonnull off, 3))  (e : pc + 3 = q) (k : P q (st) lv) : P pc (.null :: st) lv := by subst e; exact h.go (fun hx hb ho ht hl w => lv_ifnonnullN hx hb d w) k
theorem r_castN (q : Nat) {index : Nat} (h : Pu s own args cc nL P) (d : decode cc pc = .ok (.checkcast index, 3))  (e : pc + 3 = q) (k : P q (.null :: st) lv) : P pc (.null :: st) lv := by subst e; exact h.go (fun hx hb ho ht hl w => lv_castN hx hb d w) k
theorem r_acmp_eq (q tgt : Nat) {rx ry : Option Nat} {off : Int} (h : Pu s own args cc nL P) (d : decode cc pc = .ok (.if_acmp .eq off, 3)) (ht : (pc : Int) + off = (tgt : Int)) (kt : rx = ry → P tgt st lv) (e : pc + 3 = q) (kf : ¬ rx = ry → P q st lv) : P pc (va_rf ry :: va_rf rx :: st) lv := by subst e; exact h.go2 (fun hx hb w1 w2 => lv_acmp_eq hx hb d ht w1 w2) kt kf
theorem r_acmp_ne (q tgt : Nat) {rx ry : Option Nat} {off : Int} (h : Pu s own args cc nL P) (d : decode cc pc = .ok (.if_acmp .ne off, 3)) (ht : (pc : Int) + off = (tgt : Int)) (kt : ¬ rx = ry → P tgt st lv) (e : pc + 3 = q) (kf : rx = ry → P q st lv) : P pc (va_rf ry :: va_rf rx :: st) lv := by subst e; exact h.go2 (fun hx hb w1 w2 => lv_acmp_ne hx hb d ht w1 w2) kt kf
theorem r_tableIn {dflt lo hi : Int} {offs : Array Int} {len : Nat} {x : Int32} {off : Int} (tgt : Nat) (h : Pu s own args cc nL P) (d : decode cc pc = .ok (.tableswitch dflt lo hi offs, len)) (h1 : ¬ x.toInt < lo) (h2 : ¬ hi < x.toInt) (ho' : offs[(x.toInt - lo).toNat]? = some off) (ht' : (pc : Int) + off = (tgt : Int)) (k : P tgt (st) lv) : P pc (.int x :: st) lv := h.go (fun hx hb ho ht hl w => lv_tableIn hx hb d h1 h2 ho' ht' w) k
theorem r_tableOut {dflt lo hi : Int} {offs : Array Int} {len : Nat} {x : Int32} (tgt : Nat) (h : Pu s own args cc nL P) (d : decode cc pc = .ok (.tableswitch dflt lo hi offs, len)) (h1 : x.toInt < lo ∨ hi < x.toInt) (ht' : (pc : Int) + dflt = (tgt : Int)) (k : P tgt (st) lv) : P pc (.int x :: st) lv := h.go (fun hx hb ho ht hl w => lv_tableOut hx hb d h1 ht' w) k
theorem r_lookup {dflt : Int} {ps : Array (Int × Int)} {len : Nat} {x : Int32} {off : Int} (tgt : Nat) (h : Pu s own args cc nL P) (d : decode cc pc = .ok (.lookupswitch dflt ps, len)) (hp' : (ps.toList.zip (ps.toList.drop 1)).all (fun (a, next) => a.1 < next.1) = true) (ho' : Op.lookupswitch.offset ps.toList dflt x.toInt = off) (ht' : (pc : Int) + off = (tgt : Int)) (k : P tgt (st) lv) : P pc (.int x :: st) lv := h.go (fun hx hb ho ht hl w => lv_lookup hx hb d hp' ho' ht' w) k
theorem r_topi {x : Int32} (k : ∀ y : Int32, y = x → P pc (.int y :: st) lv) : P pc (.int x :: st) lv := k x rfl
theorem r_topl {x : Int64} (k : ∀ y : Int64, y = x → P pc (.long y :: st) lv) : P pc (.long x :: st) lv := k x rfl
theorem r_eqi {x : Int32} (y : Int32) (e : x = y) (k : P pc (.int y :: st) lv) : P pc (.int x :: st) lv := e ▸ k
theorem r_eql {x : Int64} (y : Int64) (e : x = y) (k : P pc (.long y :: st) lv) : P pc (.long x :: st) lv := e ▸ k
end PURE

/-! the world's classes -/
/-- the classes' numbers and places of fields, the array classes, addresses of constants, the heap at the law's start -/
abbrev DD : Type := va_G × (Nat → ClassId) × (Nat → Nat) × Heap
def aCl : List vw_C := [(RX8, TX8, 23), (RX1, TX1, 7), (RX2, TX2, 5), (RX3, TX3, 5), (RX4, TX4, 2), (RX5, TX5, 3), (RX6, TX6, 7), (RX7, TX7, 5), (RX9, TX9, 5), (RX10, TX10, 7), (RX11, TX11, 2), (RX12, TX12, 6), (RJ8, TJ8, 3), (RJ10, TJ10, 4), (RJ39, TJ39, 3), (RJ35, TJ35, 5), (RJ14, TJ14, 3), (RJ54, TJ54, 3), (RJ4, TJ4, 2), (RJ28, TJ28, 1), (RJ47, TJ47, 1), (RJ44, TJ44, 2), (RJ48, TJ48, 5), (RJ23, TJ23, 4), (RJ18, TJ18, 0), (RJ19, TJ19, 0), (RJ20, TJ20, 0), (RJ38, TJ38, 0), (RJ55, TJ55, 0)]

def aTys (d : Nat → ClassId) : List (ClassId × FieldType) := [(d 0, .int), (d 1, .long), (d 2, .char), (d 3, .object "java/lang/Object"), (d 4, .object "TaxWorkbench$Person"), (d 5, .double), (d 6, .byte), (d 7, .object "java/lang/Integer"), (d 8, .object "java/lang/Long")]
/-- the array classes whose component is known by its name too -/
def aTy7 (d : Nat → ClassId) : List (ClassId × FieldType) := [(d 0, .int), (d 1, .long), (d 2, .char), (d 3, .object "java/lang/Object"), (d 4, .object "TaxWorkbench$Person"), (d 5, .double), (d 6, .byte)]
def nwL : List Cond := [(Jvm.Cond.fieldLinkNest "java/util/AbstractList$SubList$1" (17 : Nat) "java/util/AbstractList$SubList" "root" "Ljava/util/AbstractList;" "java/util/AbstractList"),
  (Jvm.Cond.fieldLinkNest "java/util/AbstractList$SubList$1" (23 : Nat) "java/util/AbstractList$SubList" "offset" "I" "java/util/AbstractList"),
  (Jvm.Cond.fieldLinkNest "java/util/ArrayList$Itr" (28 : Nat) "java/util/ArrayList" "size" "I" "java/util/ArrayList"),
  (Jvm.Cond.fieldLinkNest "java/util/ArrayList$SubList$1" (40 : Nat) "java/util/ArrayList$SubList" "root" "Ljava/util/ArrayList;" "java/util/ArrayList"),
  (Jvm.Cond.fieldLinkNest "java/util/ArrayList$SubList$1" (50 : Nat) "java/util/ArrayList$SubList" "offset" "I" "java/util/ArrayList"),
  (Jvm.Cond.fieldLinkNest "java/util/ArrayList$SubList$1" (31 : Nat) "java/util/ArrayList$SubList" "size" "I" "java/util/ArrayList"),
  (Jvm.Cond.fieldLinkNest "java/util/ImmutableCollections$List12" (19 : Nat) "java/util/ImmutableCollections" "EMPTY" "Ljava/lang/Object;" "java/util/ImmutableCollections"),
  (Jvm.Cond.fieldLinkNest "TaxWorkbench" (151 : Nat) "TaxWorkbench$Bracket" "threshold" "I" "TaxWorkbench"),
  (Jvm.Cond.fieldLinkNest "TaxWorkbench" (154 : Nat) "TaxWorkbench$Bracket" "rate" "I" "TaxWorkbench"),
  (Jvm.Cond.fieldLinkNest "TaxWorkbench" (135 : Nat) "TaxWorkbench$Rules" "brackets" "Ljava/util/List;" "TaxWorkbench"),
  (Jvm.Cond.fieldLinkNest "TaxWorkbench" (157 : Nat) "TaxWorkbench$Rules" "allowance" "[I" "TaxWorkbench"),
  (Jvm.Cond.fieldLinkNest "TaxWorkbench" (161 : Nat) "TaxWorkbench$Rules" "minimum" "[I" "TaxWorkbench"),
  (Jvm.Cond.fieldLinkNest "TaxWorkbench" (111 : Nat) "TaxWorkbench$Rules" "charges" "Ljava/util/ArrayList;" "TaxWorkbench"),
  (Jvm.Cond.fieldLinkNest "TaxWorkbench" (120 : Nat) "TaxWorkbench$Rules" "credits" "Ljava/util/LinkedList;" "TaxWorkbench"),
  (Jvm.Cond.fieldLinkNest "TaxWorkbench" (220 : Nat) "TaxWorkbench$Person" "earned" "I" "TaxWorkbench"),
  (Jvm.Cond.fieldLinkNest "TaxWorkbench" (223 : Nat) "TaxWorkbench$Person" "other" "I" "TaxWorkbench"),
  (Jvm.Cond.fieldLinkNest "TaxWorkbench" (226 : Nat) "TaxWorkbench$Person" "dependents" "I" "TaxWorkbench"),
  (Jvm.Cond.fieldLinkNest "TaxWorkbench" (107 : Nat) "TaxWorkbench$World" "rules" "LTaxWorkbench$Rules;" "TaxWorkbench"),
  (Jvm.Cond.fieldLinkNest "TaxWorkbench" (207 : Nat) "TaxWorkbench$World" "people" "[LTaxWorkbench$Person;" "TaxWorkbench"),
  (Jvm.Cond.fieldLinkNest "TaxWorkbench" (229 : Nat) "TaxWorkbench$World" "partners" "[I" "TaxWorkbench"),
  (Jvm.Cond.fieldLinkNest "TaxWorkbench" (128 : Nat) "TaxWorkbench$World" "carried" "Ljava/util/ArrayList;" "TaxWorkbench"),
  (Jvm.Cond.fieldLinkNest "TaxWorkbench" (320 : Nat) "TaxWorkbench$World" "years" "I" "TaxWorkbench"),
  (Jvm.Cond.fieldLinkNest "TaxWorkbench" (247 : Nat) "TaxWorkbench$Case" "carried" "[J" "TaxWorkbench"),
  (Jvm.Cond.fieldLinkNest "TaxWorkbench" (238 : Nat) "TaxWorkbench$Computation" "it" "LTaxWorkbench$Case;" "TaxWorkbench"),
  (Jvm.Cond.fieldLinkNest "TaxWorkbench" (267 : Nat) "TaxWorkbench$Computation" "parts" "[J" "TaxWorkbench"),
  (Jvm.Cond.fieldLinkNest "TaxWorkbench" (309 : Nat) "TaxWorkbench$Computation" "kept" "[J" "TaxWorkbench"),
  (Jvm.Cond.fieldLinkNest "TaxWorkbench" (103 : Nat) "TaxWorkbench$Reader" "rules" "LTaxWorkbench$Rules;" "TaxWorkbench"),
  (Jvm.Cond.fieldLinkNest "TaxWorkbench" (108 : Nat) "TaxWorkbench$Reader" "items" "I" "TaxWorkbench"),
  (Jvm.Cond.fieldLinkNest "TaxWorkbench" (94 : Nat) "TaxWorkbench$FaultException" "position" "I" "TaxWorkbench"),
  (Jvm.Cond.fieldLinkNest "TaxWorkbench" (167 : Nat) "TaxWorkbench$Charge" "threshold" "I" "TaxWorkbench"),
  (Jvm.Cond.fieldLinkNest "TaxWorkbench" (168 : Nat) "TaxWorkbench$Charge" "amount" "I" "TaxWorkbench"),
  (Jvm.Cond.fieldLinkNest "TaxWorkbench$Credit" (52 : Nat) "TaxWorkbench$Case" "earned" "I" "TaxWorkbench"),
  (Jvm.Cond.fieldLinkNest "TaxWorkbench$Credit" (45 : Nat) "TaxWorkbench$Case" "dependents" "I" "TaxWorkbench"),
  (Jvm.Cond.fieldLinkNest "TaxWorkbench$Rules" (71 : Nat) "TaxWorkbench$Bracket" "threshold" "I" "TaxWorkbench"),
  (Jvm.Cond.fieldLinkNest "TaxWorkbench$Rules" (75 : Nat) "TaxWorkbench$Bracket" "rate" "I" "TaxWorkbench"),
  (Jvm.Cond.fieldLinkNest "TaxWorkbench$Rules" (128 : Nat) "TaxWorkbench$Case" "income" "I" "TaxWorkbench"),
  (Jvm.Cond.fieldLinkNest "TaxWorkbench$Rules" (101 : Nat) "TaxWorkbench$Case" "factor" "I" "TaxWorkbench"),
  (Jvm.Cond.fieldLinkNest "TaxWorkbench$Rules" (131 : Nat) "TaxWorkbench$Charge" "threshold" "I" "TaxWorkbench"),
  (Jvm.Cond.fieldLinkNest "TaxWorkbench$Rules" (132 : Nat) "TaxWorkbench$Charge" "amount" "I" "TaxWorkbench"),
  (Jvm.Cond.fieldLinkNest "TaxWorkbench$Computation" (68 : Nat) "TaxWorkbench$Rules" "credits" "Ljava/util/LinkedList;" "TaxWorkbench"),
  (Jvm.Cond.fieldLinkNest "TaxWorkbench$Computation" (43 : Nat) "TaxWorkbench$Case" "income" "I" "TaxWorkbench"),
  (Jvm.Cond.fieldLinkNest "TaxWorkbench$Computation" (55 : Nat) "TaxWorkbench$Case" "factor" "I" "TaxWorkbench"),
  (Jvm.Cond.fieldLinkNest "TaxWorkbench$Computation" (94 : Nat) "TaxWorkbench$Case" "carried" "[J" "TaxWorkbench"),
  (Jvm.Cond.fieldLinkNest "TaxWorkbench$Computation" (91 : Nat) "TaxWorkbench$Credit" "kind" "I" "TaxWorkbench"),
  (Jvm.Cond.fieldLinkNest "TaxWorkbench$Reader" (96 : Nat) "TaxWorkbench$Rules" "brackets" "Ljava/util/List;" "TaxWorkbench"),
  (Jvm.Cond.fieldLinkNest "TaxWorkbench$Reader" (145 : Nat) "TaxWorkbench$Rules" "allowance" "[I" "TaxWorkbench"),
  (Jvm.Cond.fieldLinkNest "TaxWorkbench$Reader" (153 : Nat) "TaxWorkbench$Rules" "minimum" "[I" "TaxWorkbench"),
  (Jvm.Cond.fieldLinkNest "TaxWorkbench$Reader" (128 : Nat) "TaxWorkbench$Rules" "charges" "Ljava/util/ArrayList;" "TaxWorkbench"),
  (Jvm.Cond.fieldLinkNest "TaxWorkbench$Reader" (104 : Nat) "TaxWorkbench$Rules" "credits" "Ljava/util/LinkedList;" "TaxWorkbench"),
  (Jvm.Cond.fieldLinkNest "TaxWorkbench$Reader" (19 : Nat) "TaxWorkbench$World" "rules" "LTaxWorkbench$Rules;" "TaxWorkbench"),
  (Jvm.Cond.fieldLinkNest "TaxWorkbench$Reader" (15 : Nat) "TaxWorkbench" "now" "LTaxWorkbench$World;" "TaxWorkbench"),
  (Jvm.Cond.fieldLinkNest "TaxWorkbench$Reader" (43 : Nat) "TaxWorkbench" "text" "[C" "TaxWorkbench"),
  (Jvm.Cond.fieldLinkNest "TaxWorkbench$Reader" (40 : Nat) "TaxWorkbench" "textLength" "I" "TaxWorkbench"),
  (Jvm.Cond.methodLinkNest "java/util/AbstractList$SubList$1" (70 : Nat) ({ cls := "java/util/AbstractList$SubList", name := "updateSizeAndModCount", desc := "(I)V" } : Jvm.MethodName) "java/util/AbstractList"),
  (Jvm.Cond.methodLinkNest "TaxWorkbench" (37 : Nat) ({ cls := "TaxWorkbench$Computation", name := "<init>", desc := "()V" } : Jvm.MethodName) "TaxWorkbench"),
  (Jvm.Cond.methodLinkNest "TaxWorkbench" (127 : Nat) ({ cls := "TaxWorkbench$Rules", name := "<init>", desc := "()V" } : Jvm.MethodName) "TaxWorkbench"),
  (Jvm.Cond.methodLinkNest "TaxWorkbench" (86 : Nat) ({ cls := "TaxWorkbench$Reader", name := "<init>", desc := "(LTaxWorkbench;)V" } : Jvm.MethodName) "TaxWorkbench"),
  (Jvm.Cond.methodLinkNest "TaxWorkbench$World" (11 : Nat) ({ cls := "TaxWorkbench$Rules", name := "<init>", desc := "()V" } : Jvm.MethodName) "TaxWorkbench"),
  (Jvm.Cond.methodLinkNest "TaxWorkbench$Rules" (63 : Nat) ({ cls := "TaxWorkbench", name := "isBetween", desc := "(III)Z" } : Jvm.MethodName) "TaxWorkbench"),
  (Jvm.Cond.methodLinkNest "TaxWorkbench$Computation" (11 : Nat) ({ cls := "TaxWorkbench$Case", name := "<init>", desc := "()V" } : Jvm.MethodName) "TaxWorkbench"),
  (Jvm.Cond.methodLinkNest "TaxWorkbench$Reader" (56 : Nat) ({ cls := "TaxWorkbench", name := "isBetween", desc := "(III)Z" } : Jvm.MethodName) "TaxWorkbench"),
  (Jvm.Cond.castable "java/util/LinkedList" "java/util/List"),
  (Jvm.Cond.castable "java/util/LinkedList" "java/util/Collection"),
  (Jvm.Cond.castable "java/util/LinkedList" "java/lang/Object"),
  (Jvm.Cond.castable "java/util/ArrayDeque" "java/util/Collection"),
  (Jvm.Cond.castable "java/util/ArrayDeque" "java/lang/Object"),
  (Jvm.Cond.castable "java/lang/Throwable" "java/lang/Object"),
  (Jvm.Cond.castable "java/lang/IllegalArgumentException" "java/lang/IllegalArgumentException"),
  (Jvm.Cond.castable "java/lang/IllegalArgumentException" "java/lang/Object"),
  (Jvm.Cond.castable "java/lang/IllegalStateException" "java/lang/IllegalStateException"),
  (Jvm.Cond.castable "java/lang/IllegalStateException" "java/lang/Object"),
  (Jvm.Cond.castable "java/lang/IndexOutOfBoundsException" "java/lang/IndexOutOfBoundsException"),
  (Jvm.Cond.castable "java/lang/IndexOutOfBoundsException" "java/lang/Object"),
  (Jvm.Cond.castable "java/lang/StringBuilder" "java/lang/Object"),
  (Jvm.Cond.castable "java/lang/String" "java/lang/Object"),
  (Jvm.Cond.castable "java/lang/Integer" "java/lang/Object"),
  (Jvm.Cond.castable "java/util/AbstractList$ListItr" "java/util/Iterator"),
  (Jvm.Cond.castable "java/util/AbstractList$ListItr" "java/util/ListIterator"),
  (Jvm.Cond.castable "java/util/AbstractList$ListItr" "java/lang/Object"),
  (Jvm.Cond.castable "java/util/AbstractList$SubList$1" "java/util/Iterator"),
  (Jvm.Cond.castable "java/util/AbstractList$SubList$1" "java/util/ListIterator"),
  (Jvm.Cond.castable "java/util/AbstractList$SubList$1" "java/lang/Object"),
  (Jvm.Cond.castable "java/util/ArrayList$Itr" "java/util/Iterator"),
  (Jvm.Cond.castable "java/util/ArrayList$Itr" "java/lang/Object"),
  (Jvm.Cond.castable "java/util/ArrayList$ListItr" "java/util/ListIterator"),
  (Jvm.Cond.castable "java/util/ArrayList$ListItr" "java/util/Iterator"),
  (Jvm.Cond.castable "java/util/ArrayList$ListItr" "java/lang/Object"),
  (Jvm.Cond.castable "java/util/ArrayList$SubList$1" "java/util/ListIterator"),
  (Jvm.Cond.castable "java/util/ArrayList$SubList$1" "java/util/Iterator"),
  (Jvm.Cond.castable "java/util/ArrayList$SubList$1" "java/lang/Object"),
  (Jvm.Cond.castable "java/util/LinkedList$ListItr" "java/util/ListIterator"),
  (Jvm.Cond.castable "java/util/LinkedList$ListItr" "java/util/Iterator"),
  (Jvm.Cond.castable "java/util/LinkedList$ListItr" "java/lang/Object"),
  (Jvm.Cond.castable "java/util/ArrayDeque$DeqIterator" "java/util/Iterator"),
  (Jvm.Cond.castable "java/util/ArrayDeque$DeqIterator" "java/lang/Object"),
  (Jvm.Cond.castable "java/util/ImmutableCollections$ListItr" "java/util/ListIterator"),
  (Jvm.Cond.castable "java/util/ImmutableCollections$ListItr" "java/util/Iterator"),
  (Jvm.Cond.castable "java/util/ImmutableCollections$ListItr" "java/lang/Object"),
  (Jvm.Cond.castable "java/util/NoSuchElementException" "java/util/NoSuchElementException"),
  (Jvm.Cond.castable "java/util/NoSuchElementException" "java/lang/Object"),
  (Jvm.Cond.castable "java/util/LinkedList$Node" "java/lang/Object"),
  (Jvm.Cond.castable "java/util/ImmutableCollections$List12" "java/util/List"),
  (Jvm.Cond.castable "java/util/ImmutableCollections$List12" "java/util/Collection"),
  (Jvm.Cond.castable "java/util/ImmutableCollections$List12" "java/util/RandomAccess"),
  (Jvm.Cond.castable "java/util/ImmutableCollections$List12" "java/lang/Object"),
  (Jvm.Cond.castable "java/util/Collections$UnmodifiableList" "java/util/List"),
  (Jvm.Cond.castable "java/util/Collections$UnmodifiableList" "java/util/Collection"),
  (Jvm.Cond.castable "java/util/Collections$UnmodifiableList" "java/lang/Object"),
  (Jvm.Cond.castable "java/util/Collections$UnmodifiableRandomAccessList" "java/util/List"),
  (Jvm.Cond.castable "java/util/Collections$UnmodifiableRandomAccessList" "java/util/Collection"),
  (Jvm.Cond.castable "java/util/Collections$UnmodifiableRandomAccessList" "java/util/RandomAccess"),
  (Jvm.Cond.castable "java/util/Collections$UnmodifiableRandomAccessList" "java/lang/Object"),
  (Jvm.Cond.castable "java/lang/ArrayIndexOutOfBoundsException" "java/lang/ArrayIndexOutOfBoundsException"),
  (Jvm.Cond.castable "java/lang/ArrayIndexOutOfBoundsException" "java/lang/IndexOutOfBoundsException"),
  (Jvm.Cond.castable "java/lang/ArrayIndexOutOfBoundsException" "java/lang/Object"),
  (Jvm.Cond.castable "java/util/ConcurrentModificationException" "java/util/ConcurrentModificationException"),
  (Jvm.Cond.castable "java/util/ConcurrentModificationException" "java/lang/Object"),
  (Jvm.Cond.castable "java/lang/Long" "java/lang/Object"),
  (Jvm.Cond.castable "java/util/ArrayList$SubList" "java/util/List"),
  (Jvm.Cond.castable "java/util/ArrayList$SubList" "java/util/Collection"),
  (Jvm.Cond.castable "java/util/ArrayList$SubList" "java/util/RandomAccess"),
  (Jvm.Cond.castable "java/util/ArrayList$SubList" "java/lang/Object"),
  (Jvm.Cond.castable "java/util/AbstractList$SubList" "java/util/List"),
  (Jvm.Cond.castable "java/util/AbstractList$SubList" "java/util/Collection"),
  (Jvm.Cond.castable "java/util/AbstractList$SubList" "java/lang/Object"),
  (Jvm.Cond.castable "java/util/AbstractList$RandomAccessSubList" "java/util/Collection"),
  (Jvm.Cond.castable "java/util/AbstractList$RandomAccessSubList" "java/util/List"),
  (Jvm.Cond.castable "java/util/AbstractList$RandomAccessSubList" "java/util/RandomAccess"),
  (Jvm.Cond.castable "java/util/AbstractList$RandomAccessSubList" "java/lang/Object"),
  (Jvm.Cond.castable "java/util/ImmutableCollections$SubList" "java/util/List"),
  (Jvm.Cond.castable "java/util/ImmutableCollections$SubList" "java/util/Collection"),
  (Jvm.Cond.castable "java/util/ImmutableCollections$SubList" "java/util/RandomAccess"),
  (Jvm.Cond.castable "java/util/ImmutableCollections$SubList" "java/lang/Object"),
  (Jvm.Cond.castable "java/util/Collections$UnmodifiableList$1" "java/util/ListIterator"),
  (Jvm.Cond.castable "java/util/Collections$UnmodifiableList$1" "java/util/Iterator"),
  (Jvm.Cond.castable "java/util/Collections$UnmodifiableList$1" "java/lang/Object"),
  (Jvm.Cond.castable "java/lang/UnsupportedOperationException" "java/lang/UnsupportedOperationException"),
  (Jvm.Cond.castable "java/lang/UnsupportedOperationException" "java/lang/Object"),
  (Jvm.Cond.castable "java/util/BitSet" "java/lang/Object"),
  (Jvm.Cond.castable "java/lang/ArithmeticException" "java/lang/ArithmeticException"),
  (Jvm.Cond.castable "java/lang/ArithmeticException" "java/lang/Object"),
  (Jvm.Cond.castable "java/util/ArrayList" "java/util/List"),
  (Jvm.Cond.castable "java/util/ArrayList" "java/util/Collection"),
  (Jvm.Cond.castable "java/util/ArrayList" "java/util/RandomAccess"),
  (Jvm.Cond.castable "java/util/ArrayList" "java/lang/Object"),
  (Jvm.Cond.castable "TaxWorkbench" "java/lang/Object"),
  (Jvm.Cond.castable "TaxWorkbench$FaultException" "TaxWorkbench$FaultException"),
  (Jvm.Cond.castable "TaxWorkbench$FaultException" "java/lang/Object"),
  (Jvm.Cond.castable "TaxWorkbench$Charge" "java/lang/Object"),
  (Jvm.Cond.castable "TaxWorkbench$Credit" "java/lang/Object"),
  (Jvm.Cond.castable "TaxWorkbench$World" "java/lang/Object"),
  (Jvm.Cond.castable "TaxWorkbench$Rules" "java/lang/Object"),
  (Jvm.Cond.castable "TaxWorkbench$Bracket" "java/lang/Object"),
  (Jvm.Cond.castable "TaxWorkbench$Person" "java/lang/Object"),
  (Jvm.Cond.castable "TaxWorkbench$Computation" "java/lang/Object"),
  (Jvm.Cond.castable "TaxWorkbench$Case" "java/lang/Object"),
  (Jvm.Cond.castable "TaxWorkbenchModel" "java/lang/Object"),
  (Jvm.Cond.castable "TaxWorkbench$Reader" "java/lang/Object"),
  (Jvm.Cond.castable "[J" "java/lang/Cloneable"),
  (Jvm.Cond.castable "[J" "java/lang/Object"),
  (Jvm.Cond.declares ({ cls := "java/util/List", name := "get", desc := "(I)Ljava/lang/Object;" } : Jvm.MethodName)),
  (Jvm.Cond.declares ({ cls := "java/util/List", name := "size", desc := "()I" } : Jvm.MethodName)),
  (Jvm.Cond.declares ({ cls := "java/util/List", name := "set", desc := "(ILjava/lang/Object;)Ljava/lang/Object;" } : Jvm.MethodName)),
  (Jvm.Cond.declares ({ cls := "java/util/List", name := "subList", desc := "(II)Ljava/util/List;" } : Jvm.MethodName)),
  (Jvm.Cond.declares ({ cls := "java/util/List", name := "listIterator", desc := "()Ljava/util/ListIterator;" } : Jvm.MethodName)),
  (Jvm.Cond.declares ({ cls := "java/util/List", name := "listIterator", desc := "(I)Ljava/util/ListIterator;" } : Jvm.MethodName)),
  (Jvm.Cond.declares ({ cls := "java/util/AbstractCollection", name := "size", desc := "()I" } : Jvm.MethodName)),
  (Jvm.Cond.declares ({ cls := "java/util/AbstractCollection", name := "iterator", desc := "()Ljava/util/Iterator;" } : Jvm.MethodName)),
  (Jvm.Cond.declares ({ cls := "java/lang/Throwable", name := "<init>", desc := "()V" } : Jvm.MethodName)),
  (Jvm.Cond.declares ({ cls := "java/lang/Throwable", name := "<init>", desc := "(Ljava/lang/String;)V" } : Jvm.MethodName)),
  (Jvm.Cond.declares ({ cls := "java/lang/Exception", name := "<init>", desc := "()V" } : Jvm.MethodName)),
  (Jvm.Cond.declares ({ cls := "java/lang/Exception", name := "<init>", desc := "(Ljava/lang/String;)V" } : Jvm.MethodName)),
  (Jvm.Cond.declares ({ cls := "java/lang/RuntimeException", name := "<init>", desc := "()V" } : Jvm.MethodName)),
  (Jvm.Cond.declares ({ cls := "java/lang/RuntimeException", name := "<init>", desc := "(Ljava/lang/String;)V" } : Jvm.MethodName)),
  (Jvm.Cond.declares ({ cls := "java/lang/IndexOutOfBoundsException", name := "<init>", desc := "()V" } : Jvm.MethodName)),
  (Jvm.Cond.declares ({ cls := "java/lang/IndexOutOfBoundsException", name := "<init>", desc := "(Ljava/lang/String;)V" } : Jvm.MethodName)),
  (Jvm.Cond.declares ({ cls := "java/util/AbstractList$Itr", name := "checkForComodification", desc := "()V" } : Jvm.MethodName)),
  (Jvm.Cond.declares ({ cls := "java/util/ImmutableCollections$AbstractImmutableList", name := "outOfBounds", desc := "(I)Ljava/lang/IndexOutOfBoundsException;" } : Jvm.MethodName)),
  (Jvm.Cond.declares ({ cls := "java/util/ArrayList$Itr", name := "checkForComodification", desc := "()V" } : Jvm.MethodName)),
  (Jvm.Cond.declares ({ cls := "java/lang/Object", name := "getClass", desc := "()Ljava/lang/Class;" } : Jvm.MethodName)),
  (Jvm.Cond.declares ({ cls := "java/util/AbstractList", name := "listIterator", desc := "()Ljava/util/ListIterator;" } : Jvm.MethodName)),
  (Jvm.Cond.declares ({ cls := "java/util/AbstractList", name := "listIterator", desc := "(I)Ljava/util/ListIterator;" } : Jvm.MethodName)),
  (Jvm.Cond.declares ({ cls := "java/util/AbstractList", name := "get", desc := "(I)Ljava/lang/Object;" } : Jvm.MethodName)),
  (Jvm.Cond.declares ({ cls := "java/util/AbstractList", name := "remove", desc := "(I)Ljava/lang/Object;" } : Jvm.MethodName)),
  (Jvm.Cond.declares ({ cls := "java/util/AbstractList", name := "set", desc := "(ILjava/lang/Object;)Ljava/lang/Object;" } : Jvm.MethodName)),
  (Jvm.Cond.declares ({ cls := "java/util/AbstractSequentialList", name := "iterator", desc := "()Ljava/util/Iterator;" } : Jvm.MethodName))]
def fwL : List (String × MethodName × MethodName) := [("java/util/ArrayList", ⟨"java/util/Collection", "size", "()I"⟩, ⟨"java/util/ArrayList", "size", "()I"⟩),
  ("java/util/ArrayList", ⟨"java/util/Collection", "toArray", "()[Ljava/lang/Object;"⟩, ⟨"java/util/ArrayList", "toArray", "()[Ljava/lang/Object;"⟩),
  ("java/util/ArrayList", ⟨"java/util/List", "get", "(I)Ljava/lang/Object;"⟩, ⟨"java/util/ArrayList", "get", "(I)Ljava/lang/Object;"⟩),
  ("java/util/ArrayList", ⟨"java/util/List", "listIterator", "()Ljava/util/ListIterator;"⟩, ⟨"java/util/ArrayList", "listIterator", "()Ljava/util/ListIterator;"⟩),
  ("java/util/ArrayList", ⟨"java/util/List", "listIterator", "(I)Ljava/util/ListIterator;"⟩, ⟨"java/util/ArrayList", "listIterator", "(I)Ljava/util/ListIterator;"⟩),
  ("java/util/ArrayList", ⟨"java/util/List", "set", "(ILjava/lang/Object;)Ljava/lang/Object;"⟩, ⟨"java/util/ArrayList", "set", "(ILjava/lang/Object;)Ljava/lang/Object;"⟩),
  ("java/util/ArrayList", ⟨"java/util/List", "size", "()I"⟩, ⟨"java/util/ArrayList", "size", "()I"⟩),
  ("java/util/ArrayList", ⟨"java/util/List", "subList", "(II)Ljava/util/List;"⟩, ⟨"java/util/ArrayList", "subList", "(II)Ljava/util/List;"⟩),
  ("java/util/ArrayList$SubList", ⟨"java/util/Collection", "size", "()I"⟩, ⟨"java/util/ArrayList$SubList", "size", "()I"⟩),
  ("java/util/ArrayList$SubList", ⟨"java/util/Collection", "toArray", "()[Ljava/lang/Object;"⟩, ⟨"java/util/ArrayList$SubList", "toArray", "()[Ljava/lang/Object;"⟩),
  ("java/util/ArrayList$SubList", ⟨"java/util/List", "get", "(I)Ljava/lang/Object;"⟩, ⟨"java/util/ArrayList$SubList", "get", "(I)Ljava/lang/Object;"⟩),
  ("java/util/ArrayList$SubList", ⟨"java/util/List", "listIterator", "()Ljava/util/ListIterator;"⟩, ⟨"java/util/AbstractList", "listIterator", "()Ljava/util/ListIterator;"⟩),
  ("java/util/ArrayList$SubList", ⟨"java/util/List", "listIterator", "(I)Ljava/util/ListIterator;"⟩, ⟨"java/util/ArrayList$SubList", "listIterator", "(I)Ljava/util/ListIterator;"⟩),
  ("java/util/ArrayList$SubList", ⟨"java/util/List", "set", "(ILjava/lang/Object;)Ljava/lang/Object;"⟩, ⟨"java/util/ArrayList$SubList", "set", "(ILjava/lang/Object;)Ljava/lang/Object;"⟩),
  ("java/util/ArrayList$SubList", ⟨"java/util/List", "size", "()I"⟩, ⟨"java/util/ArrayList$SubList", "size", "()I"⟩),
  ("java/util/ArrayList$SubList", ⟨"java/util/List", "subList", "(II)Ljava/util/List;"⟩, ⟨"java/util/ArrayList$SubList", "subList", "(II)Ljava/util/List;"⟩),
  ("java/util/Collections$UnmodifiableRandomAccessList", ⟨"java/util/Collection", "size", "()I"⟩, ⟨"java/util/Collections$UnmodifiableCollection", "size", "()I"⟩),
  ("java/util/Collections$UnmodifiableRandomAccessList", ⟨"java/util/Collection", "toArray", "()[Ljava/lang/Object;"⟩, ⟨"java/util/Collections$UnmodifiableCollection", "toArray", "()[Ljava/lang/Object;"⟩),
  ("java/util/Collections$UnmodifiableRandomAccessList", ⟨"java/util/List", "get", "(I)Ljava/lang/Object;"⟩, ⟨"java/util/Collections$UnmodifiableList", "get", "(I)Ljava/lang/Object;"⟩),
  ("java/util/Collections$UnmodifiableRandomAccessList", ⟨"java/util/List", "listIterator", "()Ljava/util/ListIterator;"⟩, ⟨"java/util/Collections$UnmodifiableList", "listIterator", "()Ljava/util/ListIterator;"⟩),
  ("java/util/Collections$UnmodifiableRandomAccessList", ⟨"java/util/List", "listIterator", "(I)Ljava/util/ListIterator;"⟩, ⟨"java/util/Collections$UnmodifiableList", "listIterator", "(I)Ljava/util/ListIterator;"⟩),
  ("java/util/Collections$UnmodifiableRandomAccessList", ⟨"java/util/List", "set", "(ILjava/lang/Object;)Ljava/lang/Object;"⟩, ⟨"java/util/Collections$UnmodifiableList", "set", "(ILjava/lang/Object;)Ljava/lang/Object;"⟩),
  ("java/util/Collections$UnmodifiableRandomAccessList", ⟨"java/util/List", "size", "()I"⟩, ⟨"java/util/Collections$UnmodifiableCollection", "size", "()I"⟩),
  ("java/util/Collections$UnmodifiableRandomAccessList", ⟨"java/util/List", "subList", "(II)Ljava/util/List;"⟩, ⟨"java/util/Collections$UnmodifiableRandomAccessList", "subList", "(II)Ljava/util/List;"⟩),
  ("java/util/ImmutableCollections$List12", ⟨"java/util/Collection", "size", "()I"⟩, ⟨"java/util/ImmutableCollections$List12", "size", "()I"⟩),
  ("java/util/ImmutableCollections$List12", ⟨"java/util/Collection", "toArray", "()[Ljava/lang/Object;"⟩, ⟨"java/util/ImmutableCollections$List12", "toArray", "()[Ljava/lang/Object;"⟩),
  ("java/util/ImmutableCollections$List12", ⟨"java/util/List", "get", "(I)Ljava/lang/Object;"⟩, ⟨"java/util/ImmutableCollections$List12", "get", "(I)Ljava/lang/Object;"⟩),
  ("java/util/ImmutableCollections$List12", ⟨"java/util/List", "listIterator", "()Ljava/util/ListIterator;"⟩, ⟨"java/util/ImmutableCollections$AbstractImmutableList", "listIterator", "()Ljava/util/ListIterator;"⟩),
  ("java/util/ImmutableCollections$List12", ⟨"java/util/List", "listIterator", "(I)Ljava/util/ListIterator;"⟩, ⟨"java/util/ImmutableCollections$AbstractImmutableList", "listIterator", "(I)Ljava/util/ListIterator;"⟩),
  ("java/util/ImmutableCollections$List12", ⟨"java/util/List", "set", "(ILjava/lang/Object;)Ljava/lang/Object;"⟩, ⟨"java/util/ImmutableCollections$AbstractImmutableList", "set", "(ILjava/lang/Object;)Ljava/lang/Object;"⟩),
  ("java/util/ImmutableCollections$List12", ⟨"java/util/List", "size", "()I"⟩, ⟨"java/util/ImmutableCollections$List12", "size", "()I"⟩),
  ("java/util/ImmutableCollections$List12", ⟨"java/util/List", "subList", "(II)Ljava/util/List;"⟩, ⟨"java/util/ImmutableCollections$AbstractImmutableList", "subList", "(II)Ljava/util/List;"⟩),
  ("java/util/LinkedList", ⟨"java/util/Collection", "size", "()I"⟩, ⟨"java/util/LinkedList", "size", "()I"⟩),
  ("java/util/LinkedList", ⟨"java/util/Collection", "toArray", "()[Ljava/lang/Object;"⟩, ⟨"java/util/LinkedList", "toArray", "()[Ljava/lang/Object;"⟩),
  ("java/util/LinkedList", ⟨"java/util/List", "get", "(I)Ljava/lang/Object;"⟩, ⟨"java/util/LinkedList", "get", "(I)Ljava/lang/Object;"⟩),
  ("java/util/LinkedList", ⟨"java/util/List", "listIterator", "()Ljava/util/ListIterator;"⟩, ⟨"java/util/AbstractList", "listIterator", "()Ljava/util/ListIterator;"⟩),
  ("java/util/LinkedList", ⟨"java/util/List", "listIterator", "(I)Ljava/util/ListIterator;"⟩, ⟨"java/util/LinkedList", "listIterator", "(I)Ljava/util/ListIterator;"⟩),
  ("java/util/LinkedList", ⟨"java/util/List", "set", "(ILjava/lang/Object;)Ljava/lang/Object;"⟩, ⟨"java/util/LinkedList", "set", "(ILjava/lang/Object;)Ljava/lang/Object;"⟩),
  ("java/util/LinkedList", ⟨"java/util/List", "size", "()I"⟩, ⟨"java/util/LinkedList", "size", "()I"⟩),
  ("java/util/LinkedList", ⟨"java/util/List", "subList", "(II)Ljava/util/List;"⟩, ⟨"java/util/AbstractList", "subList", "(II)Ljava/util/List;"⟩),
  ("java/util/LinkedList$ListItr", ⟨"java/util/Iterator", "hasNext", "()Z"⟩, ⟨"java/util/LinkedList$ListItr", "hasNext", "()Z"⟩),
  ("java/util/LinkedList$ListItr", ⟨"java/util/Iterator", "next", "()Ljava/lang/Object;"⟩, ⟨"java/util/LinkedList$ListItr", "next", "()Ljava/lang/Object;"⟩),
  ("java/util/LinkedList$ListItr", ⟨"java/util/Iterator", "remove", "()V"⟩, ⟨"java/util/LinkedList$ListItr", "remove", "()V"⟩),
  ("java/util/LinkedList$ListItr", ⟨"java/util/ListIterator", "hasNext", "()Z"⟩, ⟨"java/util/LinkedList$ListItr", "hasNext", "()Z"⟩),
  ("java/util/LinkedList$ListItr", ⟨"java/util/ListIterator", "next", "()Ljava/lang/Object;"⟩, ⟨"java/util/LinkedList$ListItr", "next", "()Ljava/lang/Object;"⟩),
  ("java/util/LinkedList$ListItr", ⟨"java/util/ListIterator", "nextIndex", "()I"⟩, ⟨"java/util/LinkedList$ListItr", "nextIndex", "()I"⟩),
  ("java/util/LinkedList$ListItr", ⟨"java/util/ListIterator", "previous", "()Ljava/lang/Object;"⟩, ⟨"java/util/LinkedList$ListItr", "previous", "()Ljava/lang/Object;"⟩),
  ("java/util/LinkedList$ListItr", ⟨"java/util/ListIterator", "previousIndex", "()I"⟩, ⟨"java/util/LinkedList$ListItr", "previousIndex", "()I"⟩),
  ("java/util/LinkedList$ListItr", ⟨"java/util/ListIterator", "remove", "()V"⟩, ⟨"java/util/LinkedList$ListItr", "remove", "()V"⟩),
  ("java/util/LinkedList$ListItr", ⟨"java/util/ListIterator", "set", "(Ljava/lang/Object;)V"⟩, ⟨"java/util/LinkedList$ListItr", "set", "(Ljava/lang/Object;)V"⟩)]
def aoL : List String := ["java/lang/Object", "TaxWorkbench$Person"]
theorem fw_0 : fwL[0]'(by decide) ∈ fwL := List.getElem_mem _
theorem fw_1 : fwL[1]'(by decide) ∈ fwL := List.getElem_mem _
theorem fw_2 : fwL[2]'(by decide) ∈ fwL := List.getElem_mem _
theorem fw_3 : fwL[3]'(by decide) ∈ fwL := List.getElem_mem _
theorem fw_4 : fwL[4]'(by decide) ∈ fwL := List.getElem_mem _
theorem fw_5 : fwL[5]'(by decide) ∈ fwL := List.getElem_mem _
theorem fw_6 : fwL[6]'(by decide) ∈ fwL := List.getElem_mem _
theorem fw_7 : fwL[7]'(by decide) ∈ fwL := List.getElem_mem _
theorem fw_8 : fwL[8]'(by decide) ∈ fwL := List.getElem_mem _
theorem fw_9 : fwL[9]'(by decide) ∈ fwL := List.getElem_mem _
theorem fw_10 : fwL[10]'(by decide) ∈ fwL := List.getElem_mem _
theorem fw_11 : fwL[11]'(by decide) ∈ fwL := List.getElem_mem _
theorem fw_12 : fwL[12]'(by decide) ∈ fwL := List.getElem_mem _
theorem fw_13 : fwL[13]'(by decide) ∈ fwL := List.getElem_mem _
theorem fw_14 : fwL[14]'(by decide) ∈ fwL := List.getElem_mem _
theorem fw_15 : fwL[15]'(by decide) ∈ fwL := List.getElem_mem _
theorem fw_16 : fwL[16]'(by decide) ∈ fwL := List.getElem_mem _
theorem fw_17 : fwL[17]'(by decide) ∈ fwL := List.getElem_mem _
theorem fw_18 : fwL[18]'(by decide) ∈ fwL := List.getElem_mem _
theorem fw_19 : fwL[19]'(by decide) ∈ fwL := List.getElem_mem _
theorem fw_20 : fwL[20]'(by decide) ∈ fwL := List.getElem_mem _
theorem fw_21 : fwL[21]'(by decide) ∈ fwL := List.getElem_mem _
theorem fw_22 : fwL[22]'(by decide) ∈ fwL := List.getElem_mem _
theorem fw_23 : fwL[23]'(by decide) ∈ fwL := List.getElem_mem _
theorem fw_24 : fwL[24]'(by decide) ∈ fwL := List.getElem_mem _
theorem fw_25 : fwL[25]'(by decide) ∈ fwL := List.getElem_mem _
theorem fw_26 : fwL[26]'(by decide) ∈ fwL := List.getElem_mem _
theorem fw_27 : fwL[27]'(by decide) ∈ fwL := List.getElem_mem _
theorem fw_28 : fwL[28]'(by decide) ∈ fwL := List.getElem_mem _
theorem fw_29 : fwL[29]'(by decide) ∈ fwL := List.getElem_mem _
theorem fw_30 : fwL[30]'(by decide) ∈ fwL := List.getElem_mem _
theorem fw_31 : fwL[31]'(by decide) ∈ fwL := List.getElem_mem _
theorem fw_32 : fwL[32]'(by decide) ∈ fwL := List.getElem_mem _
theorem fw_33 : fwL[33]'(by decide) ∈ fwL := List.getElem_mem _
theorem fw_34 : fwL[34]'(by decide) ∈ fwL := List.getElem_mem _
theorem fw_35 : fwL[35]'(by decide) ∈ fwL := List.getElem_mem _
theorem fw_36 : fwL[36]'(by decide) ∈ fwL := List.getElem_mem _
theorem fw_37 : fwL[37]'(by decide) ∈ fwL := List.getElem_mem _
theorem fw_38 : fwL[38]'(by decide) ∈ fwL := List.getElem_mem _
theorem fw_39 : fwL[39]'(by decide) ∈ fwL := List.getElem_mem _
theorem fw_40 : fwL[40]'(by decide) ∈ fwL := List.getElem_mem _
theorem fw_41 : fwL[41]'(by decide) ∈ fwL := List.getElem_mem _
theorem fw_42 : fwL[42]'(by decide) ∈ fwL := List.getElem_mem _
theorem fw_43 : fwL[43]'(by decide) ∈ fwL := List.getElem_mem _
theorem fw_44 : fwL[44]'(by decide) ∈ fwL := List.getElem_mem _
theorem fw_45 : fwL[45]'(by decide) ∈ fwL := List.getElem_mem _
theorem fw_46 : fwL[46]'(by decide) ∈ fwL := List.getElem_mem _
theorem fw_47 : fwL[47]'(by decide) ∈ fwL := List.getElem_mem _
theorem fw_48 : fwL[48]'(by decide) ∈ fwL := List.getElem_mem _
theorem fw_49 : fwL[49]'(by decide) ∈ fwL := List.getElem_mem _
def stL : List (String × String × String × Nat) := [("java/util/ImmutableCollections", "EMPTY", "Ljava/lang/Object;", 0), ("java/util/ArrayList", "DEFAULTCAPACITY_EMPTY_ELEMENTDATA", "[Ljava/lang/Object;", 1), ("java/lang/Integer$IntegerCache", "cache", "[Ljava/lang/Integer;", 2), ("java/lang/Long$LongCache", "cache", "[Ljava/lang/Long;", 3)]
def stI : List (String × String × String × Int32) := [("java/util/BitSet", "$assertionsDisabled", "Z", 1), ("java/lang/Integer$IntegerCache", "high", "I", 127), ("java/lang/String", "COMPACT_STRINGS", "Z", 1)]
def stX : List (String × String × String) := [(Bundle.tN, "UNASSIGNED_STACK", Bundle.steD), (Bundle.tN, "SUPPRESSED_SENTINEL", Bundle.listD)]
def fwOk (q : String × MethodName × MethodName) : Bool := decide (q.2.1.cls ≠ "java/lang/invoke/MethodHandle" ∧ q.2.1.cls ≠ "java/lang/invoke/VarHandle")
theorem fw_ne {q : String × MethodName × MethodName} (h : fwOk q = true) : q.2.1.cls ≠ "java/lang/invoke/MethodHandle" ∧ q.2.1.cls ≠ "java/lang/invoke/VarHandle" := of_decide_eq_true h

def nwOk (w : Cond) : Bool := match w with
  | .fieldLinkNest .. => true
  | .methodLinkNest .. => true
  | .castable .. => true
  | .declares .. => true
  | _ => false
theorem nw_warm {w : Cond} (hw : nwOk w = true) {s U : State} (hW : s.WarmedH U.vm) (h : va_Nw w s) : va_Nw w U := by
  unfold nwOk at hw
  split at hw
  · exact va_Nw.warmF hW h
  · exact va_Nw.warmM hW h
  · exact va_Nw.warmC hW h
  · exact va_Nw.warmD hW h
  · cases hw
theorem nw_same {w : Cond} (hw : nwOk w = true) {s U : State} (e : s.vm = U.vm) (h : va_Nw w s) : va_Nw w U := by
  unfold nwOk at hw
  split at hw
  · exact va_Nw.same rfl e h
  · exact va_Nw.same rfl e h
  · exact va_Nw.same rfl e h
  · exact va_Nw.same rfl e h
  · cases hw
/-- an old constant's cell: what the premises say of it (its class, its contents; neither unknown nor a class's statics) -/
def wkA (c : ClassId) (x : vp_A) (a : Nat) (H : Heap) : Prop := ∃ cell : Cell, H[a]? = some cell ∧ cell.cls = c ∧ cell.vm ≠ .unknown ∧ cell.vm.isStatics = false ∧ (∀ z, cell.vm ≠ .statics z) ∧ cell.slots = (vp_cell c x).slots
def wkO (D : DD) (ci : Nat) (fs : List Value) (a : Nat) (H : Heap) : Prop := ∃ r : vw_C, aCl[ci]? = some r ∧ ∃ cell : Cell, H[a]? = some cell ∧ cell.cls = D.1.1 ci ∧ cell.vm ≠ .unknown ∧ cell.vm.isStatics = false ∧ ∀ k, k < r.2.2 → cell.slots[D.1.2 ci k]? = some (vp_V fs k)
/-- a cell: as it was made, or an old constant -/
def vat (D : DD) (q : Nat × va_E) (H : Heap) : Prop := match q.2 with
  | .inl x => H[q.1]? = some (vp_cell x.1 x.2) ∨ (q.1 < D.2.2.2.size ∧ (∃ (n : Nat) (f : Nat → Option Nat), x.2 = (n, .inr (.inr (.inr (.inr f))))) ∧ wkA x.1 x.2 q.1 H)
  | .inr o => va_at D.1 aCl (q.1, .inr o) H ∨ (q.1 < D.2.2.2.size ∧ (o.1 = 19 ∨ o.1 = 20) ∧ wkO D o.1 o.2 q.1 H)
theorem vat.of {D : DD} {q : Nat × va_E} {H : Heap} (h : va_at D.1 aCl q H) : vat D q H := by
  obtain ⟨a, x | o⟩ := q
  · exact Or.inl h
  · exact Or.inl h
theorem vat.ex {D : DD} {q : Nat × va_E} {H : Heap} (h : vat D q H) (hq : D.2.2.2.size ≤ q.1) : va_at D.1 aCl q H := by
  obtain ⟨a, x | o⟩ := q
  · exact h.elim id (fun z => absurd z.1 (Nat.not_lt.mpr hq))
  · exact h.elim id (fun z => absurd z.1 (Nat.not_lt.mpr hq))
theorem vat.kept {D : DD} {q : Nat × va_E} {H H1 : Heap} (h : vat D q H) (e : H1[q.1]? = H[q.1]?) : vat D q H1 := by
  obtain ⟨a, x | o⟩ := q
  · refine h.elim (fun z => Or.inl (e.trans z)) (fun ⟨z, y, c0, g, r⟩ => Or.inr ⟨z, y, c0, e.trans g, r⟩)
  · refine h.elim (fun z => Or.inl (va_at.kept (q := (a, .inr o)) z e)) (fun ⟨z, y, r, hr, c0, g, t⟩ => Or.inr ⟨z, y, r, hr, c0, e.trans g, t⟩)
theorem vat.lt {D : DD} {q : Nat × va_E} {H : Heap} (h : vat D q H) : q.1 < H.size := by
  obtain ⟨a, x | o⟩ := q
  · exact h.elim (fun z => (Array.getElem?_eq_some_iff.mp z).1) (fun ⟨_, _, _, g, _⟩ => (Array.getElem?_eq_some_iff.mp g).1)
  · exact h.elim (fun z => va_at.lt (q := (a, .inr o)) z) (fun ⟨_, _, _, _, _, g, _⟩ => (Array.getElem?_eq_some_iff.mp g).1)
/-- an object's cell; arrays' cells -/
def ob (D : DD) (ci : Nat) (fs : List Value) (a : Nat) (H : Heap) : Prop := vat D (a, .inr (ci, fs)) H
def ar (D : DD) (t : Nat) (x : vp_A) (a : Nat) (H : Heap) : Prop := vat D (a, .inl (D.2.1 t, x)) H
theorem ob.wk {D : DD} {ci : Nat} {fs : List Value} {a : Nat} {H : Heap} (h : ob D ci fs a H) : wkO D ci fs a H := by
  rcases h with ⟨r, h1, cell, q1, q2, q3, q4⟩ | ⟨-, h⟩
  · exact ⟨r, h1, cell, q1, q2, (by rw [q3]; exact fun z => (by cases z)), (by rw [q3]; rfl), q4⟩
  · exact h.2
theorem ob.exo {D : DD} {ci : Nat} {fs : List Value} {a : Nat} {H : Heap} (h : ob D ci fs a H) (h1 : ci ≠ 19) (h2 : ci ≠ 20) : va_at D.1 aCl (a, .inr (ci, fs)) H := h.elim id (fun z => absurd z.2.1 (fun w => w.elim h1 h2))
theorem cell_vm (c : ClassId) (x : vp_A) : (vp_cell c x).vm = .none := by obtain ⟨n, f | f | f | f | f⟩ := x <;> rfl
theorem cell_cls (c : ClassId) (x : vp_A) : (vp_cell c x).cls = c := by obtain ⟨n, f | f | f | f | f⟩ := x <;> rfl
theorem ar.wk {D : DD} {t : Nat} {x : vp_A} {a : Nat} {H : Heap} (h : ar D t x a H) : wkA (D.2.1 t) x a H := by
  rcases h with h | ⟨-, h⟩
  · exact ⟨_, h, cell_cls _ _, (by rw [cell_vm]; exact fun z => (by cases z)), (by rw [cell_vm]; rfl), (fun z => by rw [cell_vm]; exact fun w => (by cases w)), rfl⟩
  · exact h.2
theorem ar.exi {D : DD} {t n a : Nat} {f : Nat → Int32} {H : Heap} (h : ar D t (n, .inl f) a H) : H[a]? = some (vp_cell (D.2.1 t) (n, .inl f)) := h.elim id (fun z => by obtain ⟨_, ⟨_, _, e⟩, _⟩ := z; cases e)
theorem ar.exl {D : DD} {t n a : Nat} {f : Nat → Int64} {H : Heap} (h : ar D t (n, .inr (.inl f)) a H) : H[a]? = some (vp_cell (D.2.1 t) (n, .inr (.inl f))) := h.elim id (fun z => by obtain ⟨_, ⟨_, _, e⟩, _⟩ := z; cases e)
abbrev ari (D : DD) (n : Nat) (f : Nat → Int32) (a : Nat) (H : Heap) : Prop := ar D 0 (n, .inl f) a H
abbrev arl (D : DD) (n : Nat) (f : Nat → Int64) (a : Nat) (H : Heap) : Prop := ar D 1 (n, .inr (.inl f)) a H
abbrev arc (D : DD) (n : Nat) (f : Nat → Int32) (a : Nat) (H : Heap) : Prop := ar D 2 (n, .inl f) a H
abbrev aro (D : DD) (n : Nat) (f : Nat → Option Nat) (a : Nat) (H : Heap) : Prop := ar D 3 (n, .inr (.inr (.inr (.inr f)))) a H
abbrev arp (D : DD) (n : Nat) (f : Nat → Option Nat) (a : Nat) (H : Heap) : Prop := ar D 4 (n, .inr (.inr (.inr (.inr f)))) a H
abbrev ard (D : DD) (n : Nat) (f : Nat → UInt64) (a : Nat) (H : Heap) : Prop := ar D 5 (n, .inr (.inr (.inr (.inl f)))) a H
theorem ob.kept {D : DD} {ci : Nat} {fs : List Value} {a : Nat} {H H1 : Heap} (h : ob D ci fs a H) (e : H1[a]? = H[a]?) : ob D ci fs a H1 := vat.kept (q := (a, .inr (ci, fs))) h e
theorem ar.kept {D : DD} {t : Nat} {x : vp_A} {a : Nat} {H H1 : Heap} (h : ar D t x a H) (e : H1[a]? = H[a]?) : ar D t x a H1 := vat.kept (q := (a, .inl (D.2.1 t, x))) h e
theorem ob.lt {D : DD} {ci : Nat} {fs : List Value} {a : Nat} {H : Heap} (h : ob D ci fs a H) : a < H.size := vat.lt (q := (a, .inr (ci, fs))) h
theorem ar.lt {D : DD} {t : Nat} {x : vp_A} {a : Nat} {H : Heap} (h : ar D t x a H) : a < H.size := vat.lt (q := (a, .inl (D.2.1 t, x))) h
/-- the constants' cells, at the law's start -/
def SH (D : DD) : Prop := ar D 3 (0, .inr (.inr (.inr (.inr (fun _ => none))))) (D.2.2.1 1) D.2.2.2 ∧
  (ar D 7 (256, .inr (.inr (.inr (.inr (fun k => some (D.2.2.1 (1000 + k))))))) (D.2.2.1 2) D.2.2.2 ∧ ∀ k, k < 256 → ob D 19 [.int (nI k - 128)] (D.2.2.1 (1000 + k)) D.2.2.2) ∧
  (ar D 8 (256, .inr (.inr (.inr (.inr (fun k => some (D.2.2.1 (2000 + k))))))) (D.2.2.1 3) D.2.2.2 ∧ ∀ k, k < 256 → ob D 20 [.long (lN k - 128)] (D.2.2.1 (2000 + k)) D.2.2.2)
/-- class objects, a string, pairs that aren't castable, getClass() on a List -/
def miL : List (String × Nat) := [("[Ljava/lang/Object;", 100), ("java/util/ArrayList", 101), ("java/util/Collections$UnmodifiableList", 102), ("java/util/Collections$UnmodifiableRandomAccessList", 103)]
def ncL : List (String × String) := [("java/lang/IllegalStateException", "java/lang/IllegalArgumentException"), ("java/lang/IllegalArgumentException", "java/lang/IndexOutOfBoundsException"), ("java/lang/IllegalStateException", "java/lang/IndexOutOfBoundsException"), ("java/util/NoSuchElementException", "java/lang/IndexOutOfBoundsException"), ("java/lang/ArithmeticException", "java/lang/IndexOutOfBoundsException"), ("java/lang/IllegalArgumentException", "TaxWorkbench$FaultException"), ("java/lang/IllegalStateException", "TaxWorkbench$FaultException")]
abbrev gcN : MethodName := ⟨"java/lang/Object", "getClass", "()Ljava/lang/Class;"⟩
def va_Gc (U : State) : Prop := (Cond.declares gcN).before #[] U = true ∧ (Cond.interfaceMethod "java/util/List" "java/lang/Object" "getClass" "()Ljava/lang/Class;").before #[] U = true ∧ (Cond.publicMethod gcN).before #[] U = true ∧ (Cond.unhidden "java/util/ArrayList" "getClass" "()Ljava/lang/Class;").before #[] U = true
theorem va_Gc.moved {u U : State} (hvm : u.vm.Alike U.vm) (h : va_Gc u) : va_Gc U := by
  obtain ⟨h1, h2, h3, h4⟩ := h
  have tr : ∀ {c : Cond}, c.onTables = true → c.before #[] (u.setVm U.vm) = true → c.before #[] U = true := by
    intro c hc h
    have e := Cond.onTables_vm (A := #[]) (A' := #[]) (U := u) (U' := U) U.vm c hc
    have hU : U.setVm U.vm = U := rfl
    rw [hU] at e
    rw [← e]
    exact h
  exact ⟨tr rfl (by rw [Cond.declares_setVm hvm]; exact h1), tr rfl (by simp only [Cond.before, Cond.holds, Cond.value, State.vm_setVm, hvm.findClass, State.methodFound?_setVm hvm, State.methodNamed?_setVm hvm, arm_isInterface_setVm hvm] at h2 ⊢; exact h2), tr rfl (by rw [Cond.publicMethod_setVm hvm]; exact h3), tr rfl (by rw [Cond.unhidden_setVm hvm]; exact h4)⟩
def EX (D : DD) (s : State) : Prop := (∀ q ∈ miL, va_Mi q.1 (D.2.2.1 q.2) s) ∧ (∀ q ∈ ncL, va_Nc q.1 q.2 s) ∧ va_Gc s ∧ vk_R "TaxWorkbench$Reader" 135 "nrk" (D.2.2.1 4) s ∧
  (va_O "java/lang/String" (D.2.2.1 4) (fun a => D.2.2.2.size ≤ a) s D.2.2.2 ∧ va_OF "java/lang/String" "coder" "B" (.int 0) (D.2.2.1 4) (fun a => D.2.2.2.size ≤ a) s D.2.2.2 ∧ va_OF "java/lang/String" "value" "[B" (.ref (D.2.2.1 5)) (D.2.2.1 4) (fun a => D.2.2.2.size ≤ a) s D.2.2.2 ∧ va_T .byte (D.2.2.1 5) 3 (fun j => .int (([110, 114, 107] : List Int32).getD j 0)) (fun a => D.2.2.2.size ≤ a) s D.2.2.2) ∧
  (D.2.2.1 101 ≠ D.2.2.1 102 ∧ D.2.2.1 101 ≠ D.2.2.1 103)
theorem EX.warm {D : DD} {s U : State} (hW : s.WarmedH U.vm) (h : EX D s) : EX D U :=
  ⟨fun q hq => (h.1 q hq).moved hW.alike, fun q hq => (h.2.1 q hq).moved hW.alike, h.2.2.1.moved hW.alike, h.2.2.2.1.warm hW, ⟨h.2.2.2.2.1.1.moved hW.alike, h.2.2.2.2.1.2.1.moved hW.alike, h.2.2.2.2.1.2.2.1.moved hW.alike, h.2.2.2.2.1.2.2.2.moved hW.alike⟩, h.2.2.2.2.2⟩
theorem EX.same {D : DD} {s U : State} (e : s.vm = U.vm) (h : EX D s) : EX D U := by
  have hA : s.vm.Alike U.vm := by rw [e]; exact Vm.Alike.refl U.vm
  exact ⟨fun q hq => (h.1 q hq).moved hA, fun q hq => (h.2.1 q hq).moved hA, h.2.2.1.moved hA, h.2.2.2.1.same e.symm, ⟨h.2.2.2.2.1.1.moved hA, h.2.2.2.2.1.2.1.moved hA, h.2.2.2.2.1.2.2.1.moved hA, h.2.2.2.2.1.2.2.2.moved hA⟩, h.2.2.2.2.2⟩
/-- what the tables say all through the run, and the good lists don't carry -/
def KK (D : DD) (s : State) : Prop := va_K D.1 aCl (aTy7 D.2.1) s ∧ (∀ w ∈ nwL, nwOk w = true → va_Nw w s) ∧ (∀ q ∈ fwL, fwOk q = true → va_Fw q.1 q.2.1 q.2.2 s) ∧ (∀ C ∈ aoL, va_AO C s) ∧ ((∀ q ∈ stL, va_Z q.1 q.2.1 q.2.2.1 (.ref (D.2.2.1 q.2.2.2)) (fun a => D.2.2.2.size ≤ a) s D.2.2.2) ∧ (∀ q ∈ stI, va_Z q.1 q.2.1 q.2.2.1 (.int q.2.2.2) (fun a => D.2.2.2.size ≤ a) s D.2.2.2) ∧ (∀ q ∈ stX, vx_Zq q.1 q.2.1 q.2.2 (fun a => D.2.2.2.size ≤ a) s D.2.2.2) ∧ ArrOfT s (D.2.1 7) (.object "java/lang/Integer") ∧ ArrOfT s (D.2.1 8) (.object "java/lang/Long")) ∧ SH D ∧ EX D s
theorem aOT_moved {u U : State} (hvm : u.vm.Alike U.vm) {cA : ClassId} {ty : FieldType} (h : ArrOfT u cA ty) : ArrOfT U cA ty := arrOfT_moved hvm h
theorem KK.warm {D : DD} {s U : State} (hW : s.WarmedH U.vm) (h : KK D s) : KK D U :=
  ⟨va_K.moved hW.alike h.1, fun w hw ok => nw_warm ok hW (h.2.1 w hw ok), fun q hq ok => va_Fw.moved (fw_ne ok) hW.alike (h.2.2.1 q hq ok), fun C hC => (h.2.2.2.1 C hC).moved hW.alike, ⟨fun q hq => (h.2.2.2.2.1.1 q hq).moved hW.alike, fun q hq => (h.2.2.2.2.1.2.1 q hq).moved hW.alike, fun q hq => (h.2.2.2.2.1.2.2.1 q hq).moved hW.alike, arrOfT_moved hW.alike h.2.2.2.2.1.2.2.2.1, arrOfT_moved hW.alike h.2.2.2.2.1.2.2.2.2⟩, ⟨h.2.2.2.2.2.1, h.2.2.2.2.2.2.warm hW⟩⟩
theorem KK.call {D : DD} {U : State} {g : JFrame} {mk : MethodId} {a : Array Value} (h : KK D U) : KK D (U.calling g mk a) :=
  ⟨va_K.moved (u := U) (U := U.calling g mk a) (Vm.Alike.refl U.vm) h.1, fun w hw ok => nw_same (s := U) (U := U.calling g mk a) ok rfl (h.2.1 w hw ok), fun q hq ok => va_Fw.moved (fw_ne ok) (u := U) (U := U.calling g mk a) (Vm.Alike.refl U.vm) (h.2.2.1 q hq ok), fun C hC => (h.2.2.2.1 C hC).moved (u := U) (U := U.calling g mk a) (Vm.Alike.refl U.vm), ⟨fun q hq => (h.2.2.2.2.1.1 q hq).moved (u := U) (U := U.calling g mk a) (Vm.Alike.refl U.vm), fun q hq => (h.2.2.2.2.1.2.1 q hq).moved (u := U) (U := U.calling g mk a) (Vm.Alike.refl U.vm), fun q hq => (h.2.2.2.2.1.2.2.1 q hq).moved (u := U) (U := U.calling g mk a) (Vm.Alike.refl U.vm), aOT_moved (u := U) (U := U.calling g mk a) (Vm.Alike.refl U.vm) h.2.2.2.2.1.2.2.2.1, aOT_moved (u := U) (U := U.calling g mk a) (Vm.Alike.refl U.vm) h.2.2.2.2.1.2.2.2.2⟩, ⟨h.2.2.2.2.2.1, h.2.2.2.2.2.2.same (U := U.calling g mk a) rfl⟩⟩
/-- what was there at the law's start is there still -/
def HOK (D : DD) (H : Heap) : Prop := D.2.2.2.size ≤ H.size ∧ ∀ q : Nat, q < D.2.2.2.size → H[q]? = D.2.2.2[q]?
theorem HOK.on {D : DD} {A : Nat → Prop} {H0 H : Heap} (h : HOK D H0) (hA : ∀ q, A q → D.2.2.2.size ≤ q) (z : H0.size ≤ H.size) (f : ∀ q : Nat, q < H0.size → ¬ A q → H[q]? = H0[q]?) : HOK D H :=
  ⟨Nat.le_trans h.1 z, fun q hq => (f q (Nat.lt_of_lt_of_le hq h.1) (fun a => Nat.not_le.mpr hq (hA q a))).trans (h.2 q hq)⟩
/-- what a step may have changed -/
def fr (A : Nat → Prop) (H H1 : Heap) : Prop := H.size ≤ H1.size ∧ ∀ q : Nat, q < H.size → ¬ A q → H1[q]? = H[q]?
theorem fr.rf {A : Nat → Prop} {H : Heap} : fr A H H := ⟨Nat.le_refl _, fun _ _ _ => rfl⟩
theorem fr.trans {A B C : Nat → Prop} {H H1 H2 : Heap} (h1 : fr A H H1) (h2 : fr B H1 H2) (ha : ∀ q, q < H.size → A q → C q) (hb : ∀ q, q < H.size → B q → C q) : fr C H H2 :=
  ⟨Nat.le_trans h1.1 h2.1, fun q hq hc => (h2.2 q (Nat.lt_of_lt_of_le hq h1.1) (fun z => hc (hb q hq z))).trans (h1.2 q hq (fun z => hc (ha q hq z)))⟩
theorem fr.at {A : Nat → Prop} {H H1 : Heap} (h : fr A H H1) {q : Nat} (hl : q < H.size) (hA : ¬ A q) : H1[q]? = H[q]? := h.2 q hl hA
/-- one cell written -/
def hu (a : Nat) (H H1 : Heap) : Prop := H1.size = H.size ∧ ∀ q : Nat, q ≠ a → H1[q]? = H[q]?
theorem hu.tofr {a : Nat} {H H1 : Heap} (h : hu a H H1) : fr (fun q => q = a) H H1 := ⟨Nat.le_of_eq h.1.symm, fun q _ hq => h.2 q hq⟩
theorem va_S.tofr {A : Nat → Prop} {H0 H : Heap} {locs : List Loc} (h : va_S A H0 H locs) : fr A H0 H := ⟨h.1, h.2.1⟩
/-! J: the judgement of a method's body over heaps -/
def Jx (D : DD) (l : Launch) (s : State) (own : String) (args : Array Value) (cc : ByteArray) (nL : Nat) (R : Room) (nm : String) (A : Nat → Prop) (H0 : Heap) (J : Heap → Nat → Nat → Nat → List Value → List (Nat × Value) → Prop) : Prop :=
  ∃ (p : Program) (e : Env) (m : MethodId) (below : List Frame) (meth : Method) (c : Code) (Q : State → Prop), p.tables.exec = Jvm.exec ∧ c.code = cc ∧ c.maxLocals = nL ∧ s.vm.findClass own = some m.cls ∧ (∀ w ∈ lw_all, w.before args s = true) ∧ meth.name = nm ∧ meth.locks = false ∧ KK D s ∧ (∀ q, H0.size ≤ q → A q) ∧ (∀ q, A q → D.2.2.2.size ≤ q) ∧ HOK D H0 ∧
    J = fun H k n pc st lv => ∀ ls locs, lv_has ls nL lv → va_S A H0 H locs → W p l e R s m args below meth c H locs k n Q (F0 m pc ls st)
theorem Jx.pu {D : DD} {l : Launch} {s : State} {own : String} {args : Array Value} {cc : ByteArray} {nL : Nat} {R : Room} {nm : String} {A : Nat → Prop} {H0 : Heap} {J : Heap → Nat → Nat → Nat → List Value → List (Nat × Value) → Prop} (h : Jx D l s own args cc nL R nm A H0 J) (H : Heap) (k n : Nat) : Pu s own args cc nL (J H k n) := by
  obtain ⟨p, e, m, below, meth, c, Q, hx, hb, hml, ho, ht, hn, hlk, hK, hA, hAs, hOK, rfl⟩ := h
  exact ⟨p, l, e, R, m, below, meth, c, Q, fun H' locs k' n' => H' = H ∧ k' = k ∧ n' = n ∧ va_S A H0 H locs, hx, hb, ho, ht, fun pc st lv => ⟨fun w H' locs k' n' ⟨e1, e2, e3, hS⟩ ls hl => by subst e1; subst e2; subst e3; exact w ls locs hl hS, fun w ls locs hl hS => w H locs k n ⟨rfl, rfl, rfl, hS⟩ ls hl⟩⟩
/-- contracts: from the heap H0 method y returns, Post says of its answer and the heap behind it, only A may have changed -/
def cQ (Post : Option Value → Heap → Prop) (A : Nat → Prop) : Array Value → State → Outcome → State → Prop := fun _ st oc t => ∃ v, oc = .returned v ∧ Post v t.heap ∧ va_F A st t
def cP (D : DD) (As : List Value) (H0 : Heap) : Array Value → State → Prop := va_Pc As (fun U => U.heap = H0 ∧ KK D U)
abbrev rm_ (f mc ms lo : Nat) : Room := { frames := f, cells := mc, slots := ms, locals := lo }
def Ct (D : DD) (l : Launch) (y : MethodName) (b : ByteArray) (L : Nat) (ret : Option FieldType) (f mc ms lo : Nat) (As : List Value) (H0 : Heap) (Post : Option Value → Heap → Prop) (A : Nat → Prop) : Prop :=
  HOK D H0 → (∀ q, A q → D.2.2.2.size ≤ q) → Met l y (ws_ y b L ret) (rm_ f mc ms lo) (cP D As H0) (cQ Post A) mc ms A
theorem cP_blind {D : DD} {As : List Value} {H0 : Heap} : FrameBlind (cP D As H0) := fun a U g mk h => ⟨h.1, h.2.1, h.2.2.call⟩
section CTOF
variable {D : DD} {l : Launch} {y : MethodName} {b : ByteArray} {L : Nat} {ret : Option FieldType} {f mc ms lo : Nat} {As : List Value} {H0 : Heap} {Post : Option Value → Heap → Prop} {A : Nat → Prop}
/-- the return rows of a body -/
def Rt (b : ByteArray) (ret : Option FieldType) (mc ms : Nat) (Post : Option Value → Heap → Prop) (J : Heap → Nat → Nat → Nat → List Value → List (Nat × Value) → Prop) : Prop :=
  ∀ (H : Heap) (k n pc : Nat) (lv : List (Nat × Value)), k ≤ mc → n ≤ ms →
    (ret = none → decode b pc = .ok (.return_, 1) → Post none H → J H k n pc [] lv) ∧
    (∀ (v : Int32) (ty : FieldType), ret = some ty → narrow ty (.int v) = .int v → decode b pc = .ok (.ireturn, 1) → Post (some (.int v)) H → J H k n pc [.int v] lv) ∧
    (∀ (v : Int64), ret = some .long → decode b pc = .ok (.lreturn, 1) → Post (some (.long v)) H → J H k n pc [.long v] lv) ∧
    (∀ (v : UInt32), ret = some .float → decode b pc = .ok (.freturn, 1) → Post (some (.float v)) H → J H k n pc [.float v] lv) ∧
    (∀ (v : UInt64), ret = some .double → decode b pc = .ok (.dreturn, 1) → Post (some (.double v)) H → J H k n pc [.double v] lv) ∧
    (∀ (v : Value) (rt : FieldType), ret = some rt → ((∃ n, rt = .object n) ∨ ∃ t, rt = .array t) → (v = .null ∨ ∃ a, v = .ref a) → decode b pc = .ok (.areturn, 1) → Post (some v) H → J H k n pc [v] lv)
theorem Ct.of (hy : plainName y.cls = true) (hAs : (lg_sl As).length ≤ L) (hA : ∀ q, H0.size ≤ q → A q)
    (body : ∀ (s : State) (J : Heap → Nat → Nat → Nat → List Value → List (Nat × Value) → Prop), Jx D l s y.cls As.toArray b L (rm_ f mc ms lo) y.name A H0 J → Rt b ret mc ms Post J → J H0 0 0 0 [] (lv_args 0 As)) : Ct D l y b L ret f mc ms lo As H0 Post A := by
  intro hOK hAs'
  refine Met.ofW (cc := b) (maxL := L) (ret := ret) hy rfl ?_
  intro p e s m args below meth c s₁ B hml hv
  obtain ⟨rfl, rfl, hK⟩ := hv
  have hts := atoms_spec (ws := ws_ y b L ret) B.pre
  have hts : ∀ w ∈ lw_all, w.before _ s = true := fun w h => hts w (List.mem_cons_of_mem _ h)
  have hr := B.returns
  have hx := B.exec
  have hb := B.bytes
  have hlk := B.notSynchronized
  have hl := lv_entry As (n := L) hAs
  rw [lg_entry_eq]
  refine body s _ ⟨p, e, m, below, meth, c, MQ below (cQ Post A) As.toArray s mc ms A, hx, hb, hml, findClass_of_methodNamed B.named, hts, (name_of_methodNamed B.named B.method).1, hlk, hK, hA, hAs', hOK, rfl⟩ ?_ _ [] hl va_S.rf
  intro H k n pc lv hk hn
  refine ⟨?_, ?_, ?_, ?_, ?_, ?_⟩
  · intro h1 h2 h3 ls locs hl hS
    refine W.widen hk hn ?_
    exact W.vret hx hb (hr.trans h1) (fun t ht hW => ⟨_, rfl, by rw [ht]; exact h3, hS.F ht⟩) hS.2.2 h2
  · intro v ty h1 h1' h2 h3 ls locs hl hS
    refine W.widen hk hn ?_
    exact W.zret hx hb (hr.trans h1) h1' (fun t ht hW => ⟨_, rfl, by rw [ht]; exact h3, hS.F ht⟩) hS.2.2 h2
  · intro v h1 h2 h3 ls locs hl hS
    refine W.widen hk hn ?_
    exact W.lret hx hb (hr.trans h1) (fun t ht hW => ⟨_, rfl, by rw [ht]; exact h3, hS.F ht⟩) hS.2.2 h2
  · intro v h1 h2 h3 ls locs hl hS
    refine W.widen hk hn ?_
    exact W.fret hx hb (hr.trans h1) (fun t ht hW => ⟨_, rfl, by rw [ht]; exact h3, hS.F ht⟩) hS.2.2 h2
  · intro v h1 h2 h3 ls locs hl hS
    refine W.widen hk hn ?_
    exact W.dret hx hb (hr.trans h1) (fun t ht hW => ⟨_, rfl, by rw [ht]; exact h3, hS.F ht⟩) hS.2.2 h2
  · intro v rt h1 h1' h1'' h2 h3 ls locs hl hS
    refine W.widen hk hn ?_
    exact W.aret hx hb (hr.trans h1) h1' h1'' (fun t ht hW => ⟨_, rfl, by rw [ht]; exact h3, hS.F ht⟩) hS.2.2 h2
variable {J : Heap → Nat → Nat → Nat → List Value → List (Nat × Value) → Prop} {H : Heap} {k n pc : Nat} {lv : List (Nat × Value)}
theorem Rt.v (h : Rt b none mc ms Post J) (hd : decode b pc = .ok (.return_, 1)) (hk : k ≤ mc) (hn : n ≤ ms) (hp : Post none H) : J H k n pc [] lv := (h H k n pc lv hk hn).1 rfl hd hp
theorem Rt.i {ty : FieldType} (h : Rt b (some ty) mc ms Post J) {v : Int32} (hn1 : narrow ty (.int v) = .int v) (hd : decode b pc = .ok (.ireturn, 1)) (hk : k ≤ mc) (hn : n ≤ ms) (hp : Post (some (.int v)) H) : J H k n pc [.int v] lv := (h H k n pc lv hk hn).2.1 v ty rfl hn1 hd hp
theorem Rt.lg (h : Rt b (some .long) mc ms Post J) {v : Int64} (hd : decode b pc = .ok (.lreturn, 1)) (hk : k ≤ mc) (hn : n ≤ ms) (hp : Post (some (.long v)) H) : J H k n pc [.long v] lv := (h H k n pc lv hk hn).2.2.1 v rfl hd hp
theorem Rt.fl (h : Rt b (some .float) mc ms Post J) {v : UInt32} (hd : decode b pc = .ok (.freturn, 1)) (hk : k ≤ mc) (hn : n ≤ ms) (hp : Post (some (.float v)) H) : J H k n pc [.float v] lv := (h H k n pc lv hk hn).2.2.2.1 v rfl hd hp
theorem Rt.db (h : Rt b (some .double) mc ms Post J) {v : UInt64} (hd : decode b pc = .ok (.dreturn, 1)) (hk : k ≤ mc) (hn : n ≤ ms) (hp : Post (some (.double v)) H) : J H k n pc [.double v] lv := (h H k n pc lv hk hn).2.2.2.2.1 v rfl hd hp
theorem Rt.a {t : FieldType} (h : Rt b (some t) mc ms Post J) {a : Nat} (ht : (∃ n, t = .object n) ∨ ∃ u, t = .array u) (hd : decode b pc = .ok (.areturn, 1)) (hk : k ≤ mc) (hn : n ≤ ms) (hp : Post (some (.ref a)) H) : J H k n pc [.ref a] lv := (h H k n pc lv hk hn).2.2.2.2.2 (.ref a) t rfl ht (Or.inr ⟨a, rfl⟩) hd hp
theorem Rt.aN {t : FieldType} (h : Rt b (some t) mc ms Post J) (ht : (∃ n, t = .object n) ∨ ∃ u, t = .array u) (hd : decode b pc = .ok (.areturn, 1)) (hk : k ≤ mc) (hn : n ≤ ms) (hp : Post (some .null) H) : J H k n pc [.null] lv := (h H k n pc lv hk hn).2.2.2.2.2 .null t rfl ht (Or.inl rfl) hd hp
end CTOF
/-! J's rows: fields, arrays -/
section JROWS
variable {D : DD} {l : Launch} {s : State} {own : String} {args : Array Value} {cc : ByteArray} {nL : Nat} {R : Room} {nm : String} {A : Nat → Prop} {H0 : Heap} {J : Heap → Nat → Nat → Nat → List Value → List (Nat × Value) → Prop} {H : Heap} {k n pc : Nat} {st : List Value} {lv : List (Nat × Value)}
def fLk (own : String) (index : Nat) (ref n d : String) : Prop := Cond.fieldLink own index ref n d ∈ lw_all ∨ ∃ host, Cond.fieldLinkNest own index ref n d host ∈ nwL
def fSm (ref : String) (t : String × String × String × Bool) : Prop := t.1 = ref ∨ Cond.sameField ref t.1 t.2.1 t.2.2.1 ∈ lw_all
theorem fSm.ok {s : State} {args : Array Value} {ref : String} {t : String × String × String × Bool} (h : fSm ref t) (ht : ∀ w ∈ lw_all, w.before args s = true) : ∀ x, s.fieldFound? t.1 t.2.1 t.2.2.1 = some x → s.fieldFound? ref t.2.1 t.2.2.1 = some x := by
  intro x hx
  rcases h with h | h
  · rw [h] at hx; exact hx
  · exact u_same (ht _ h) x hx
theorem j_get (q : Nat) (hJ : Jx D l s own args cc nL R nm A H0 J) {ref C : String} {T : u_T} {N ci index a : Nat} {fs : List Value} {v : Value} (hin : ∀ w ∈ u_ws C T N, w ∈ lw_all) (ho : ob D ci fs a H) (hc : aCl[ci]? = some (C, T, N)) (i : Nat) (hi : i < N) (hlink : fLk own index ref (T i).2.1 (T i).2.2.1) (hsame : fSm ref (T i)) (hv : fs[i]? = some v) (d : decode cc pc = .ok (.getfield index, 3)) (e : pc + 3 = q) (kk : J H k n q (v :: st) lv) : J H k n pc (.ref a :: st) lv := by
  subst e
  obtain ⟨p, e, m, below, meth, c, Q, hx, hb, hml, hown, ht, hn, hlk, hK, hA, hAs, hOK, rfl⟩ := hJ
  intro ls locs hl hS
  obtain ⟨r, h1, cell, q1, q2, q3, -, q4⟩ := ho.wk
  have hr : r = (C, T, N) := Option.some.inj (h1.symm.trans hc)
  subst hr
  obtain ⟨hS', hfc, kC, hkC, hkind⟩ := hK.1.1 ci _ hc
  obtain ⟨cf, kf, fi, f, hi', hsl⟩ := hS' i hi
  have hv' : cell.slots[f.slot]? = some v := by
    rw [hsl, q4 i hi]
    show some (fs.getD i .null) = _
    rw [List.getD_eq_getElem?_getD, hv]; rfl
  rcases hlink with hlink | ⟨host, hlink⟩
  · exact W.getf hx hb hown (ht _ hlink) (hsame.ok ht _ hi') (u_facts hfc hkC (u_lays ht hin hi) hi').1 q1 q3 (v := v) hv' rfl rfl d (kk ls locs hl hS)
  · exact va_Wgetf hx hb hown (va_Nw.use rfl (hK.2.1 _ hlink rfl)) (hsame.ok ht _ hi') (u_facts hfc hkC (u_lays ht hin hi) hi').1 q1 q3 (v := v) hv' rfl rfl d (kk ls locs hl hS)
/-- the lists of one cell -/
theorem one_P {D : DD} {a : Nat} {x : va_E} {H : Heap} (h : va_at D.1 aCl (a, x) H) : va_P D.1 aCl [(a, x)] H := fun j y hy => by
  match j, hy with
  | 0, hy => cases hy; exact h
  | j + 1, hy => simp at hy
theorem one_D {A : Nat → Prop} {a : Nat} {x : va_E} (h : A a) : va_D A [(a, x)] := by
  refine ⟨fun i j p q hi hj _ => ?_, fun j y hy => ?_⟩
  · have h1 := (List.getElem?_eq_some_iff.mp hi).1
    have h2 := (List.getElem?_eq_some_iff.mp hj).1
    simp at h1 h2
    omega
  · match j, hy with
    | 0, hy => cases hy; exact h
    | j + 1, hy => simp at hy
end JROWS
theorem vp_in_j {j N : Nat} (h : j < N) (hj : j < 2 ^ 31) : vp_in (nI j) N := fun q => q.elim (fun a => nI_pos hj a) (fun a => by rw [nI_clamp hj] at a; omega)
/-- a class with its words -/
def clsOk (C : String) (T : u_T) (N : Nat) (ty : Nat → FieldType) : Prop := (∀ w ∈ u_ws C T N, w ∈ lw_all) ∧ (∀ k, k < N → parseFieldDescriptor (T k).2.2.1 = some (ty k)) ∧ (∀ a, a < N → ∀ b, b < N → a ≠ b → (T a).2.1 ≠ (T b).2.1)
section JROWS2
variable {D : DD} {l : Launch} {s : State} {own : String} {args : Array Value} {cc : ByteArray} {nL : Nat} {R : Room} {nm : String} {A : Nat → Prop} {H0 : Heap} {J : Heap → Nat → Nat → Nat → List Value → List (Nat × Value) → Prop} {H : Heap} {k n pc : Nat} {st : List Value} {lv : List (Nat × Value)}
/-- any row of the kit, from under J -/
theorem Jx.go (hJ : Jx D l s own args cc nL R nm A H0 J)
    (f : ∀ {p : Program} {e : Env} {m : MethodId} {below : List Frame} {meth : Method} {c : Code} {Q : State → Prop} (ls : Array Slot) (locs : List Loc), p.tables.exec = Jvm.exec → c.code = cc → c.maxLocals = nL → s.vm.findClass own = some m.cls → (∀ w ∈ lw_all, w.before args s = true) → meth.name = nm → KK D s → (∀ q, H0.size ≤ q → A q) → HOK D H → lv_has ls nL lv → va_S A H0 H locs →
      (∀ (H1 : Heap) (k1 n1 pc1 : Nat) (st1 : List Value) (lv1 : List (Nat × Value)), J H1 k1 n1 pc1 st1 lv1 → ∀ ls1 locs1, lv_has ls1 nL lv1 → va_S A H0 H1 locs1 → W p l e R s m args below meth c H1 locs1 k1 n1 Q (F0 m pc1 ls1 st1)) → W p l e R s m args below meth c H locs k n Q (F0 m pc ls st)) : J H k n pc st lv := by
  obtain ⟨p, e, m, below, meth, c, Q, hx, hb, hml, hown, ht, hn, hlk, hK, hA, hAs, hOK, rfl⟩ := hJ
  intro ls locs hl hS
  exact f ls locs hx hb hml hown ht hn hK hA (hOK.on hAs hS.1 hS.2.1) hl hS (fun H1 k1 n1 pc1 st1 lv1 w ls1 locs1 hl1 hS1 => w ls1 locs1 hl1 hS1)
theorem Jx.sub (hJ : Jx D l s own args cc nL R nm A H0 J) : ∀ q, H0.size ≤ q → A q := by
  obtain ⟨p, e, m, below, meth, c, Q, hx, hb, hml, hown, ht, hn, hlk, hK, hA, hAs, hOK, rfl⟩ := hJ
  exact hA
theorem Jx.kk (hJ : Jx D l s own args cc nL R nm A H0 J) : KK D s := by
  obtain ⟨p, e, m, below, meth, c, Q, hx, hb, hml, hown, ht, hn, hlk, hK, hA, hAs, hOK, rfl⟩ := hJ
  exact hK
theorem Jx.as (hJ : Jx D l s own args cc nL R nm A H0 J) : ∀ q, A q → D.2.2.2.size ≤ q := by
  obtain ⟨p, e, m, below, meth, c, Q, hx, hb, hml, hown, ht, hn, hlk, hK, hA, hAs, hOK, rfl⟩ := hJ
  exact hAs
/-- what the method has written so far lies in A -/
theorem Jx.frame (hJ : Jx D l s own args cc nL R nm A H0 J) (h : fr A H0 H → H0.size ≤ H.size → J H k n pc st lv) : J H k n pc st lv := by
  have hJ' := hJ
  obtain ⟨p, e, m, below, meth, c, Q, hx, hb, hml, hown, ht, hn, hlk, hK, hA, hAs, hOK, rfl⟩ := hJ
  intro ls locs hl hS
  exact h hS.tofr hS.1 ls locs hl hS
theorem j_put (q : Nat) (hJ : Jx D l s own args cc nL R nm A H0 J) {ref C : String} {T : u_T} {N ci index a : Nat} {ty : Nat → FieldType} {fs : List Value} {v : Value} (hcl : clsOk C T N ty) (ho : ob D ci fs a H) (hAa : A a) (hc : aCl[ci]? = some (C, T, N)) (i : Nat) (hi : i < N) (hlink : fLk own index ref (T i).2.1 (T i).2.2.1) (hsame : fSm ref (T i)) (hfin : (T i).2.2.2 = false) (hn : narrow (ty i) v = v) (hfit : fits (ty i) v = true) (hl0 : i < fs.length) (d : decode cc pc = .ok (.putfield index, 3)) (e : pc + 3 = q) (kk : ∀ H1, ob D ci (fs.set i v) a H1 → hu a H H1 → J H1 k n q st lv) : J H k n pc (v :: .ref a :: st) lv := by
  subst e
  have hex := vat.ex ho (hJ.as a hAa)
  refine hJ.go fun ls locs hx hb hml hown hts hnm hK hA hOK hl hS ret => ?_
  have hap := va_apart (own := own) hts hcl.1 ty hcl.2.1 hcl.2.2 hK.1 hc
  obtain ⟨r, h1, cell, q1, q2, q3, q4⟩ := hex
  have hr : r = (C, T, N) := Option.some.inj (h1.symm.trans hc)
  subst hr
  obtain ⟨hS', hfc, kC, hkC, hkind⟩ := hK.1.1 ci _ hc
  obtain ⟨cf, kf, fi, f, hi', hsl⟩ := hS' i hi
  have hlay := hts _ (hcl.1 _ (u_in_lay hi))
  unfold u_lay at hlay
  rw [if_neg (by rw [hfin]; decide)] at hlay
  have hst := (u_facts hfc hkC (u_lays hts hcl.1 hi) hi').1
  have h6 := u_store hfc hkC hkind hlay hi' (hcl.2.1 i hi) hn hfit
  have fin : ∀ (H' : Heap), H'[a]? = some (cell.setSlot f.slot v) → H'.size = H.size → (∀ q, q ≠ a → H'[q]? = H[q]?) → _ := fun H' e1 e2 e3 => by
    rw [hsl] at e1
    exact ret _ _ _ _ _ _ (kk H' (Or.inl ⟨_, hc, t_OB.to (V := updV (vp_V fs) i v) ⟨_, e1, q2, q3, t_set q4 hap hi v⟩ (fun j _ => vp_updV_set hl0 v j)⟩) ⟨e2, e3⟩) ls _ hl (hS.put (k := f.slot) e2 e3 hAa)
  rcases hlink with hlink | ⟨host, hlink⟩
  · exact W.putK hx hb (f := f) ⟨hown, hts _ hlink, ⟨_, _, _, hsame.ok hts _ hi'⟩, hst⟩ (by rw [q2]; exact h6) q1 q3 (by rw [hsl]; exact k2_hasslot (q4 i hi)) rfl rfl d fin
  · exact va_WputK hx hb (f := f) hown (va_Nw.use rfl (hK.2.1 _ hlink rfl)) (hsame.ok hts _ hi') hst (by rw [q2]; exact h6) q1 q3 (by rw [hsl]; exact k2_hasslot (q4 i hi)) rfl rfl d fin
theorem j_putF (q : Nat) (hJ : Jx D l s own args cc nL R "<init>" A H0 J) {ref C : String} {T : u_T} {N ci index a : Nat} {ty : Nat → FieldType} {fs : List Value} {v : Value} (hcl : clsOk C T N ty) (ho : ob D ci fs a H) (hAa : A a) (hc : aCl[ci]? = some (C, T, N)) (i : Nat) (hi : i < N) (hlink : Cond.fieldLink own index ref (T i).2.1 (T i).2.2.1 ∈ lw_all) (hsame : (T i).1 = ref) (hown' : (T i).1 = own) (hfin : (T i).2.2.2 = true) (hn : narrow (ty i) v = v) (hfit : fits (ty i) v = true) (hl0 : i < fs.length) (d : decode cc pc = .ok (.putfield index, 3)) (e : pc + 3 = q) (kk : ∀ H1, ob D ci (fs.set i v) a H1 → hu a H H1 → J H1 k n q st lv) : J H k n pc (v :: .ref a :: st) lv := by
  subst e
  have hex := vat.ex ho (hJ.as a hAa)
  refine hJ.go (@fun p e m below meth c Q ls locs hx hb hml hown hts hnm hK hA hOK hl hS ret => ?_)
  have hap := va_apart (own := own) hts hcl.1 ty hcl.2.1 hcl.2.2 hK.1 hc
  obtain ⟨r, h1, cell, q1, q2, q3, q4⟩ := hex
  have hr : r = (C, T, N) := Option.some.inj (h1.symm.trans hc)
  subst hr
  obtain ⟨hS', hfc, kC, hkC, hkind⟩ := hK.1.1 ci _ hc
  obtain ⟨cf, kf, fi, f, hi', hsl⟩ := hS' i hi
  have hlay := hts _ (hcl.1 _ (u_in_lay hi))
  unfold u_lay at hlay
  rw [if_pos hfin] at hlay
  have hst := (u_facts hfc hkC (u_lays hts hcl.1 hi) hi').1
  have hcf : m.cls = cf := by
    obtain ⟨_, _, c', _, _, _, -, -, hf', -, -, -, hown2, -⟩ := Cond.laysFinal_spec hlay
    have e1 : c' = cf := by have := hi'.symm.trans hf'; simp at this; exact this.1.symm
    rw [hown'] at hown2
    rw [← e1]; exact Option.some.inj (hown.symm.trans hown2)
  have h6 := u_fits hfc hkC hkind (Or.inr hlay) hi' (hcl.2.1 i hi) hn hfit
  refine W.putFinK hx hb hown (hts _ hlink) (by rw [hsame] at hi'; exact hi') hst hcf hnm (by rw [q2]; exact h6) q1 q3 (by rw [hsl]; exact k2_hasslot (q4 i hi)) rfl rfl d fun H' e1 e2 e3 => ?_
  rw [hsl] at e1 ⊢
  exact ret _ _ _ _ _ _ (kk H' (Or.inl ⟨_, hc, t_OB.to (V := updV (vp_V fs) i v) ⟨_, e1, q2, q3, t_set q4 hap hi v⟩ (fun j _ => vp_updV_set hl0 v j)⟩) ⟨e2, e3⟩) ls _ hl (hS.put e2 e3 hAa)
theorem aTy_lt {D : DD} {t : Nat} {ty : FieldType} (ht : (aTys D.2.1)[t]? = some (D.2.1 t, ty)) (h7 : t < 7) : (aTy7 D.2.1)[t]? = some (D.2.1 t, ty) := by
  rcases (show t = 0 ∨ t = 1 ∨ t = 2 ∨ t = 3 ∨ t = 4 ∨ t = 5 ∨ t = 6 by omega) with rfl | rfl | rfl | rfl | rfl | rfl | rfl <;> exact ht
theorem aTy {D : DD} {s : State} (hK : KK D s) (t : Nat) {ty : FieldType} (ht : (aTys D.2.1)[t]? = some (D.2.1 t, ty)) : ArrOfT s (D.2.1 t) ty := by
  by_cases h7 : t < 7
  · exact (hK.1.2 t _ (aTy_lt ht h7)).1
  · have hl : t < 9 := (List.getElem?_eq_some_iff.mp ht).1
    rcases (show t = 7 ∨ t = 8 by omega) with rfl | rfl
    · cases ht; exact hK.2.2.2.2.1.2.2.2.1
    · cases ht; exact hK.2.2.2.2.1.2.2.2.2
/-- an array's cell, read -/
theorem aIs {D : DD} {s : State} (hK : KK D s) {t : Nat} {ty : FieldType} (ht : (aTys D.2.1)[t]? = some (D.2.1 t, ty)) {cell : Cell} (hc : cell.cls = D.2.1 t) (hv : ∀ z, cell.vm ≠ .statics z) : s.isArrayOf cell ty := by
  obtain ⟨-, kA, h1, h2⟩ := aTy hK t ht 0 (fun _ => .null)
  exact ⟨fun z hz => hv z hz, kA, by rw [hc]; exact h1, h2⟩
theorem arrV_slots {x y : ClassId} {n : Nat} {f : Nat → Value} {cell : Cell} (h : cell.slots = (arrV x n f).slots) : cell.slots.size = n ∧ ∀ j, j < n → cell.slots[j]? = some (f j) := by
  rw [h]; exact ⟨arrV_size _ _ _, fun j hj => arrV_read _ _ hj⟩
theorem j_iald (q : Nat) (hJ : Jx D l s own args cc nL R nm A H0 J) {N a : Nat} {f : Nat → Int32} {i : Int32} (ho : ari D N f a H) (j : Nat) (hi : i = nI j) (hj : j < N) (hj2 : j < 2 ^ 31) (d : decode cc pc = .ok (.iaload, 1)) (e : pc + 1 = q) (kk : J H k n q (.int (f j) :: st) lv) : J H k n pc (.int i :: .ref a :: st) lv := by
  subst e; subst hi
  refine hJ.go fun ls locs hx hb hml hown hts hnm hK hA hOK hl hS ret => ?_
  obtain ⟨c0, g1, g2, g3, -, g4, g5⟩ := ho.wk
  have g6 := arrV_slots (y := 0) (f := fun j => .int (f j)) g5
  exact W.iald (v := .int (f j)) hx hb g1 (aIs hK (t := 0) rfl g2 g4) g3 (by rw [g6.1]; exact vp_in_j hj hj2) (by rw [nI_clamp hj2]; exact g6.2 j hj) rfl rfl d (ret _ _ _ _ _ _ kk ls locs hl hS)
theorem j_lald (q : Nat) (hJ : Jx D l s own args cc nL R nm A H0 J) {N a : Nat} {f : Nat → Int64} {i : Int32} (ho : arl D N f a H) (j : Nat) (hi : i = nI j) (hj : j < N) (hj2 : j < 2 ^ 31) (d : decode cc pc = .ok (.laload, 1)) (e : pc + 1 = q) (kk : J H k n q (.long (f j) :: st) lv) : J H k n pc (.int i :: .ref a :: st) lv := by
  subst e; subst hi
  refine hJ.go fun ls locs hx hb hml hown hts hnm hK hA hOK hl hS ret => ?_
  obtain ⟨c0, g1, g2, g3, -, g4, g5⟩ := ho.wk
  have g6 := arrV_slots (y := 0) (f := fun j => .long (f j)) g5
  exact W.lald (v := .long (f j)) hx hb g1 (aIs hK (t := 1) rfl g2 g4) g3 (by rw [g6.1]; exact vp_in_j hj hj2) (by rw [nI_clamp hj2]; exact g6.2 j hj) rfl rfl d (ret _ _ _ _ _ _ kk ls locs hl hS)
theorem j_cald (q : Nat) (hJ : Jx D l s own args cc nL R nm A H0 J) {N a : Nat} {f : Nat → Int32} {i : Int32} (ho : arc D N f a H) (j : Nat) (hi : i = nI j) (hj : j < N) (hj2 : j < 2 ^ 31) (d : decode cc pc = .ok (.caload, 1)) (e : pc + 1 = q) (kk : J H k n q (.int (f j) :: st) lv) : J H k n pc (.int i :: .ref a :: st) lv := by
  subst e; subst hi
  refine hJ.go fun ls locs hx hb hml hown hts hnm hK hA hOK hl hS ret => ?_
  obtain ⟨c0, g1, g2, g3, -, g4, g5⟩ := ho.wk
  have g6 := arrV_slots (y := 0) (f := fun j => .int (f j)) g5
  exact W.cald (v := .int (f j)) hx hb g1 (aIs hK (t := 2) rfl g2 g4) g3 (by rw [g6.1]; exact vp_in_j hj hj2) (by rw [nI_clamp hj2]; exact g6.2 j hj) rfl rfl d (ret _ _ _ _ _ _ kk ls locs hl hS)
theorem j_aald (q : Nat) (hJ : Jx D l s own args cc nL R nm A H0 J) {N a t : Nat} {C : String} {f : Nat → Option Nat} {i : Int32} (ho : ar D t (N, .inr (.inr (.inr (.inr f)))) a H) (ht : (aTys D.2.1)[t]? = some (D.2.1 t, .object C)) (j : Nat) (hi : i = nI j) (hj : j < N) (hj2 : j < 2 ^ 31) (d : decode cc pc = .ok (.aaload, 1)) (e : pc + 1 = q) (kk : J H k n q (va_rf (f j) :: st) lv) : J H k n pc (.int i :: .ref a :: st) lv := by
  subst e; subst hi
  refine hJ.go fun ls locs hx hb hml hown hts hnm hK hA hOK hl hS ret => ?_
  obtain ⟨c0, g1, g2, g3, -, g4, g5⟩ := ho.wk
  have g6 := arrV_slots (y := 0) (f := fun j => va_rf (f j)) g5
  exact W.aald (v := va_rf (f j)) (ty := .object C) hx hb g1 (aIs hK ht g2 g4) rfl g3 (by rw [g6.1]; exact vp_in_j hj hj2) (by rw [nI_clamp hj2]; exact g6.2 j hj) rfl rfl d (ret _ _ _ _ _ _ kk ls locs hl hS)
theorem j_iast (q : Nat) (hJ : Jx D l s own args cc nL R nm A H0 J) {N a : Nat} {f : Nat → Int32} {i x : Int32} (ho : ari D N f a H) (hAa : A a) (j : Nat) (hi : i = nI j) (hj : j < N) (hj2 : j < 2 ^ 31) (d : decode cc pc = .ok (.iastore, 1)) (e : pc + 1 = q) (kk : ∀ H1, ari D N (upd f j x) a H1 → hu a H H1 → J H1 k n q st lv) : J H k n pc (.int x :: .int i :: .ref a :: st) lv := by
  subst e; subst hi
  refine hJ.go fun ls locs hx hb hml hown hts hnm hK hA hOK hl hS ret => ?_
  refine W.iast hx hb (vat.ex ho (hJ.as a hAa)) ((hK.1.2 0 _ rfl).1 N (fun j => .int (f j))) (fun q => by cases q) (by show ¬ (_ ∨ (arrV _ _ _).slots.size ≤ _); rw [arrV_size]; exact vp_in_j hj hj2) rfl rfl d fun H1 e z oq => ?_
  rw [nI_clamp hj2] at e ⊢
  refine ret _ _ _ _ _ _ (kk H1 ?_ ⟨z, oq⟩) ls _ hl (hS.put z oq hAa)
  refine Or.inl ?_
  show H1[a]? = some (vp_cell _ _)
  rw [e, vp_cell_i, vp_cell_i, arrV_store]
  congr 2
  funext q
  by_cases hq : q = j
  · subst hq
    simp [updV, upd]
  · simp [updV, upd, hq]
theorem j_last (q : Nat) (hJ : Jx D l s own args cc nL R nm A H0 J) {N a : Nat} {f : Nat → Int64} {i : Int32} {x : Int64} (ho : arl D N f a H) (hAa : A a) (j : Nat) (hi : i = nI j) (hj : j < N) (hj2 : j < 2 ^ 31) (d : decode cc pc = .ok (.lastore, 1)) (e : pc + 1 = q) (kk : ∀ H1, arl D N (vp_updL f j x) a H1 → hu a H H1 → J H1 k n q st lv) : J H k n pc (.long x :: .int i :: .ref a :: st) lv := by
  subst e; subst hi
  refine hJ.go fun ls locs hx hb hml hown hts hnm hK hA hOK hl hS ret => ?_
  refine W.last hx hb (vat.ex ho (hJ.as a hAa)) ((hK.1.2 1 _ rfl).1 N (fun j => .long (f j))) (fun q => by cases q) (by show ¬ (_ ∨ (arrV _ _ _).slots.size ≤ _); rw [arrV_size]; exact vp_in_j hj hj2) rfl rfl d fun H1 e z oq => ?_
  rw [nI_clamp hj2] at e ⊢
  refine ret _ _ _ _ _ _ (kk H1 ?_ ⟨z, oq⟩) ls _ hl (hS.put z oq hAa)
  refine Or.inl ?_
  show H1[a]? = some (vp_cell _ _)
  rw [e, vp_cell_l, vp_cell_l, arrV_store]
  congr 2
  funext q
  by_cases hq : q = j
  · subst hq
    simp [updV, vp_updL]
  · simp [updV, vp_updL, hq]
/-! calls -/
theorem j_run {p : Program} {e : Env} {m : MethodId} {below : List Frame} {meth : Method} {c : Code} {Q : State → Prop} {ls : Array Slot} {locs : List Loc} {rest : List Value} {a : Array Value} {mc ms : Nat} {Post : Option Value → Heap → Prop} {A1 free : Nat → Prop}
    (hr : va_Run p l e R s m args below meth c H locs k n mc ms (F0 m pc ls st) rest (cQ Post A1 a) free) (hS : va_S A H0 H locs) (hA : ∀ q, q < H.size → A1 q → A q) (hf : ∀ q, free q → A q)
    (kk : ∀ (r : Option Value) (H1 : Heap) (locs1 : List Loc), Post r H1 → fr A1 H H1 → va_S A H0 H1 locs1 → W p l e R s m args below meth c H1 locs1 (k + mc) (n + ms) Q (F0 m (pc + 3) ls (r.toList ++ rest))) : W p l e R s m args below meth c H locs k n Q (F0 m pc ls st) := by
  intro T hT X
  obtain ⟨v, st₀, t, T', L, h0, X', hL, e1, e2, ⟨r, hv, hp, hz, hk⟩, st⟩ := hr T hT X
  cases hv
  rw [h0] at hz hk
  obtain ⟨t2, a1, b1⟩ := kk v T'.heap (locs ++ L) (by rw [e1]; exact hp) ⟨by rw [e1]; exact hz, fun q h1 h2 => by rw [e1]; exact hk q h1 h2⟩
    ⟨Nat.le_trans hS.1 (by rw [e1]; exact hz), fun q h1 h2 => by rw [e1, hk q (Nat.lt_of_lt_of_le h1 hS.1) (fun z => h2 (hA q (Nat.lt_of_lt_of_le h1 hS.1) z))]; exact hS.2.1 q h1 h2, fun q hq => by
      rcases List.mem_append.mp hq with h | h
      · exact hS.2.2 q h
      · exact hf _ (hL q h)⟩ T' rfl X'
  exact ⟨t2, st t2 a1, b1⟩
variable {y : MethodName} {b : ByteArray} {L : Nat} {ret : Option FieldType} {f mc ms lo o index : Nat} {As rest : List Value} {Post : Option Value → Heap → Prop} {A1 : Nat → Prop}
abbrev yOk (y : MethodName) (na : Nat) : Prop := y.cls ≠ "java/lang/invoke/MethodHandle" ∧ y.cls ≠ "java/lang/invoke/VarHandle" ∧ (parseMethodDescriptor y.desc).map (fun d => d.parameters.length) = some na
theorem ob_recv {ci : Nat} {fs : List Value} {C : String} {T : u_T} {N : Nat} (hK : KK D s) (ho : ob D ci fs o H) (hc : aCl[ci]? = some (C, T, N)) : ∃ cell : Cell, H[o]? = some cell ∧ cell.vm.isStatics = false ∧ s.vm.findClass C = some cell.cls := by
  obtain ⟨r, h1, cell, q1, q2, -, q3, -⟩ := ho.wk
  cases h1.symm.trans hc
  exact ⟨cell, q1, q3, by rw [q2]; exact (hK.1.1 ci _ hc).2.1⟩
theorem j_callV (q : Nat) (hJ : Jx D l s own args cc nL R nm A H0 J) (hc : Ct D l y b L ret f mc ms lo (.ref o :: As) H Post A1) (hw : GoodIn lw_all (wsV own index y.cls y (ws_ y b L ret))) (na : Nat) (hy : yOk y na) (hna : As.length = na) (hR : f + 1 ≤ R.frames ∧ 8 + (L + 11) + lo ≤ R.locals) {ci : Nat} {fs : List Value} {T : u_T} {N : Nat} (ho : ob D ci fs o H) (hcl : aCl[ci]? = some (y.cls, T, N)) (hst : st = As.reverse ++ .ref o :: rest) (hrest : (rest.map fun v => v.category).sum ≤ 8) (d : decode cc pc = .ok (.invokevirtual index, 3)) (hf : k + mc ≤ R.cells ∧ n + ms ≤ R.slots) (hA1 : ∀ q, A1 q → A q ∨ H.size ≤ q) (e : pc + 3 = q) (kk : ∀ (r : Option Value) (H1 : Heap), Post r H1 → fr A1 H H1 → J H1 (k + mc) (n + ms) q (r.toList ++ rest) lv) : J H k n pc st lv := by
  subst e; subst hst
  have hAs := hJ.as
  refine hJ.go fun ls locs hx hb hml hown hts hnm hK hA hOK hl hS ret' => ?_
  have hA2 : ∀ q, A1 q → A q := fun q h => (hA1 q h).elim id (fun h => hA q (Nat.le_trans hS.1 h))
  exact j_run (va_runV (As := As) (rest := rest) ⟨hx, hb, hml, hown, hts⟩ (hc hOK (fun q h => hAs q (hA2 q h))) (cwV na hts hw rfl rfl rfl ⟨rfl, hy⟩ hR) ⟨cP_blind, ob_recv hK ho hcl, fun U hU hW => ⟨rfl, hU, hK.warm hW⟩⟩ rfl hna hl.1 rfl (lv_room hrest) d hf) hS (fun q _ h => hA2 q h) hA2 (fun r H1 locs1 hp hfr hS1 => ret' _ _ _ _ _ _ (kk r H1 hp hfr) ls locs1 hl hS1)
theorem j_callS (q : Nat) (hJ : Jx D l s own args cc nL R nm A H0 J) (hc : Ct D l y b L ret f mc ms lo As H Post A1) (hw : GoodIn lw_all (va_wsS own index y (ws_ y b L ret))) (na : Nat) (hy : yOk y na) (hna : As.length = na) (hR : f + 1 ≤ R.frames ∧ 8 + (L + 11) + lo ≤ R.locals) (hst : st = As.reverse ++ rest) (hrest : (rest.map fun v => v.category).sum ≤ 8) (d : decode cc pc = .ok (.invokestatic index, 3)) (hf : k + mc ≤ R.cells ∧ n + ms ≤ R.slots) (hA1 : ∀ q, A1 q → A q ∨ H.size ≤ q) (e : pc + 3 = q) (kk : ∀ (r : Option Value) (H1 : Heap), Post r H1 → fr A1 H H1 → J H1 (k + mc) (n + ms) q (r.toList ++ rest) lv) : J H k n pc st lv := by
  subst e; subst hst
  have hAs := hJ.as
  refine hJ.go fun ls locs hx hb hml hown hts hnm hK hA hOK hl hS ret' => ?_
  have hA2 : ∀ q, A1 q → A q := fun q h => (hA1 q h).elim id (fun h => hA q (Nat.le_trans hS.1 h))
  exact j_run (va_runS (As := As) (rest := rest) ⟨hx, hb, hml, hown, hts⟩ (hc hOK (fun q h => hAs q (hA2 q h))) (va_cwS na hts hw rfl rfl rfl hy hR) ⟨cP_blind, fun U hU hW => ⟨rfl, hU, hK.warm hW⟩⟩ rfl hna hl.1 rfl (lv_room hrest) d hf) hS (fun q _ h => hA2 q h) hA2 (fun r H1 locs1 hp hfr hS1 => ret' _ _ _ _ _ _ (kk r H1 hp hfr) ls locs1 hl hS1)
theorem j_callI (q : Nat) (hJ : Jx D l s own args cc nL R nm A H0 J) (hc : Ct D l y b L none f mc ms lo (.ref o :: As) H Post A1) (hw : Cond.code y b L none ∈ lw_all) (hini : Cond.initialized y.cls ∈ lw_all) (hlk : Cond.methodLink own index y ∈ lw_all) (hins : Cond.instanceMethod y ∈ lw_all) (hyn : y.name = "<init>") (na : Nat) (hy : yOk y na) (hna : As.length = na) (hR : f + 1 ≤ R.frames ∧ 8 + (L + 11) + lo ≤ R.locals) (hst : st = As.reverse ++ .ref o :: rest) (hrest : (rest.map fun v => v.category).sum ≤ 8) (d : decode cc pc = .ok (.invokespecial index, 3)) (hf : k + mc ≤ R.cells ∧ n + ms ≤ R.slots) (hA1 : ∀ q, A1 q → A q ∨ H.size ≤ q) (e : pc + 3 = q) (kk : ∀ (r : Option Value) (H1 : Heap), Post r H1 → fr A1 H H1 → J H1 (k + mc) (n + ms) q (r.toList ++ rest) lv) : J H k n pc st lv := by
  subst e; subst hst
  have hAs := hJ.as
  refine hJ.go fun ls locs hx hb hml hown hts hnm hK hA hOK hl hS ret' => ?_
  have hA2 : ∀ q, A1 q → A q := fun q h => (hA1 q h).elim id (fun h => hA q (Nat.le_trans hS.1 h))
  exact j_run (va_runI (As := As) (rest := rest) ⟨hx, hb, hml, hown, hts⟩ (hc hOK (fun q h => hAs q (hA2 q h))) (cwI na hts (lw_meth hw) rfl rfl rfl (hts _ hini) (hts _ hlk) (hts _ hins) hyn hy hR) ⟨cP_blind, fun U hU hW => ⟨rfl, hU, hK.warm hW⟩⟩ rfl hna hl.1 rfl (lv_room hrest) d hf) hS (fun q _ h => hA2 q h) hA2 (fun r H1 locs1 hp hfr hS1 => ret' _ _ _ _ _ _ (kk r H1 hp hfr) ls locs1 hl hS1)
theorem j_objInit (q : Nat) (hJ : Jx D l s own args cc nL R nm A H0 J) (hlk : Cond.methodLink own index Lib.objectInit ∈ lw_all) (hins : Cond.instanceMethod Lib.objectInit ∈ lw_all) (hcd : Cond.code Lib.objectInit ⟨#[0xb1]⟩ 1 none ∈ lw_all) (hR : 1 ≤ R.frames ∧ (rest.map fun v => v.category).sum + 12 ≤ R.locals) (d : decode cc pc = .ok (.invokespecial index, 3)) (e : pc + 3 = q) (kk : J H k n q rest lv) : J H k n pc (.ref o :: rest) lv := by
  subst e
  refine hJ.go fun ls locs hx hb hml hown hts hnm hK hA hOK hl hS ret' => ?_
  refine W.objInit hx hb hown (hts _ hlk) (hts _ hins) (hts _ hcd) rfl (by rw [hml]; exact hl.1) rfl d hR.1 (by show 2 * 0 + _ + 12 ≤ _; omega) ?_
  exact ret' _ _ _ _ _ _ kk ls locs hl hS
theorem j_new (q : Nat) (hJ : Jx D l s own args cc nL R nm A H0 J) {C : String} {T : u_T} {N ci : Nat} {ty : Nat → FieldType} (fs : List Value) (hcl : clsOk C T N ty) (hc : aCl[ci]? = some (C, T, N)) (hlk : Cond.classLink own index C ∈ lw_all) (hins : Cond.instantiable C N ∈ lw_all) (hini : Cond.initialized C ∈ lw_all) (hfs : ∀ j, j < N → defaultValue (ty j) = vp_V fs j) (hR : k + 1 ≤ R.cells ∧ n + N ≤ R.slots) (d : decode cc pc = .ok (.new index, 3)) (e : pc + 3 = q) (kk : ∀ H1, ob D ci fs H.size H1 → H1.size = H.size + 1 → (∀ x, x < H.size → H1[x]? = H[x]?) → J H1 (k + 1) (n + N) q (.ref H.size :: st) lv) : J H k n pc st lv := by
  subst e
  refine hJ.go fun ls locs hx hb hml hown hts hnm hK hA hOK hl hS ret' => ?_
  have hKn := hK.1.1 ci _ hc
  refine W.newcK hx hb hown (hts _ hlk) (hts _ hins) (hts _ hini) rfl d hR.1 hR.2 hKn.2.1 rfl fun H1 kC hkC e1 z1 o1 => ?_
  refine ret' _ _ _ _ _ _ (kk H1 (Or.inl ⟨_, hc, (u_born ty hts hcl.1 hKn hkC e1 hcl.2.1).to hfs⟩) z1 o1) ls locs hl ⟨Nat.le_trans hS.1 (by omega), fun x h1 h2 => (o1 x (Nat.lt_of_lt_of_le h1 hS.1)).trans (hS.2.1 x h1 h2), hS.2.2⟩
/-- newarray of a kind t that the tables know: x is its blank contents -/
theorem j_newa (q : Nat) (hJ : Jx D l s own args cc nL R nm A H0 J) {atype : ArrayType} {t N : Nat} {i : Int32} {x : vp_A} (harr : Cond.arrayClass (newarray.typeOf atype) ∈ lw_all) (ht : (aTys D.2.1)[t]? = some (D.2.1 t, newarray.typeOf atype)) (hnm : ∀ cA : ClassId, va_RA s cA (newarray.typeOf atype) = (s.vm.findClass ("[" ++ (newarray.typeOf atype).toString) = some cA)) (hxx : ∀ cA : ClassId, vp_cell cA x = arrV cA N (fun _ => defaultValue (newarray.typeOf atype))) (hi : i = nI N) (hN : N ≤ 65536) (hby : N * componentBytes (newarray.typeOf atype) ≤ 536870912) (hR : k + 1 ≤ R.cells ∧ n + N ≤ R.slots) (d : decode cc pc = .ok (.newarray atype, 2)) (e : pc + 2 = q) (kk : ∀ H1, ar D t x H.size H1 → H1.size = H.size + 1 → (∀ y, y < H.size → H1[y]? = H[y]?) → J H1 (k + 1) (n + N) q (.ref H.size :: st) lv) (h7 : t < 7 := by decide) : J H k n pc (.int i :: st) lv := by
  subst e; subst hi
  refine hJ.go fun ls locs hx hb hml hown hts hnm' hK hA hOK hl hS ret' => ?_
  have h31 : N < 2 ^ 31 := by omega
  refine va_newaK hx hb (hts _ harr) rfl d rfl (nI_pos h31) (nI_clamp h31) hby hR.1 hR.2 rfl fun H1 cA e1 z1 o1 hAr hNm => ?_
  have hcA : cA = D.2.1 t := by
    have h2 := (hK.1.2 t _ (aTy_lt ht h7)).2
    rw [hnm] at h2
    exact Option.some.inj (hNm.symm.trans h2)
  subst hcA
  refine ret' _ _ _ _ _ _ (kk H1 ?_ z1 o1) ls locs hl ⟨Nat.le_trans hS.1 (by omega), fun x h1 h2 => (o1 x (Nat.lt_of_lt_of_le h1 hS.1)).trans (hS.2.1 x h1 h2), hS.2.2⟩
  refine Or.inl ?_
  show H1[H.size]? = some (vp_cell _ _)
  rw [hxx]; exact e1
end JROWS2
theorem nw_q2744 : Jvm.Cond.fieldLinkNest "java/util/AbstractList$SubList$1" (17 : Nat) "java/util/AbstractList$SubList" "root" "Ljava/util/AbstractList;" "java/util/AbstractList" ∈ nwL := List.mem_of_getElem? (i := 0) rfl
theorem nw_q2747 : Jvm.Cond.fieldLinkNest "java/util/AbstractList$SubList$1" (23 : Nat) "java/util/AbstractList$SubList" "offset" "I" "java/util/AbstractList" ∈ nwL := List.mem_of_getElem? (i := 1) rfl
theorem nw_q256 : Jvm.Cond.fieldLinkNest "java/util/ArrayList$Itr" (28 : Nat) "java/util/ArrayList" "size" "I" "java/util/ArrayList" ∈ nwL := List.mem_of_getElem? (i := 2) rfl
theorem nw_q2647 : Jvm.Cond.fieldLinkNest "java/util/ArrayList$SubList$1" (40 : Nat) "java/util/ArrayList$SubList" "root" "Ljava/util/ArrayList;" "java/util/ArrayList" ∈ nwL := List.mem_of_getElem? (i := 3) rfl
theorem nw_q2650 : Jvm.Cond.fieldLinkNest "java/util/ArrayList$SubList$1" (50 : Nat) "java/util/ArrayList$SubList" "offset" "I" "java/util/ArrayList" ∈ nwL := List.mem_of_getElem? (i := 4) rfl
theorem nw_q2652 : Jvm.Cond.fieldLinkNest "java/util/ArrayList$SubList$1" (31 : Nat) "java/util/ArrayList$SubList" "size" "I" "java/util/ArrayList" ∈ nwL := List.mem_of_getElem? (i := 5) rfl
theorem nw_q231 : Jvm.Cond.fieldLinkNest "java/util/ImmutableCollections$List12" (19 : Nat) "java/util/ImmutableCollections" "EMPTY" "Ljava/lang/Object;" "java/util/ImmutableCollections" ∈ nwL := List.mem_of_getElem? (i := 6) rfl
theorem nw_q201 : Jvm.Cond.fieldLinkNest "TaxWorkbench" (151 : Nat) "TaxWorkbench$Bracket" "threshold" "I" "TaxWorkbench" ∈ nwL := List.mem_of_getElem? (i := 7) rfl
theorem nw_q204 : Jvm.Cond.fieldLinkNest "TaxWorkbench" (154 : Nat) "TaxWorkbench$Bracket" "rate" "I" "TaxWorkbench" ∈ nwL := List.mem_of_getElem? (i := 8) rfl
theorem nw_q307 : Jvm.Cond.fieldLinkNest "TaxWorkbench" (135 : Nat) "TaxWorkbench$Rules" "brackets" "Ljava/util/List;" "TaxWorkbench" ∈ nwL := List.mem_of_getElem? (i := 9) rfl
theorem nw_q310 : Jvm.Cond.fieldLinkNest "TaxWorkbench" (157 : Nat) "TaxWorkbench$Rules" "allowance" "[I" "TaxWorkbench" ∈ nwL := List.mem_of_getElem? (i := 10) rfl
theorem nw_q313 : Jvm.Cond.fieldLinkNest "TaxWorkbench" (161 : Nat) "TaxWorkbench$Rules" "minimum" "[I" "TaxWorkbench" ∈ nwL := List.mem_of_getElem? (i := 11) rfl
theorem nw_q316 : Jvm.Cond.fieldLinkNest "TaxWorkbench" (111 : Nat) "TaxWorkbench$Rules" "charges" "Ljava/util/ArrayList;" "TaxWorkbench" ∈ nwL := List.mem_of_getElem? (i := 12) rfl
theorem nw_q320 : Jvm.Cond.fieldLinkNest "TaxWorkbench" (120 : Nat) "TaxWorkbench$Rules" "credits" "Ljava/util/LinkedList;" "TaxWorkbench" ∈ nwL := List.mem_of_getElem? (i := 13) rfl
theorem nw_q342 : Jvm.Cond.fieldLinkNest "TaxWorkbench" (220 : Nat) "TaxWorkbench$Person" "earned" "I" "TaxWorkbench" ∈ nwL := List.mem_of_getElem? (i := 14) rfl
theorem nw_q344 : Jvm.Cond.fieldLinkNest "TaxWorkbench" (223 : Nat) "TaxWorkbench$Person" "other" "I" "TaxWorkbench" ∈ nwL := List.mem_of_getElem? (i := 15) rfl
theorem nw_q346 : Jvm.Cond.fieldLinkNest "TaxWorkbench" (226 : Nat) "TaxWorkbench$Person" "dependents" "I" "TaxWorkbench" ∈ nwL := List.mem_of_getElem? (i := 16) rfl
theorem nw_q448 : Jvm.Cond.fieldLinkNest "TaxWorkbench" (107 : Nat) "TaxWorkbench$World" "rules" "LTaxWorkbench$Rules;" "TaxWorkbench" ∈ nwL := List.mem_of_getElem? (i := 17) rfl
theorem nw_q450 : Jvm.Cond.fieldLinkNest "TaxWorkbench" (207 : Nat) "TaxWorkbench$World" "people" "[LTaxWorkbench$Person;" "TaxWorkbench" ∈ nwL := List.mem_of_getElem? (i := 18) rfl
theorem nw_q452 : Jvm.Cond.fieldLinkNest "TaxWorkbench" (229 : Nat) "TaxWorkbench$World" "partners" "[I" "TaxWorkbench" ∈ nwL := List.mem_of_getElem? (i := 19) rfl
theorem nw_q454 : Jvm.Cond.fieldLinkNest "TaxWorkbench" (128 : Nat) "TaxWorkbench$World" "carried" "Ljava/util/ArrayList;" "TaxWorkbench" ∈ nwL := List.mem_of_getElem? (i := 20) rfl
theorem nw_q456 : Jvm.Cond.fieldLinkNest "TaxWorkbench" (320 : Nat) "TaxWorkbench$World" "years" "I" "TaxWorkbench" ∈ nwL := List.mem_of_getElem? (i := 21) rfl
theorem nw_q512 : Jvm.Cond.fieldLinkNest "TaxWorkbench" (247 : Nat) "TaxWorkbench$Case" "carried" "[J" "TaxWorkbench" ∈ nwL := List.mem_of_getElem? (i := 22) rfl
theorem nw_q525 : Jvm.Cond.fieldLinkNest "TaxWorkbench" (238 : Nat) "TaxWorkbench$Computation" "it" "LTaxWorkbench$Case;" "TaxWorkbench" ∈ nwL := List.mem_of_getElem? (i := 23) rfl
theorem nw_q527 : Jvm.Cond.fieldLinkNest "TaxWorkbench" (267 : Nat) "TaxWorkbench$Computation" "parts" "[J" "TaxWorkbench" ∈ nwL := List.mem_of_getElem? (i := 24) rfl
theorem nw_q532 : Jvm.Cond.fieldLinkNest "TaxWorkbench" (309 : Nat) "TaxWorkbench$Computation" "kept" "[J" "TaxWorkbench" ∈ nwL := List.mem_of_getElem? (i := 25) rfl
theorem nw_q2050 : Jvm.Cond.fieldLinkNest "TaxWorkbench" (103 : Nat) "TaxWorkbench$Reader" "rules" "LTaxWorkbench$Rules;" "TaxWorkbench" ∈ nwL := List.mem_of_getElem? (i := 26) rfl
theorem nw_q2052 : Jvm.Cond.fieldLinkNest "TaxWorkbench" (108 : Nat) "TaxWorkbench$Reader" "items" "I" "TaxWorkbench" ∈ nwL := List.mem_of_getElem? (i := 27) rfl
theorem nw_q2153 : Jvm.Cond.fieldLinkNest "TaxWorkbench" (94 : Nat) "TaxWorkbench$FaultException" "position" "I" "TaxWorkbench" ∈ nwL := List.mem_of_getElem? (i := 28) rfl
theorem nw_q2271 : Jvm.Cond.fieldLinkNest "TaxWorkbench" (167 : Nat) "TaxWorkbench$Charge" "threshold" "I" "TaxWorkbench" ∈ nwL := List.mem_of_getElem? (i := 29) rfl
theorem nw_q2274 : Jvm.Cond.fieldLinkNest "TaxWorkbench" (168 : Nat) "TaxWorkbench$Charge" "amount" "I" "TaxWorkbench" ∈ nwL := List.mem_of_getElem? (i := 30) rfl
theorem nw_q501 : Jvm.Cond.fieldLinkNest "TaxWorkbench$Credit" (52 : Nat) "TaxWorkbench$Case" "earned" "I" "TaxWorkbench" ∈ nwL := List.mem_of_getElem? (i := 31) rfl
theorem nw_q506 : Jvm.Cond.fieldLinkNest "TaxWorkbench$Credit" (45 : Nat) "TaxWorkbench$Case" "dependents" "I" "TaxWorkbench" ∈ nwL := List.mem_of_getElem? (i := 32) rfl
theorem nw_q200 : Jvm.Cond.fieldLinkNest "TaxWorkbench$Rules" (71 : Nat) "TaxWorkbench$Bracket" "threshold" "I" "TaxWorkbench" ∈ nwL := List.mem_of_getElem? (i := 33) rfl
theorem nw_q203 : Jvm.Cond.fieldLinkNest "TaxWorkbench$Rules" (75 : Nat) "TaxWorkbench$Bracket" "rate" "I" "TaxWorkbench" ∈ nwL := List.mem_of_getElem? (i := 34) rfl
theorem nw_q504 : Jvm.Cond.fieldLinkNest "TaxWorkbench$Rules" (128 : Nat) "TaxWorkbench$Case" "income" "I" "TaxWorkbench" ∈ nwL := List.mem_of_getElem? (i := 35) rfl
theorem nw_q509 : Jvm.Cond.fieldLinkNest "TaxWorkbench$Rules" (101 : Nat) "TaxWorkbench$Case" "factor" "I" "TaxWorkbench" ∈ nwL := List.mem_of_getElem? (i := 36) rfl
theorem nw_q2270 : Jvm.Cond.fieldLinkNest "TaxWorkbench$Rules" (131 : Nat) "TaxWorkbench$Charge" "threshold" "I" "TaxWorkbench" ∈ nwL := List.mem_of_getElem? (i := 37) rfl
theorem nw_q2273 : Jvm.Cond.fieldLinkNest "TaxWorkbench$Rules" (132 : Nat) "TaxWorkbench$Charge" "amount" "I" "TaxWorkbench" ∈ nwL := List.mem_of_getElem? (i := 38) rfl
theorem nw_q318 : Jvm.Cond.fieldLinkNest "TaxWorkbench$Computation" (68 : Nat) "TaxWorkbench$Rules" "credits" "Ljava/util/LinkedList;" "TaxWorkbench" ∈ nwL := List.mem_of_getElem? (i := 39) rfl
theorem nw_q503 : Jvm.Cond.fieldLinkNest "TaxWorkbench$Computation" (43 : Nat) "TaxWorkbench$Case" "income" "I" "TaxWorkbench" ∈ nwL := List.mem_of_getElem? (i := 40) rfl
theorem nw_q508 : Jvm.Cond.fieldLinkNest "TaxWorkbench$Computation" (55 : Nat) "TaxWorkbench$Case" "factor" "I" "TaxWorkbench" ∈ nwL := List.mem_of_getElem? (i := 41) rfl
theorem nw_q511 : Jvm.Cond.fieldLinkNest "TaxWorkbench$Computation" (94 : Nat) "TaxWorkbench$Case" "carried" "[J" "TaxWorkbench" ∈ nwL := List.mem_of_getElem? (i := 42) rfl
theorem nw_q2295 : Jvm.Cond.fieldLinkNest "TaxWorkbench$Computation" (91 : Nat) "TaxWorkbench$Credit" "kind" "I" "TaxWorkbench" ∈ nwL := List.mem_of_getElem? (i := 43) rfl
theorem nw_q306 : Jvm.Cond.fieldLinkNest "TaxWorkbench$Reader" (96 : Nat) "TaxWorkbench$Rules" "brackets" "Ljava/util/List;" "TaxWorkbench" ∈ nwL := List.mem_of_getElem? (i := 44) rfl
theorem nw_q309 : Jvm.Cond.fieldLinkNest "TaxWorkbench$Reader" (145 : Nat) "TaxWorkbench$Rules" "allowance" "[I" "TaxWorkbench" ∈ nwL := List.mem_of_getElem? (i := 45) rfl
theorem nw_q312 : Jvm.Cond.fieldLinkNest "TaxWorkbench$Reader" (153 : Nat) "TaxWorkbench$Rules" "minimum" "[I" "TaxWorkbench" ∈ nwL := List.mem_of_getElem? (i := 46) rfl
theorem nw_q315 : Jvm.Cond.fieldLinkNest "TaxWorkbench$Reader" (128 : Nat) "TaxWorkbench$Rules" "charges" "Ljava/util/ArrayList;" "TaxWorkbench" ∈ nwL := List.mem_of_getElem? (i := 47) rfl
theorem nw_q319 : Jvm.Cond.fieldLinkNest "TaxWorkbench$Reader" (104 : Nat) "TaxWorkbench$Rules" "credits" "Ljava/util/LinkedList;" "TaxWorkbench" ∈ nwL := List.mem_of_getElem? (i := 48) rfl
theorem nw_q447 : Jvm.Cond.fieldLinkNest "TaxWorkbench$Reader" (19 : Nat) "TaxWorkbench$World" "rules" "LTaxWorkbench$Rules;" "TaxWorkbench" ∈ nwL := List.mem_of_getElem? (i := 49) rfl
theorem nw_q549 : Jvm.Cond.fieldLinkNest "TaxWorkbench$Reader" (15 : Nat) "TaxWorkbench" "now" "LTaxWorkbench$World;" "TaxWorkbench" ∈ nwL := List.mem_of_getElem? (i := 50) rfl
theorem nw_q554 : Jvm.Cond.fieldLinkNest "TaxWorkbench$Reader" (43 : Nat) "TaxWorkbench" "text" "[C" "TaxWorkbench" ∈ nwL := List.mem_of_getElem? (i := 51) rfl
theorem nw_q556 : Jvm.Cond.fieldLinkNest "TaxWorkbench$Reader" (40 : Nat) "TaxWorkbench" "textLength" "I" "TaxWorkbench" ∈ nwL := List.mem_of_getElem? (i := 52) rfl
theorem nw_q2549 : Jvm.Cond.methodLinkNest "java/util/AbstractList$SubList$1" (70 : Nat) ({ cls := "java/util/AbstractList$SubList", name := "updateSizeAndModCount", desc := "(I)V" } : Jvm.MethodName) "java/util/AbstractList" ∈ nwL := List.mem_of_getElem? (i := 53) rfl
theorem nw_q490 : Jvm.Cond.methodLinkNest "TaxWorkbench" (37 : Nat) ({ cls := "TaxWorkbench$Computation", name := "<init>", desc := "()V" } : Jvm.MethodName) "TaxWorkbench" ∈ nwL := List.mem_of_getElem? (i := 54) rfl
theorem nw_q1807 : Jvm.Cond.methodLinkNest "TaxWorkbench" (127 : Nat) ({ cls := "TaxWorkbench$Rules", name := "<init>", desc := "()V" } : Jvm.MethodName) "TaxWorkbench" ∈ nwL := List.mem_of_getElem? (i := 55) rfl
theorem nw_q2044 : Jvm.Cond.methodLinkNest "TaxWorkbench" (86 : Nat) ({ cls := "TaxWorkbench$Reader", name := "<init>", desc := "(LTaxWorkbench;)V" } : Jvm.MethodName) "TaxWorkbench" ∈ nwL := List.mem_of_getElem? (i := 56) rfl
theorem nw_q189 : Jvm.Cond.methodLinkNest "TaxWorkbench$World" (11 : Nat) ({ cls := "TaxWorkbench$Rules", name := "<init>", desc := "()V" } : Jvm.MethodName) "TaxWorkbench" ∈ nwL := List.mem_of_getElem? (i := 57) rfl
theorem nw_q2350 : Jvm.Cond.methodLinkNest "TaxWorkbench$Rules" (63 : Nat) ({ cls := "TaxWorkbench", name := "isBetween", desc := "(III)Z" } : Jvm.MethodName) "TaxWorkbench" ∈ nwL := List.mem_of_getElem? (i := 58) rfl
theorem nw_q496 : Jvm.Cond.methodLinkNest "TaxWorkbench$Computation" (11 : Nat) ({ cls := "TaxWorkbench$Case", name := "<init>", desc := "()V" } : Jvm.MethodName) "TaxWorkbench" ∈ nwL := List.mem_of_getElem? (i := 59) rfl
theorem nw_q2172 : Jvm.Cond.methodLinkNest "TaxWorkbench$Reader" (56 : Nat) ({ cls := "TaxWorkbench", name := "isBetween", desc := "(III)Z" } : Jvm.MethodName) "TaxWorkbench" ∈ nwL := List.mem_of_getElem? (i := 60) rfl
theorem nw_q1601 : Jvm.Cond.castable "java/util/LinkedList" "java/util/List" ∈ nwL := List.mem_of_getElem? (i := 61) rfl
theorem nw_q1705 : Jvm.Cond.castable "java/util/LinkedList" "java/util/Collection" ∈ nwL := List.mem_of_getElem? (i := 62) rfl
theorem nw_q3955 : Jvm.Cond.castable "java/util/LinkedList" "java/lang/Object" ∈ nwL := List.mem_of_getElem? (i := 63) rfl
theorem nw_q1648 : Jvm.Cond.castable "java/util/ArrayDeque" "java/util/Collection" ∈ nwL := List.mem_of_getElem? (i := 64) rfl
theorem nw_q3956 : Jvm.Cond.castable "java/util/ArrayDeque" "java/lang/Object" ∈ nwL := List.mem_of_getElem? (i := 65) rfl
theorem nw_q3993 : Jvm.Cond.castable "java/lang/Throwable" "java/lang/Object" ∈ nwL := List.mem_of_getElem? (i := 66) rfl
theorem nw_q933 : Jvm.Cond.castable "java/lang/IllegalArgumentException" "java/lang/IllegalArgumentException" ∈ nwL := List.mem_of_getElem? (i := 67) rfl
theorem nw_q3960 : Jvm.Cond.castable "java/lang/IllegalArgumentException" "java/lang/Object" ∈ nwL := List.mem_of_getElem? (i := 68) rfl
theorem nw_q1790 : Jvm.Cond.castable "java/lang/IllegalStateException" "java/lang/IllegalStateException" ∈ nwL := List.mem_of_getElem? (i := 69) rfl
theorem nw_q3961 : Jvm.Cond.castable "java/lang/IllegalStateException" "java/lang/Object" ∈ nwL := List.mem_of_getElem? (i := 70) rfl
theorem nw_q682 : Jvm.Cond.castable "java/lang/IndexOutOfBoundsException" "java/lang/IndexOutOfBoundsException" ∈ nwL := List.mem_of_getElem? (i := 71) rfl
theorem nw_q3965 : Jvm.Cond.castable "java/lang/IndexOutOfBoundsException" "java/lang/Object" ∈ nwL := List.mem_of_getElem? (i := 72) rfl
theorem nw_q3963 : Jvm.Cond.castable "java/lang/StringBuilder" "java/lang/Object" ∈ nwL := List.mem_of_getElem? (i := 73) rfl
theorem nw_q3964 : Jvm.Cond.castable "java/lang/String" "java/lang/Object" ∈ nwL := List.mem_of_getElem? (i := 74) rfl
theorem nw_q3968 : Jvm.Cond.castable "java/lang/Integer" "java/lang/Object" ∈ nwL := List.mem_of_getElem? (i := 75) rfl
theorem nw_q1244 : Jvm.Cond.castable "java/util/AbstractList$ListItr" "java/util/Iterator" ∈ nwL := List.mem_of_getElem? (i := 76) rfl
theorem nw_q1271 : Jvm.Cond.castable "java/util/AbstractList$ListItr" "java/util/ListIterator" ∈ nwL := List.mem_of_getElem? (i := 77) rfl
theorem nw_q3974 : Jvm.Cond.castable "java/util/AbstractList$ListItr" "java/lang/Object" ∈ nwL := List.mem_of_getElem? (i := 78) rfl
theorem nw_q1257 : Jvm.Cond.castable "java/util/AbstractList$SubList$1" "java/util/Iterator" ∈ nwL := List.mem_of_getElem? (i := 79) rfl
theorem nw_q1277 : Jvm.Cond.castable "java/util/AbstractList$SubList$1" "java/util/ListIterator" ∈ nwL := List.mem_of_getElem? (i := 80) rfl
theorem nw_q3985 : Jvm.Cond.castable "java/util/AbstractList$SubList$1" "java/lang/Object" ∈ nwL := List.mem_of_getElem? (i := 81) rfl
theorem nw_q1319 : Jvm.Cond.castable "java/util/ArrayList$Itr" "java/util/Iterator" ∈ nwL := List.mem_of_getElem? (i := 82) rfl
theorem nw_q3992 : Jvm.Cond.castable "java/util/ArrayList$Itr" "java/lang/Object" ∈ nwL := List.mem_of_getElem? (i := 83) rfl
theorem nw_q1281 : Jvm.Cond.castable "java/util/ArrayList$ListItr" "java/util/ListIterator" ∈ nwL := List.mem_of_getElem? (i := 84) rfl
theorem nw_q1325 : Jvm.Cond.castable "java/util/ArrayList$ListItr" "java/util/Iterator" ∈ nwL := List.mem_of_getElem? (i := 85) rfl
theorem nw_q3975 : Jvm.Cond.castable "java/util/ArrayList$ListItr" "java/lang/Object" ∈ nwL := List.mem_of_getElem? (i := 86) rfl
theorem nw_q1287 : Jvm.Cond.castable "java/util/ArrayList$SubList$1" "java/util/ListIterator" ∈ nwL := List.mem_of_getElem? (i := 87) rfl
theorem nw_q1328 : Jvm.Cond.castable "java/util/ArrayList$SubList$1" "java/util/Iterator" ∈ nwL := List.mem_of_getElem? (i := 88) rfl
theorem nw_q3986 : Jvm.Cond.castable "java/util/ArrayList$SubList$1" "java/lang/Object" ∈ nwL := List.mem_of_getElem? (i := 89) rfl
theorem nw_q1307 : Jvm.Cond.castable "java/util/LinkedList$ListItr" "java/util/ListIterator" ∈ nwL := List.mem_of_getElem? (i := 90) rfl
theorem nw_q1361 : Jvm.Cond.castable "java/util/LinkedList$ListItr" "java/util/Iterator" ∈ nwL := List.mem_of_getElem? (i := 91) rfl
theorem nw_q3976 : Jvm.Cond.castable "java/util/LinkedList$ListItr" "java/lang/Object" ∈ nwL := List.mem_of_getElem? (i := 92) rfl
theorem nw_q1313 : Jvm.Cond.castable "java/util/ArrayDeque$DeqIterator" "java/util/Iterator" ∈ nwL := List.mem_of_getElem? (i := 93) rfl
theorem nw_q3991 : Jvm.Cond.castable "java/util/ArrayDeque$DeqIterator" "java/lang/Object" ∈ nwL := List.mem_of_getElem? (i := 94) rfl
theorem nw_q1301 : Jvm.Cond.castable "java/util/ImmutableCollections$ListItr" "java/util/ListIterator" ∈ nwL := List.mem_of_getElem? (i := 95) rfl
theorem nw_q1359 : Jvm.Cond.castable "java/util/ImmutableCollections$ListItr" "java/util/Iterator" ∈ nwL := List.mem_of_getElem? (i := 96) rfl
theorem nw_q3987 : Jvm.Cond.castable "java/util/ImmutableCollections$ListItr" "java/lang/Object" ∈ nwL := List.mem_of_getElem? (i := 97) rfl
theorem nw_q1419 : Jvm.Cond.castable "java/util/NoSuchElementException" "java/util/NoSuchElementException" ∈ nwL := List.mem_of_getElem? (i := 98) rfl
theorem nw_q3973 : Jvm.Cond.castable "java/util/NoSuchElementException" "java/lang/Object" ∈ nwL := List.mem_of_getElem? (i := 99) rfl
theorem nw_q3966 : Jvm.Cond.castable "java/util/LinkedList$Node" "java/lang/Object" ∈ nwL := List.mem_of_getElem? (i := 100) rfl
theorem nw_q1572 : Jvm.Cond.castable "java/util/ImmutableCollections$List12" "java/util/List" ∈ nwL := List.mem_of_getElem? (i := 101) rfl
theorem nw_q1690 : Jvm.Cond.castable "java/util/ImmutableCollections$List12" "java/util/Collection" ∈ nwL := List.mem_of_getElem? (i := 102) rfl
theorem nw_q3946 : Jvm.Cond.castable "java/util/ImmutableCollections$List12" "java/util/RandomAccess" ∈ nwL := List.mem_of_getElem? (i := 103) rfl
theorem nw_q3953 : Jvm.Cond.castable "java/util/ImmutableCollections$List12" "java/lang/Object" ∈ nwL := List.mem_of_getElem? (i := 104) rfl
theorem nw_q1561 : Jvm.Cond.castable "java/util/Collections$UnmodifiableList" "java/util/List" ∈ nwL := List.mem_of_getElem? (i := 105) rfl
theorem nw_q1679 : Jvm.Cond.castable "java/util/Collections$UnmodifiableList" "java/util/Collection" ∈ nwL := List.mem_of_getElem? (i := 106) rfl
theorem nw_q3970 : Jvm.Cond.castable "java/util/Collections$UnmodifiableList" "java/lang/Object" ∈ nwL := List.mem_of_getElem? (i := 107) rfl
theorem nw_q1569 : Jvm.Cond.castable "java/util/Collections$UnmodifiableRandomAccessList" "java/util/List" ∈ nwL := List.mem_of_getElem? (i := 108) rfl
theorem nw_q1687 : Jvm.Cond.castable "java/util/Collections$UnmodifiableRandomAccessList" "java/util/Collection" ∈ nwL := List.mem_of_getElem? (i := 109) rfl
theorem nw_q3945 : Jvm.Cond.castable "java/util/Collections$UnmodifiableRandomAccessList" "java/util/RandomAccess" ∈ nwL := List.mem_of_getElem? (i := 110) rfl
theorem nw_q3969 : Jvm.Cond.castable "java/util/Collections$UnmodifiableRandomAccessList" "java/lang/Object" ∈ nwL := List.mem_of_getElem? (i := 111) rfl
theorem nw_q2384 : Jvm.Cond.castable "java/lang/ArrayIndexOutOfBoundsException" "java/lang/ArrayIndexOutOfBoundsException" ∈ nwL := List.mem_of_getElem? (i := 112) rfl
theorem nw_q3941 : Jvm.Cond.castable "java/lang/ArrayIndexOutOfBoundsException" "java/lang/IndexOutOfBoundsException" ∈ nwL := List.mem_of_getElem? (i := 113) rfl
theorem nw_q3977 : Jvm.Cond.castable "java/lang/ArrayIndexOutOfBoundsException" "java/lang/Object" ∈ nwL := List.mem_of_getElem? (i := 114) rfl
theorem nw_q2487 : Jvm.Cond.castable "java/util/ConcurrentModificationException" "java/util/ConcurrentModificationException" ∈ nwL := List.mem_of_getElem? (i := 115) rfl
theorem nw_q3978 : Jvm.Cond.castable "java/util/ConcurrentModificationException" "java/lang/Object" ∈ nwL := List.mem_of_getElem? (i := 116) rfl
theorem nw_q3979 : Jvm.Cond.castable "java/lang/Long" "java/lang/Object" ∈ nwL := List.mem_of_getElem? (i := 117) rfl
theorem nw_q1557 : Jvm.Cond.castable "java/util/ArrayList$SubList" "java/util/List" ∈ nwL := List.mem_of_getElem? (i := 118) rfl
theorem nw_q1669 : Jvm.Cond.castable "java/util/ArrayList$SubList" "java/util/Collection" ∈ nwL := List.mem_of_getElem? (i := 119) rfl
theorem nw_q3944 : Jvm.Cond.castable "java/util/ArrayList$SubList" "java/util/RandomAccess" ∈ nwL := List.mem_of_getElem? (i := 120) rfl
theorem nw_q3980 : Jvm.Cond.castable "java/util/ArrayList$SubList" "java/lang/Object" ∈ nwL := List.mem_of_getElem? (i := 121) rfl
theorem nw_q1550 : Jvm.Cond.castable "java/util/AbstractList$SubList" "java/util/List" ∈ nwL := List.mem_of_getElem? (i := 122) rfl
theorem nw_q1645 : Jvm.Cond.castable "java/util/AbstractList$SubList" "java/util/Collection" ∈ nwL := List.mem_of_getElem? (i := 123) rfl
theorem nw_q3983 : Jvm.Cond.castable "java/util/AbstractList$SubList" "java/lang/Object" ∈ nwL := List.mem_of_getElem? (i := 124) rfl
theorem nw_q616 : Jvm.Cond.castable "java/util/AbstractList$RandomAccessSubList" "java/util/Collection" ∈ nwL := List.mem_of_getElem? (i := 125) rfl
theorem nw_q1546 : Jvm.Cond.castable "java/util/AbstractList$RandomAccessSubList" "java/util/List" ∈ nwL := List.mem_of_getElem? (i := 126) rfl
theorem nw_q3942 : Jvm.Cond.castable "java/util/AbstractList$RandomAccessSubList" "java/util/RandomAccess" ∈ nwL := List.mem_of_getElem? (i := 127) rfl
theorem nw_q3982 : Jvm.Cond.castable "java/util/AbstractList$RandomAccessSubList" "java/lang/Object" ∈ nwL := List.mem_of_getElem? (i := 128) rfl
theorem nw_q1593 : Jvm.Cond.castable "java/util/ImmutableCollections$SubList" "java/util/List" ∈ nwL := List.mem_of_getElem? (i := 129) rfl
theorem nw_q1697 : Jvm.Cond.castable "java/util/ImmutableCollections$SubList" "java/util/Collection" ∈ nwL := List.mem_of_getElem? (i := 130) rfl
theorem nw_q3947 : Jvm.Cond.castable "java/util/ImmutableCollections$SubList" "java/util/RandomAccess" ∈ nwL := List.mem_of_getElem? (i := 131) rfl
theorem nw_q3981 : Jvm.Cond.castable "java/util/ImmutableCollections$SubList" "java/lang/Object" ∈ nwL := List.mem_of_getElem? (i := 132) rfl
theorem nw_q1293 : Jvm.Cond.castable "java/util/Collections$UnmodifiableList$1" "java/util/ListIterator" ∈ nwL := List.mem_of_getElem? (i := 133) rfl
theorem nw_q1334 : Jvm.Cond.castable "java/util/Collections$UnmodifiableList$1" "java/util/Iterator" ∈ nwL := List.mem_of_getElem? (i := 134) rfl
theorem nw_q3984 : Jvm.Cond.castable "java/util/Collections$UnmodifiableList$1" "java/lang/Object" ∈ nwL := List.mem_of_getElem? (i := 135) rfl
theorem nw_q3087 : Jvm.Cond.castable "java/lang/UnsupportedOperationException" "java/lang/UnsupportedOperationException" ∈ nwL := List.mem_of_getElem? (i := 136) rfl
theorem nw_q3988 : Jvm.Cond.castable "java/lang/UnsupportedOperationException" "java/lang/Object" ∈ nwL := List.mem_of_getElem? (i := 137) rfl
theorem nw_q3989 : Jvm.Cond.castable "java/util/BitSet" "java/lang/Object" ∈ nwL := List.mem_of_getElem? (i := 138) rfl
theorem nw_q3455 : Jvm.Cond.castable "java/lang/ArithmeticException" "java/lang/ArithmeticException" ∈ nwL := List.mem_of_getElem? (i := 139) rfl
theorem nw_q3990 : Jvm.Cond.castable "java/lang/ArithmeticException" "java/lang/Object" ∈ nwL := List.mem_of_getElem? (i := 140) rfl
theorem nw_q1553 : Jvm.Cond.castable "java/util/ArrayList" "java/util/List" ∈ nwL := List.mem_of_getElem? (i := 141) rfl
theorem nw_q1663 : Jvm.Cond.castable "java/util/ArrayList" "java/util/Collection" ∈ nwL := List.mem_of_getElem? (i := 142) rfl
theorem nw_q3943 : Jvm.Cond.castable "java/util/ArrayList" "java/util/RandomAccess" ∈ nwL := List.mem_of_getElem? (i := 143) rfl
theorem nw_q3954 : Jvm.Cond.castable "java/util/ArrayList" "java/lang/Object" ∈ nwL := List.mem_of_getElem? (i := 144) rfl
theorem nw_q3949 : Jvm.Cond.castable "TaxWorkbench" "java/lang/Object" ∈ nwL := List.mem_of_getElem? (i := 145) rfl
theorem nw_q2136 : Jvm.Cond.castable "TaxWorkbench$FaultException" "TaxWorkbench$FaultException" ∈ nwL := List.mem_of_getElem? (i := 146) rfl
theorem nw_q3967 : Jvm.Cond.castable "TaxWorkbench$FaultException" "java/lang/Object" ∈ nwL := List.mem_of_getElem? (i := 147) rfl
theorem nw_q3971 : Jvm.Cond.castable "TaxWorkbench$Charge" "java/lang/Object" ∈ nwL := List.mem_of_getElem? (i := 148) rfl
theorem nw_q3972 : Jvm.Cond.castable "TaxWorkbench$Credit" "java/lang/Object" ∈ nwL := List.mem_of_getElem? (i := 149) rfl
theorem nw_q3950 : Jvm.Cond.castable "TaxWorkbench$World" "java/lang/Object" ∈ nwL := List.mem_of_getElem? (i := 150) rfl
theorem nw_q3951 : Jvm.Cond.castable "TaxWorkbench$Rules" "java/lang/Object" ∈ nwL := List.mem_of_getElem? (i := 151) rfl
theorem nw_q3952 : Jvm.Cond.castable "TaxWorkbench$Bracket" "java/lang/Object" ∈ nwL := List.mem_of_getElem? (i := 152) rfl
theorem nw_q3948 : Jvm.Cond.castable "TaxWorkbench$Person" "java/lang/Object" ∈ nwL := List.mem_of_getElem? (i := 153) rfl
theorem nw_q3957 : Jvm.Cond.castable "TaxWorkbench$Computation" "java/lang/Object" ∈ nwL := List.mem_of_getElem? (i := 154) rfl
theorem nw_q3958 : Jvm.Cond.castable "TaxWorkbench$Case" "java/lang/Object" ∈ nwL := List.mem_of_getElem? (i := 155) rfl
theorem nw_q3959 : Jvm.Cond.castable "TaxWorkbenchModel" "java/lang/Object" ∈ nwL := List.mem_of_getElem? (i := 156) rfl
theorem nw_q3962 : Jvm.Cond.castable "TaxWorkbench$Reader" "java/lang/Object" ∈ nwL := List.mem_of_getElem? (i := 157) rfl
theorem nw_q1751 : Jvm.Cond.castable "[J" "java/lang/Cloneable" ∈ nwL := List.mem_of_getElem? (i := 158) rfl
theorem nw_q3999 : Jvm.Cond.castable "[J" "java/lang/Object" ∈ nwL := List.mem_of_getElem? (i := 159) rfl
theorem nw_q1545 : Jvm.Cond.declares ({ cls := "java/util/List", name := "get", desc := "(I)Ljava/lang/Object;" } : Jvm.MethodName) ∈ nwL := List.mem_of_getElem? (i := 160) rfl
theorem nw_q1816 : Jvm.Cond.declares ({ cls := "java/util/List", name := "size", desc := "()I" } : Jvm.MethodName) ∈ nwL := List.mem_of_getElem? (i := 161) rfl
theorem nw_q2676 : Jvm.Cond.declares ({ cls := "java/util/List", name := "set", desc := "(ILjava/lang/Object;)Ljava/lang/Object;" } : Jvm.MethodName) ∈ nwL := List.mem_of_getElem? (i := 162) rfl
theorem nw_q2726 : Jvm.Cond.declares ({ cls := "java/util/List", name := "subList", desc := "(II)Ljava/util/List;" } : Jvm.MethodName) ∈ nwL := List.mem_of_getElem? (i := 163) rfl
theorem nw_q2883 : Jvm.Cond.declares ({ cls := "java/util/List", name := "listIterator", desc := "()Ljava/util/ListIterator;" } : Jvm.MethodName) ∈ nwL := List.mem_of_getElem? (i := 164) rfl
theorem nw_q2916 : Jvm.Cond.declares ({ cls := "java/util/List", name := "listIterator", desc := "(I)Ljava/util/ListIterator;" } : Jvm.MethodName) ∈ nwL := List.mem_of_getElem? (i := 165) rfl
theorem nw_q623 : Jvm.Cond.declares ({ cls := "java/util/AbstractCollection", name := "size", desc := "()I" } : Jvm.MethodName) ∈ nwL := List.mem_of_getElem? (i := 166) rfl
theorem nw_q658 : Jvm.Cond.declares ({ cls := "java/util/AbstractCollection", name := "iterator", desc := "()Ljava/util/Iterator;" } : Jvm.MethodName) ∈ nwL := List.mem_of_getElem? (i := 167) rfl
theorem nw_q687 : Jvm.Cond.declares ({ cls := "java/lang/Throwable", name := "<init>", desc := "()V" } : Jvm.MethodName) ∈ nwL := List.mem_of_getElem? (i := 168) rfl
theorem nw_q688 : Jvm.Cond.declares ({ cls := "java/lang/Throwable", name := "<init>", desc := "(Ljava/lang/String;)V" } : Jvm.MethodName) ∈ nwL := List.mem_of_getElem? (i := 169) rfl
theorem nw_q685 : Jvm.Cond.declares ({ cls := "java/lang/Exception", name := "<init>", desc := "()V" } : Jvm.MethodName) ∈ nwL := List.mem_of_getElem? (i := 170) rfl
theorem nw_q686 : Jvm.Cond.declares ({ cls := "java/lang/Exception", name := "<init>", desc := "(Ljava/lang/String;)V" } : Jvm.MethodName) ∈ nwL := List.mem_of_getElem? (i := 171) rfl
theorem nw_q683 : Jvm.Cond.declares ({ cls := "java/lang/RuntimeException", name := "<init>", desc := "()V" } : Jvm.MethodName) ∈ nwL := List.mem_of_getElem? (i := 172) rfl
theorem nw_q684 : Jvm.Cond.declares ({ cls := "java/lang/RuntimeException", name := "<init>", desc := "(Ljava/lang/String;)V" } : Jvm.MethodName) ∈ nwL := List.mem_of_getElem? (i := 173) rfl
theorem nw_q2385 : Jvm.Cond.declares ({ cls := "java/lang/IndexOutOfBoundsException", name := "<init>", desc := "()V" } : Jvm.MethodName) ∈ nwL := List.mem_of_getElem? (i := 174) rfl
theorem nw_q2386 : Jvm.Cond.declares ({ cls := "java/lang/IndexOutOfBoundsException", name := "<init>", desc := "(Ljava/lang/String;)V" } : Jvm.MethodName) ∈ nwL := List.mem_of_getElem? (i := 175) rfl
theorem nw_q2995 : Jvm.Cond.declares ({ cls := "java/util/AbstractList$Itr", name := "checkForComodification", desc := "()V" } : Jvm.MethodName) ∈ nwL := List.mem_of_getElem? (i := 176) rfl
theorem nw_q1580 : Jvm.Cond.declares ({ cls := "java/util/ImmutableCollections$AbstractImmutableList", name := "outOfBounds", desc := "(I)Ljava/lang/IndexOutOfBoundsException;" } : Jvm.MethodName) ∈ nwL := List.mem_of_getElem? (i := 177) rfl
theorem nw_q3061 : Jvm.Cond.declares ({ cls := "java/util/ArrayList$Itr", name := "checkForComodification", desc := "()V" } : Jvm.MethodName) ∈ nwL := List.mem_of_getElem? (i := 178) rfl
theorem nw_q2210 : Jvm.Cond.declares ({ cls := "java/lang/Object", name := "getClass", desc := "()Ljava/lang/Class;" } : Jvm.MethodName) ∈ nwL := List.mem_of_getElem? (i := 179) rfl
theorem nw_q665 : Jvm.Cond.declares ({ cls := "java/util/AbstractList", name := "listIterator", desc := "()Ljava/util/ListIterator;" } : Jvm.MethodName) ∈ nwL := List.mem_of_getElem? (i := 180) rfl
theorem nw_q1160 : Jvm.Cond.declares ({ cls := "java/util/AbstractList", name := "listIterator", desc := "(I)Ljava/util/ListIterator;" } : Jvm.MethodName) ∈ nwL := List.mem_of_getElem? (i := 181) rfl
theorem nw_q1379 : Jvm.Cond.declares ({ cls := "java/util/AbstractList", name := "get", desc := "(I)Ljava/lang/Object;" } : Jvm.MethodName) ∈ nwL := List.mem_of_getElem? (i := 182) rfl
theorem nw_q2484 : Jvm.Cond.declares ({ cls := "java/util/AbstractList", name := "remove", desc := "(I)Ljava/lang/Object;" } : Jvm.MethodName) ∈ nwL := List.mem_of_getElem? (i := 183) rfl
theorem nw_q2694 : Jvm.Cond.declares ({ cls := "java/util/AbstractList", name := "set", desc := "(ILjava/lang/Object;)Ljava/lang/Object;" } : Jvm.MethodName) ∈ nwL := List.mem_of_getElem? (i := 184) rfl
theorem nw_q2353 : Jvm.Cond.declares ({ cls := "java/util/AbstractSequentialList", name := "iterator", desc := "()Ljava/util/Iterator;" } : Jvm.MethodName) ∈ nwL := List.mem_of_getElem? (i := 185) rfl
theorem okX8 : clsOk RX8 TX8 23 tyX8 := ⟨in_X8, tyX8_ok, nmX8⟩
theorem okX1 : clsOk RX1 TX1 7 tyX1 := ⟨in_X1, tyX1_ok, nmX1⟩
theorem okX2 : clsOk RX2 TX2 5 tyX2 := ⟨in_X2, tyX2_ok, nmX2⟩
theorem okX3 : clsOk RX3 TX3 5 tyX3 := ⟨in_X3, tyX3_ok, nmX3⟩
theorem okX4 : clsOk RX4 TX4 2 tyX4 := ⟨in_X4, tyX4_ok, nmX4⟩
theorem okX5 : clsOk RX5 TX5 3 tyX5 := ⟨in_X5, tyX5_ok, nmX5⟩
theorem okX6 : clsOk RX6 TX6 7 tyX6 := ⟨in_X6, tyX6_ok, nmX6⟩
theorem okX7 : clsOk RX7 TX7 5 tyX7 := ⟨in_X7, tyX7_ok, nmX7⟩
theorem okX9 : clsOk RX9 TX9 5 tyX9 := ⟨in_X9, tyX9_ok, nmX9⟩
theorem okX10 : clsOk RX10 TX10 7 tyX10 := ⟨in_X10, tyX10_ok, nmX10⟩
theorem okX11 : clsOk RX11 TX11 2 tyX11 := ⟨in_X11, tyX11_ok, nmX11⟩
theorem okX12 : clsOk RX12 TX12 6 tyX12 := ⟨in_X12, tyX12_ok, nmX12⟩
theorem okJ8 : clsOk RJ8 TJ8 3 tyJ8 := ⟨in_J8, tyJ8_ok, nmJ8⟩
theorem okJ10 : clsOk RJ10 TJ10 4 tyJ10 := ⟨in_J10, tyJ10_ok, nmJ10⟩
theorem okJ39 : clsOk RJ39 TJ39 3 tyJ39 := ⟨in_J39, tyJ39_ok, nmJ39⟩
theorem okJ35 : clsOk RJ35 TJ35 5 tyJ35 := ⟨in_J35, tyJ35_ok, nmJ35⟩
theorem okJ14 : clsOk RJ14 TJ14 3 tyJ14 := ⟨in_J14, tyJ14_ok, nmJ14⟩
theorem okJ54 : clsOk RJ54 TJ54 3 tyJ54 := ⟨in_J54, tyJ54_ok, nmJ54⟩
theorem okJ4 : clsOk RJ4 TJ4 2 tyJ4 := ⟨in_J4, tyJ4_ok, nmJ4⟩
theorem okJ28 : clsOk RJ28 TJ28 1 tyJ28 := ⟨in_J28, tyJ28_ok, nmJ28⟩
theorem okJ47 : clsOk RJ47 TJ47 1 tyJ47 := ⟨in_J47, tyJ47_ok, nmJ47⟩
theorem okJ44 : clsOk RJ44 TJ44 2 tyJ44 := ⟨in_J44, tyJ44_ok, nmJ44⟩
theorem okJ48 : clsOk RJ48 TJ48 5 tyJ48 := ⟨in_J48, tyJ48_ok, nmJ48⟩
theorem okJ23 : clsOk RJ23 TJ23 4 tyJ23 := ⟨in_J23, tyJ23_ok, nmJ23⟩
