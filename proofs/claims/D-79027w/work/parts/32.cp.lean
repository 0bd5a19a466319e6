/-! what the component's classes reckon, and how their objects lie -/
def abvK (x f st : Int32) : Int64 := maxL 0 (x.toInt64 - st.toInt64 * f.toInt64)
def valK0 (c : Nat → Int32) (d : Int32) : Int64 := (c 1).toInt64 * 1000000 * (if c 5 = 0 then (1 : Int32) else d).toInt64
def valK1 (c : Nat → Int32) (e d : Int32) : Int64 := if c 2 ≤ 0 then valK0 c d else minL (valK0 c d) ((c 2).toInt64 * 1000 * e.toInt64)
def valK (c : Nat → Int32) (e x d f : Int32) : Int64 := maxL 0 (valK1 c e d - (c 4).toInt64 * 1000 * abvK x f (c 3))
def schKt (g : Nat → Int32) (nb : Nat) (f : Int32) (k : Nat) : Int64 := if k + 1 < nb then (g (1 + 2 * (k + 1))).toInt64 * 1000000 * f.toInt64 else 9223372036854775807
def schK (g : Nat → Int32) (nb : Nat) (tx : Int64) (f : Int32) : Nat → Int64
  | 0 => 0
  | k + 1 => schK g nb tx f k + maxL 0 (minL tx (schKt g nb f k) - (g (1 + 2 * k)).toInt64 * 1000000 * f.toInt64) / 1000 * (g (1 + 2 * k + 1)).toInt64
def chaK (g : Nat → Int32) (x f : Int32) : Nat → Int64
  | 0 => 0
  | k + 1 => chaK g x f k + (if x.toInt64 < (g (19 + 2 * k)).toInt64 * f.toInt64 then 0 else (g (19 + 2 * k + 1)).toInt64 * 1000000)
def alwK (g : Nat → Int32) (x f : Int32) : Int64 := maxL 0 ((g 13).toInt64 * 1000000 * f.toInt64 - (g 15).toInt64 * 1000 * abvK x f (g 14))
def minK (g : Nat → Int32) (x f : Int32) : Int64 := (g 17).toInt64 * 1000 * abvK x f (g 16)
/-! objects: K is the set of cells that may change -/
section CPOBJ
variable {D : DD} {K : Nat → Prop} {H H1 : Heap}
def obK (K : Nat → Prop) (D : DD) (ci : Nat) (fs : List Value) (a : Nat) (H : Heap) : Prop := ob D ci fs a H ∧ ¬ K a
def arK (K : Nat → Prop) (D : DD) (t : Nat) (x : vp_A) (a : Nat) (H : Heap) : Prop := ar D t x a H ∧ ¬ K a
theorem obK.fr {ci a : Nat} {fs : List Value} (h : obK K D ci fs a H) (f : fr K H H1) : obK K D ci fs a H1 := ⟨h.1.kept (f.2 a h.1.lt h.2), h.2⟩
theorem arK.fr {t a : Nat} {x : vp_A} (h : arK K D t x a H) (f : fr K H H1) : arK K D t x a H1 := ⟨h.1.kept (f.2 a h.1.lt h.2), h.2⟩
theorem obK.fld {ci a : Nat} {fs : List Value} (h : obK K D ci fs a H) (i : Nat) {v : Value} (hv : fs[i]? = some v) : fld D ci a i v H := h.1.fld i hv
/-- an array of ints, longs of which the first n are f -/
def aiK (K : Nat → Prop) (D : DD) (n : Nat) (f : Nat → Int32) (a : Nat) (H : Heap) : Prop := ∃ f', arK K D 0 (n, .inl f') a H ∧ ∀ j, j < n → f' j = f j
def alK (K : Nat → Prop) (D : DD) (n : Nat) (f : Nat → Int64) (a : Nat) (H : Heap) : Prop := ∃ f', arK K D 1 (n, .inr (.inl f')) a H ∧ ∀ j, j < n → f' j = f j
theorem aiK.fr {n a : Nat} {f : Nat → Int32} (h : aiK K D n f a H) (g : fr K H H1) : aiK K D n f a H1 := by obtain ⟨f', h1, h2⟩ := h; exact ⟨f', h1.fr g, h2⟩
theorem alK.fr {n a : Nat} {f : Nat → Int64} (h : alK K D n f a H) (g : fr K H H1) : alK K D n f a H1 := by obtain ⟨f', h1, h2⟩ := h; exact ⟨f', h1.fr g, h2⟩
theorem aiK.el {n a : Nat} {f : Nat → Int32} (h : aiK K D n f a H) {j : Nat} (hj : j < n) : eli D n a j (f j) H := by obtain ⟨f', h1, h2⟩ := h; exact ⟨f', h1.1, h2 j hj⟩
theorem alK.el {n a : Nat} {f : Nat → Int64} (h : alK K D n f a H) {j : Nat} (hj : j < n) : ell D n a j (f j) H := by obtain ⟨f', h1, h2⟩ := h; exact ⟨f', h1.1, h2 j hj⟩
theorem aiK.cg {n a : Nat} {f g : Nat → Int32} (h : aiK K D n f a H) (e : ∀ j, j < n → f j = g j) : aiK K D n g a H := by obtain ⟨f', h1, h2⟩ := h; exact ⟨f', h1, fun j hj => (h2 j hj).trans (e j hj)⟩
theorem alK.cg {n a : Nat} {f g : Nat → Int64} (h : alK K D n f a H) (e : ∀ j, j < n → f j = g j) : alK K D n g a H := by obtain ⟨f', h1, h2⟩ := h; exact ⟨f', h1, fun j hj => (h2 j hj).trans (e j hj)⟩
/-- an ArrayList a with its array e, n elements -/
def alsK (K : Nat → Prop) (D : DD) (a e n : Nat) (f : Nat → Nat) (H : Heap) : Prop := (∃ mc, obK K D 12 [.int mc, .ref e, .int (nI n)] a H) ∧ ∃ cap g, arK K D 3 (cap, .inr (.inr (.inr (.inr g)))) e H ∧ n ≤ cap ∧ cap < 2 ^ 31 ∧ ∀ i, i < n → g i = some (f i)
theorem alsK.fr {a e n : Nat} {f : Nat → Nat} (h : alsK K D a e n f H) (g : fr K H H1) : alsK K D a e n f H1 := by
  obtain ⟨⟨mc, h1⟩, cap, g', h2, h3, h4, h5⟩ := h
  exact ⟨⟨mc, h1.fr g⟩, cap, g', h2.fr g, h3, h4, h5⟩
theorem alsK.sz {a e n : Nat} {f : Nat → Nat} (h : alsK K D a e n f H) : fld D 12 a 2 (.int (nI n)) H := by obtain ⟨⟨mc, h1⟩, -⟩ := h; exact h1.fld 2 rfl
theorem alsK.ed {a e n : Nat} {f : Nat → Nat} (h : alsK K D a e n f H) : fld D 12 a 1 (.ref e) H := by obtain ⟨⟨mc, h1⟩, -⟩ := h; exact h1.fld 1 rfl
theorem alsK.el {a e n : Nat} {f : Nat → Nat} (h : alsK K D a e n f H) {i : Nat} (hi : i < n) : ∃ cap, elr D 3 cap e i (some (f i)) H ∧ i < cap ∧ cap < 2 ^ 31 := by
  obtain ⟨-, cap, g', h2, h3, h4, h5⟩ := h
  exact ⟨cap, ⟨g', h2.1, h5 i hi⟩, Nat.lt_of_lt_of_le hi h3, h4⟩
theorem alsK.n31 {a e n : Nat} {f : Nat → Nat} (h : alsK K D a e n f H) : n < 2 ^ 31 := by obtain ⟨-, cap, g', h2, h3, h4, h5⟩ := h; omega
/-- a list of one element (List.of) -/
def l1K (K : Nat → Prop) (D : DD) (a x : Nat) (H : Heap) : Prop := obK K D 18 [.ref x, .ref (D.2.2.1 0)] a H
/-- a List: an ArrayList, or a list of one element -/
def lsK (K : Nat → Prop) (D : DD) (ci a e n : Nat) (f : Nat → Nat) (H : Heap) : Prop := (ci = 12 ∧ alsK K D a e n f H) ∨ (ci = 18 ∧ n = 1 ∧ l1K K D a (f 0) H)
theorem lsK.fr {ci a e n : Nat} {f : Nat → Nat} (h : lsK K D ci a e n f H) (g : fr K H H1) : lsK K D ci a e n f H1 := by
  rcases h with ⟨h1, h2⟩ | ⟨h1, h2, h3⟩
  · exact Or.inl ⟨h1, h2.fr g⟩
  · exact Or.inr ⟨h1, h2, obK.fr h3 g⟩
theorem lsK.n31 {ci a e n : Nat} {f : Nat → Nat} (h : lsK K D ci a e n f H) : n < 2 ^ 31 := by
  rcases h with ⟨h1, h2⟩ | ⟨h1, h2, h3⟩
  · exact h2.n31
  · omega
/-- a LinkedList a with its nodes -/
def lkF (nd : Nat → Nat) (n : Nat) : Value := if 0 < n then .ref (nd 0) else .null
def lkL (nd : Nat → Nat) (n : Nat) : Value := if 0 < n then .ref (nd (n - 1)) else .null
def nxV (nd : Nat → Nat) (n i : Nat) : Value := if i + 1 < n then .ref (nd (i + 1)) else .null
def pvV (nd : Nat → Nat) (i : Nat) : Value := if 0 < i then .ref (nd (i - 1)) else .null
def llsK (K : Nat → Prop) (D : DD) (a n : Nat) (nd f : Nat → Nat) (H : Heap) : Prop := (∃ mc, obK K D 13 [.int mc, .int (nI n), lkF nd n, lkL nd n] a H) ∧ ∀ i, i < n → obK K D 14 [.ref (f i), nxV nd n i, pvV nd i] (nd i) H
theorem llsK.fr {a n : Nat} {nd f : Nat → Nat} (h : llsK K D a n nd f H) (g : fr K H H1) : llsK K D a n nd f H1 := by
  obtain ⟨⟨mc, h1⟩, h2⟩ := h
  exact ⟨⟨mc, h1.fr g⟩, fun i hi => (h2 i hi).fr g⟩
theorem llsK.sz {a n : Nat} {nd f : Nat → Nat} (h : llsK K D a n nd f H) : fld D 13 a 1 (.int (nI n)) H := by obtain ⟨⟨mc, h1⟩, -⟩ := h; exact h1.fld 1 rfl
theorem llsK.first {a n : Nat} {nd f : Nat → Nat} (h : llsK K D a n nd f H) (hn : 0 < n) : fld D 13 a 2 (.ref (nd 0)) H := by obtain ⟨⟨mc, h1⟩, -⟩ := h; exact h1.fld 2 (by simp [lkF, hn])
theorem llsK.last {a n : Nat} {nd f : Nat → Nat} (h : llsK K D a n nd f H) (hn : 0 < n) : fld D 13 a 3 (.ref (nd (n - 1))) H := by obtain ⟨⟨mc, h1⟩, -⟩ := h; exact h1.fld 3 (by simp [lkL, hn])
theorem llsK.item {a n : Nat} {nd f : Nat → Nat} (h : llsK K D a n nd f H) {i : Nat} (hi : i < n) : fld D 14 (nd i) 0 (.ref (f i)) H := (h.2 i hi).fld 0 rfl
theorem llsK.next {a n : Nat} {nd f : Nat → Nat} (h : llsK K D a n nd f H) {i : Nat} (hi : i + 1 < n) : fld D 14 (nd i) 1 (.ref (nd (i + 1))) H := (h.2 i (by omega)).fld 1 (by simp [nxV, hi])
theorem llsK.prev {a n : Nat} {nd f : Nat → Nat} (h : llsK K D a n nd f H) {i : Nat} (hi : i < n) (h0 : 0 < i) : fld D 14 (nd i) 2 (.ref (nd (i - 1))) H := (h.2 i hi).fld 2 (by simp [pvV, h0])
/-- rules: rd says where they lie: 0 the object, 1 its brackets (of the class rd 8, their array rd 7), 2 allowance, 3 minimum, 4 charges (array 5), 6 credits; 100+k Bracket, 200+k Charge, 300+k Credit, 400+k node -/
def ruK (K : Nat → Prop) (D : DD) (rd : Nat → Nat) (g : Nat → Int32) (nb nch ncr : Nat) (H : Heap) : Prop :=
  obK K D 3 [.ref (rd 1), .ref (rd 2), .ref (rd 3), .ref (rd 4), .ref (rd 6)] (rd 0) H ∧
  lsK K D (rd 8) (rd 1) (rd 7) nb (fun k => rd (100 + k)) H ∧ (∀ k, k < nb → obK K D 4 [.int (g (1 + 2 * k)), .int (g (1 + 2 * k + 1))] (rd (100 + k)) H) ∧
  aiK K D 3 (fun j => g (13 + j)) (rd 2) H ∧ aiK K D 2 (fun j => g (16 + j)) (rd 3) H ∧
  alsK K D (rd 4) (rd 5) nch (fun k => rd (200 + k)) H ∧ (∀ k, k < nch → obK K D 10 [.int (g (19 + 2 * k)), .int (g (19 + 2 * k + 1))] (rd (200 + k)) H) ∧
  llsK K D (rd 6) ncr (fun k => rd (400 + k)) (fun k => rd (300 + k)) H ∧ (∀ k, k < ncr → obK K D 11 [.int (g (28 + 6 * k + 0)), .int (g (28 + 6 * k + 1)), .int (g (28 + 6 * k + 2)), .int (g (28 + 6 * k + 3)), .int (g (28 + 6 * k + 4)), .int (g (28 + 6 * k + 5))] (rd (300 + k)) H)
theorem ruK.fr {rd : Nat → Nat} {g : Nat → Int32} {nb nch ncr : Nat} (h : ruK K D rd g nb nch ncr H) (f : fr K H H1) : ruK K D rd g nb nch ncr H1 := by
  obtain ⟨h1, h2, h3, h4, h5, h6, h7, h8, h9⟩ := h
  exact ⟨h1.fr f, h2.fr f, fun k hk => (h3 k hk).fr f, h4.fr f, h5.fr f, h6.fr f, fun k hk => (h7 k hk).fr f, h8.fr f, fun k hk => (h9 k hk).fr f⟩
section RU
variable {rd : Nat → Nat} {g : Nat → Int32} {nb nch ncr : Nat}
theorem ruK.o (h : ruK K D rd g nb nch ncr H) : obK K D 3 [.ref (rd 1), .ref (rd 2), .ref (rd 3), .ref (rd 4), .ref (rd 6)] (rd 0) H := h.1
theorem ruK.bl (h : ruK K D rd g nb nch ncr H) : lsK K D (rd 8) (rd 1) (rd 7) nb (fun k => rd (100 + k)) H := h.2.1
theorem ruK.b (h : ruK K D rd g nb nch ncr H) {k : Nat} (hk : k < nb) : obK K D 4 [.int (g (1 + 2 * k)), .int (g (1 + 2 * k + 1))] (rd (100 + k)) H := h.2.2.1 k hk
theorem ruK.al (h : ruK K D rd g nb nch ncr H) : aiK K D 3 (fun j => g (13 + j)) (rd 2) H := h.2.2.2.1
theorem ruK.mi (h : ruK K D rd g nb nch ncr H) : aiK K D 2 (fun j => g (16 + j)) (rd 3) H := h.2.2.2.2.1
theorem ruK.cl (h : ruK K D rd g nb nch ncr H) : alsK K D (rd 4) (rd 5) nch (fun k => rd (200 + k)) H := h.2.2.2.2.2.1
theorem ruK.c (h : ruK K D rd g nb nch ncr H) {k : Nat} (hk : k < nch) : obK K D 10 [.int (g (19 + 2 * k)), .int (g (19 + 2 * k + 1))] (rd (200 + k)) H := h.2.2.2.2.2.2.1 k hk
theorem ruK.rl (h : ruK K D rd g nb nch ncr H) : llsK K D (rd 6) ncr (fun k => rd (400 + k)) (fun k => rd (300 + k)) H := h.2.2.2.2.2.2.2.1
theorem ruK.r (h : ruK K D rd g nb nch ncr H) {k : Nat} (hk : k < ncr) : obK K D 11 [.int (g (28 + 6 * k + 0)), .int (g (28 + 6 * k + 1)), .int (g (28 + 6 * k + 2)), .int (g (28 + 6 * k + 3)), .int (g (28 + 6 * k + 4)), .int (g (28 + 6 * k + 5))] (rd (300 + k)) H := h.2.2.2.2.2.2.2.2 k hk
end RU
end CPOBJ
theorem nI_half {n : Nat} (h : n ≤ 6) : nI n >>> (1 &&& 31) = nI (n / 2) := by
  rcases (show n = 0 ∨ n = 1 ∨ n = 2 ∨ n = 3 ∨ n = 4 ∨ n = 5 ∨ n = 6 by omega) with rfl | rfl | rfl | rfl | rfl | rfl | rfl <;> decide

set_option maxHeartbeats 2000000 in
theorem ts_J25_checkIndex (D : DD) (l : Launch) (i n : Nat) (h : i < n) (hn : n < 2 ^ 31)  : Cs D l yJ25_checkIndex cJ25_checkIndex 3 (some .int) 0 0 [.int (nI i), .int (nI n), .null] (.int (nI i)) := by
  refine Cs.of (by decide) (Nat.le_of_ble_eq_true rfl) (fun s H0 A J hJ hR => ?_)
  have hp := hJ.pu H0 0 0
  show J H0 0 0 0 [] [(0, .int (nI i)), (1, .int (nI n)), (2, .null)]
  refine r_iload_n 1 0 hp dJ25_checkIndex_0 rfl rfl ?_
  refine r_if_ltN i 4 9 hp dJ25_checkIndex_1 (by omega) (by decide) rfl ?_
  refine r_iload_n 5 0 hp dJ25_checkIndex_4 rfl rfl ?_
  refine r_iload_n 6 1 hp dJ25_checkIndex_5 rfl rfl ?_
  refine r_icmp_ltN i n 9 16 hp dJ25_checkIndex_6 (by omega) (by omega) (by decide) (fun c6 => ?_) rfl (fun c6 => absurd c6 (by omega))
  refine r_iload_n 17 0 hp dJ25_checkIndex_16 rfl rfl ?_
  exact hR.1 17 _ _ _ rfl rfl dJ25_checkIndex_17 rfl
theorem lk_J5_105 : GoodIn lw_all (va_wsS RJ5 105 yJ25_checkIndex (ws_ yJ25_checkIndex cJ25_checkIndex 3 (some .int))) := lw_S q1387 q1388 q137 q1389
theorem yk_J25_checkIndex : yOk yJ25_checkIndex 3 := by decide +kernel
set_option maxHeartbeats 2000000 in
theorem ts_J5_checkIndex (D : DD) (l : Launch) (i n : Nat) (h : i < n) (hn : n < 2 ^ 31)  : Cs D l yJ5_checkIndex cJ5_checkIndex 2 (some .int) 1 22 [.int (nI i), .int (nI n)] (.int (nI i)) := by
  refine Cs.of (by decide) (Nat.le_of_ble_eq_true rfl) (fun s H0 A J hJ hR => ?_)
  have hp := hJ.pu H0 0 0
  show J H0 0 0 0 [] [(0, .int (nI i)), (1, .int (nI n))]
  refine r_iload_n 1 0 hp dJ5_checkIndex_0 rfl rfl ?_
  refine r_iload_n 2 1 hp dJ5_checkIndex_1 rfl rfl ?_
  refine r_null 3 hp dJ5_checkIndex_2 rfl ?_
  refine cs_row 6 hJ (ts_J25_checkIndex D l i n (by omega) (by omega)) lk_J5_105 3 yk_J25_checkIndex rfl ⟨by decide, by decide⟩ rfl (Nat.le_of_ble_eq_true rfl) dJ5_checkIndex_3 ⟨Nat.zero_le _, Nat.zero_le _⟩ rfl ?_
  exact hR.1 6 _ _ _ rfl rfl dJ5_checkIndex_6 rfl
set_option maxHeartbeats 2000000 in
theorem cp_J8_size (D : DD) (l : Launch) {H0 : Heap} {K : Nat → Prop} (a e n : Nat) (f : Nat → Nat) (h : alsK K D a e n f H0) : Cp D l yJ8_size cJ8_size 1 (some .int) 0 0 [.ref a] H0 (some (.int (nI n))) := by
  refine Cp.of (by decide) (Nat.le_of_ble_eq_true rfl) (fun s A J hJ hR => ?_)
  show J H0 0 0 0 [] [(0, .ref a)]
  refine r_aload_n 1 0 (hJ.pu _ _ _) dJ8_size_0 rfl rfl ?_
  refine j_getf 4 hJ (T := TJ8) (C := RJ8) 2 (v := .int (nI n)) okJ8 h.sz rfl (by decide) (Or.inl q257) (Or.inl rfl) dJ8_size_1 rfl ?_
  exact Rt.i hR rfl dJ8_size_4 (Nat.zero_le _) (Nat.zero_le _) ⟨rfl, rfl⟩
set_option maxHeartbeats 2000000 in
theorem cp_J8_elementData (D : DD) (l : Launch) {H0 : Heap} (a e cap i x : Nat) (h1 : fld D 12 a 1 (.ref e) H0) (h2 : elr D 3 cap e i (some x) H0) (hi : i < cap) (hc : cap < 2 ^ 31) : Cp D l yJ8_elementData cJ8_elementData 2 (Option.some (ClassFile.FieldType.object "java/lang/Object")) 0 0 [.ref a, .int (nI i)] H0 (some (.ref x)) := by
  refine Cp.of (by decide) (Nat.le_of_ble_eq_true rfl) (fun s A J hJ hR => ?_)
  show J H0 0 0 0 [] [(0, .ref a), (1, .int (nI i))]
  refine r_aload_n 1 0 (hJ.pu _ _ _) dJ8_elementData_0 rfl rfl ?_
  refine j_getf 4 hJ (T := TJ8) (C := RJ8) 1 (v := .ref e) okJ8 h1 rfl (by decide) (Or.inl q251) (Or.inl rfl) dJ8_elementData_1 rfl ?_
  refine r_iload_n 5 1 (hJ.pu _ _ _) dJ8_elementData_4 rfl rfl ?_
  refine j_aalde 6 hJ i (x := some x) h2 rfl rfl hi (by omega) dJ8_elementData_5 rfl ?_
  exact Rt.a hR (Or.inl ⟨_, rfl⟩) dJ8_elementData_6 (Nat.zero_le _) (Nat.zero_le _) ⟨rfl, rfl⟩
theorem lk_J8_118 : GoodIn lw_all (va_wsS RJ8 118 yJ5_checkIndex (ws_ yJ5_checkIndex cJ5_checkIndex 2 (some .int))) := lw_S q1393 q1385 q111 q1386
theorem yk_J5_checkIndex : yOk yJ5_checkIndex 2 := by decide +kernel
theorem lk_J8_123 : GoodIn lw_all (wsV RJ8 123 yJ8_elementData.cls yJ8_elementData (ws_ yJ8_elementData cJ8_elementData 2 (Option.some (ClassFile.FieldType.object "java/lang/Object")))) := lw_V q1394 q1395 q1396 q114 q1397
theorem yk_J8_elementData : yOk yJ8_elementData 1 := by decide +kernel
set_option maxHeartbeats 2000000 in
theorem cp_J8_get (D : DD) (l : Launch) {H0 : Heap} {K : Nat → Prop} (a e n i : Nat) (f : Nat → Nat) (h : alsK K D a e n f H0) (hi : i < n) : Cp D l yJ8_get cJ8_get 2 (Option.some (ClassFile.FieldType.object "java/lang/Object")) 2 43 [.ref a, .int (nI i)] H0 (some (.ref (f i))) := by
  obtain ⟨cap, hel, hic, hcap⟩ := h.el hi
  have hn31 := h.n31
  refine Cp.of (by decide) (Nat.le_of_ble_eq_true rfl) (fun s A J hJ hR => ?_)
  show J H0 0 0 0 [] [(0, .ref a), (1, .int (nI i))]
  refine r_iload_n 1 1 (hJ.pu _ _ _) dJ8_get_0 rfl rfl ?_
  refine r_aload_n 2 0 (hJ.pu _ _ _) dJ8_get_1 rfl rfl ?_
  refine j_getf 5 hJ (T := TJ8) (C := RJ8) 2 (v := .int (nI n)) okJ8 h.sz rfl (by decide) (Or.inl q257) (Or.inl rfl) dJ8_get_2 rfl ?_
  refine cs_row 8 hJ (ts_J5_checkIndex D l i n (by omega) (by omega)) lk_J8_118 2 yk_J5_checkIndex rfl ⟨by decide, by decide⟩ rfl (Nat.le_of_ble_eq_true rfl) dJ8_get_5 ⟨Nat.zero_le _, Nat.zero_le _⟩ rfl ?_
  refine r_pop 9 (hJ.pu _ _ _) dJ8_get_8 rfl rfl ?_
  refine r_aload_n 10 0 (hJ.pu _ _ _) dJ8_get_9 rfl rfl ?_
  refine r_iload_n 11 1 (hJ.pu _ _ _) dJ8_get_10 rfl rfl ?_
  refine j_callp 14 hJ (cp_J8_elementData D l a e cap i _ h.ed hel hic hcap) lk_J8_123 1 yk_J8_elementData rfl ⟨by decide, by decide⟩ h.sz rfl rfl (Nat.le_of_ble_eq_true rfl) dJ8_get_11 ⟨Nat.zero_le _, Nat.zero_le _⟩ rfl ?_
  exact Rt.a hR (Or.inl ⟨_, rfl⟩) dJ8_get_14 (Nat.zero_le _) (Nat.zero_le _) ⟨rfl, rfl⟩
set_option maxHeartbeats 2000000 in
theorem cp_J4_size (D : DD) (l : Launch) {H0 : Heap} {K : Nat → Prop} (a x : Nat) (h : l1K K D a x H0) : Cp D l yJ4_size cJ4_size 1 (some .int) 0 0 [.ref a] H0 (some (.int 1)) := by
  refine Cp.of (by decide) (Nat.le_of_ble_eq_true rfl) (fun s A J hJ hR => ?_)
  show J H0 0 0 0 [] [(0, .ref a)]
  refine r_aload_n 1 0 (hJ.pu _ _ _) dJ4_size_0 rfl rfl ?_
  refine j_getf 4 hJ (T := TJ4) (C := RJ4) 1 (v := .ref (D.2.2.1 0)) okJ4 (h.fld 1 rfl) rfl (by decide) (Or.inl q234) (Or.inl rfl) dJ4_size_1 rfl ?_
  refine j_gets 7 hJ (i := 0) (List.mem_of_getElem? (i := 0) rfl) (Or.inr ⟨_, nw_q231⟩) dJ4_size_4 rfl ?_
  refine r_acmp_eq 10 14 (rx := (some (D.2.2.1 0))) (ry := (some (D.2.2.1 0))) (hJ.pu _ _ _) dJ4_size_7 (by decide) (fun c7 => ?_) rfl (fun c7 => absurd c7 (by simp [*]))
  refine r_iconst 15 1 (hJ.pu _ _ _) dJ4_size_14 (by decide) rfl ?_
  exact Rt.i hR rfl dJ4_size_15 (Nat.zero_le _) (Nat.zero_le _) ⟨rfl, rfl⟩
set_option maxHeartbeats 2000000 in
theorem cp_J4_get (D : DD) (l : Launch) {H0 : Heap} {K : Nat → Prop} (a x : Nat) (h : l1K K D a x H0) : Cp D l yJ4_get cJ4_get 2 (Option.some (ClassFile.FieldType.object "java/lang/Object")) 0 0 [.ref a, .int 0] H0 (some (.ref x)) := by
  refine Cp.of (by decide) (Nat.le_of_ble_eq_true rfl) (fun s A J hJ hR => ?_)
  show J H0 0 0 0 [] [(0, .ref a), (1, .int 0)]
  refine r_iload_n 1 1 (hJ.pu _ _ _) dJ4_get_0 rfl rfl ?_
  refine r_if_ne 4 9 (hJ.pu _ _ _) dJ4_get_1 (by decide) (fun c => absurd (by decide) c) rfl (fun _ => ?_)
  refine r_aload_n 5 0 (hJ.pu _ _ _) dJ4_get_4 rfl rfl ?_
  refine j_getf 8 hJ (T := TJ4) (C := RJ4) 0 (v := .ref x) okJ4 (h.fld 0 rfl) rfl (by decide) (Or.inl q233) (Or.inl rfl) dJ4_get_5 rfl ?_
  exact Rt.a hR (Or.inl ⟨_, rfl⟩) dJ4_get_8 (Nat.zero_le _) (Nat.zero_le _) ⟨rfl, rfl⟩
set_option maxHeartbeats 2000000 in
theorem cp_J10_size (D : DD) (l : Launch) {H0 : Heap} {K : Nat → Prop} (a n : Nat) (nd f : Nat → Nat) (h : llsK K D a n nd f H0) : Cp D l yJ10_size cJ10_size 1 (some .int) 0 0 [.ref a] H0 (some (.int (nI n))) := by
  refine Cp.of (by decide) (Nat.le_of_ble_eq_true rfl) (fun s A J hJ hR => ?_)
  show J H0 0 0 0 [] [(0, .ref a)]
  refine r_aload_n 1 0 (hJ.pu _ _ _) dJ10_size_0 rfl rfl ?_
  refine j_getf 4 hJ (T := TJ10) (C := RJ10) 1 (v := .int (nI n)) okJ10 h.sz rfl (by decide) (Or.inl q292) (Or.inl rfl) dJ10_size_1 rfl ?_
  exact Rt.i hR rfl dJ10_size_4 (Nat.zero_le _) (Nat.zero_le _) ⟨rfl, rfl⟩
set_option maxHeartbeats 2000000 in
theorem cp_J10_isElementIndex (D : DD) (l : Launch) {H0 : Heap} (a n i : Nat) (h : fld D 13 a 1 (.int (nI n)) H0) (hi : i < n) (hn : n ≤ 6) : Cp D l yJ10_isElementIndex cJ10_isElementIndex 2 (some .boolean) 0 0 [.ref a, .int (nI i)] H0 (some (.int 1)) := by
  refine Cp.of (by decide) (Nat.le_of_ble_eq_true rfl) (fun s A J hJ hR => ?_)
  show J H0 0 0 0 [] [(0, .ref a), (1, .int (nI i))]
  refine r_iload_n 1 1 (hJ.pu _ _ _) dJ10_isElementIndex_0 rfl rfl ?_
  refine r_if_ltN i 4 16 (hJ.pu _ _ _) dJ10_isElementIndex_1 (by omega) (by decide) rfl ?_
  refine r_iload_n 5 1 (hJ.pu _ _ _) dJ10_isElementIndex_4 rfl rfl ?_
  refine r_aload_n 6 0 (hJ.pu _ _ _) dJ10_isElementIndex_5 rfl rfl ?_
  refine j_getf 9 hJ (T := TJ10) (C := RJ10) 1 (v := .int (nI n)) okJ10 h rfl (by decide) (Or.inl q292) (Or.inl rfl) dJ10_isElementIndex_6 rfl ?_
  refine r_icmp_geN i n 12 16 (hJ.pu _ _ _) dJ10_isElementIndex_9 (by omega) (by omega) (by decide) (fun c9 => absurd c9 (by omega)) rfl (fun c9 => ?_)
  refine r_iconst 13 1 (hJ.pu _ _ _) dJ10_isElementIndex_12 (by decide) rfl ?_
  refine r_goto 17 (hJ.pu _ _ _) dJ10_isElementIndex_13 (by decide) ?_
  exact Rt.i hR rfl dJ10_isElementIndex_17 (Nat.zero_le _) (Nat.zero_le _) ⟨rfl, rfl⟩
theorem lk_J10_115 : GoodIn lw_all (wsV RJ10 115 yJ10_isElementIndex.cls yJ10_isElementIndex (ws_ yJ10_isElementIndex cJ10_isElementIndex 2 (some .boolean))) := lw_V q1408 q1410 qs17 q116 q1411
theorem yk_J10_isElementIndex : yOk yJ10_isElementIndex 1 := by decide +kernel
set_option maxHeartbeats 2000000 in
theorem cp_J10_checkElementIndex (D : DD) (l : Launch) {H0 : Heap} (a n i : Nat) (h : fld D 13 a 1 (.int (nI n)) H0) (hi : i < n) (hn : n ≤ 6) : Cp D l yJ10_checkElementIndex cJ10_checkElementIndex 2 none 1 21 [.ref a, .int (nI i)] H0 none := by
  refine Cp.of (by decide) (Nat.le_of_ble_eq_true rfl) (fun s A J hJ hR => ?_)
  show J H0 0 0 0 [] [(0, .ref a), (1, .int (nI i))]
  refine r_aload_n 1 0 (hJ.pu _ _ _) dJ10_checkElementIndex_0 rfl rfl ?_
  refine r_iload_n 2 1 (hJ.pu _ _ _) dJ10_checkElementIndex_1 rfl rfl ?_
  refine j_callp 5 hJ (cp_J10_isElementIndex D l a n i h (by omega) (by omega)) lk_J10_115 1 yk_J10_isElementIndex rfl ⟨by decide, by decide⟩ h rfl rfl (Nat.le_of_ble_eq_true rfl) dJ10_checkElementIndex_2 ⟨Nat.zero_le _, Nat.zero_le _⟩ rfl ?_
  refine r_if_ne 8 21 (hJ.pu _ _ _) dJ10_checkElementIndex_5 (by decide) (fun _ => ?_) rfl (fun c => absurd c (by decide))
  exact Rt.v hR dJ10_checkElementIndex_21 (Nat.zero_le _) (Nat.zero_le _) ⟨rfl, rfl⟩
set_option maxHeartbeats 2000000 in
theorem cp_J10_node (D : DD) (l : Launch) {H0 : Heap} {K : Nat → Prop} (a n i : Nat) (nd f : Nat → Nat) (h : llsK K D a n nd f H0) (hi : i < n) (hn : n ≤ 6) : Cp D l yJ10_node cJ10_node 4 (Option.some (ClassFile.FieldType.object "java/util/LinkedList$Node")) 0 0 [.ref a, .int (nI i)] H0 (some (.ref (nd i))) := by
  refine Cp.of (by decide) (Nat.le_of_ble_eq_true rfl) (fun s A J hJ hR => ?_)
  show J H0 0 0 0 [] [(0, .ref a), (1, .int (nI i))]
  refine r_iload_n 1 1 (hJ.pu _ _ _) dJ10_node_0 rfl rfl ?_
  refine r_aload_n 2 0 (hJ.pu _ _ _) dJ10_node_1 rfl rfl ?_
  refine j_getf 5 hJ (T := TJ10) (C := RJ10) 1 (v := .int (nI n)) okJ10 h.sz rfl (by decide) (Or.inl q292) (Or.inl rfl) dJ10_node_2 rfl ?_
  refine r_iconst 6 1 (hJ.pu _ _ _) dJ10_node_5 (by decide) rfl ?_
  refine r_ishr 7 (hJ.pu _ _ _) dJ10_node_6 rfl ?_
  refine r_eqi (nI (n / 2)) (nI_half hn) ?_
  refine r_icmp_geN i (n / 2) 10 35 (hJ.pu _ _ _) dJ10_node_7 (by omega) (by omega) (by decide) (fun c7 => ?_) rfl (fun c7 => ?_)
  · refine r_aload_n 36 0 (hJ.pu _ _ _) dJ10_node_35 rfl rfl ?_
    refine j_getf 39 hJ (T := TJ10) (C := RJ10) 3 (v := .ref (nd (n - 1))) okJ10 (h.last (by omega)) rfl (by decide) (Or.inl q295) (Or.inl rfl) dJ10_node_36 rfl ?_
    refine r_astore_n 40 [(2, .ref (nd (n - 1))), (0, .ref a), (1, .int (nI i))] (hJ.pu _ _ _) dJ10_node_39 rfl (by decide) rfl rfl ?_
    refine r_aload_n 41 1 (hJ.pu _ _ _) dJ10_node_40 rfl rfl ?_
    refine j_getf 44 hJ (T := TJ10) (C := RJ10) 1 (v := .int (nI n)) okJ10 h.sz rfl (by decide) (Or.inl q292) (Or.inl rfl) dJ10_node_41 rfl ?_
    refine r_iconst 45 1 (hJ.pu _ _ _) dJ10_node_44 (by decide) rfl ?_
    refine r_isubN n 1 (n - 1) 46 (hJ.pu _ _ _) dJ10_node_45 (by omega) (by omega) rfl ?_
    refine r_istore_n 47 [(3, .int (nI (n - 1))), (2, .ref (nd (n - 1))), (0, .ref a), (1, .int (nI i))] (hJ.pu _ _ _) dJ10_node_46 rfl (by decide) rfl rfl ?_
    have lp_47 : ∀ (m : Nat) (j : Nat), (i ≤ j) → (j < n) → j < m → J H0 0 0 47 [] [(3, .int (nI j)), (2, .ref (nd j)), (0, .ref a), (1, .int (nI i))] := by
      intro m
      induction m with
      | zero => intro j hj hjn hm; exact absurd hm (Nat.not_lt_zero _)
      | succ m ih =>
        intro j hj hjn hm
        refine r_iload_n 48 0 (hJ.pu _ _ _) dJ10_node_47 rfl rfl ?_
        refine r_iload_n 49 3 (hJ.pu _ _ _) dJ10_node_48 rfl rfl ?_
        refine r_icmp_leN j i 52 63 (hJ.pu _ _ _) dJ10_node_49 (by omega) (by omega) (by decide) (fun c49 => ?_) rfl (fun c49 => ?_)
        · have hji : j = i := by omega
          subst hji
          refine r_aload_n 64 1 (hJ.pu _ _ _) dJ10_node_63 rfl rfl ?_
          exact Rt.a hR (Or.inl ⟨_, rfl⟩) dJ10_node_64 (Nat.zero_le _) (Nat.zero_le _) ⟨rfl, rfl⟩
        · refine r_aload_n 53 1 (hJ.pu _ _ _) dJ10_node_52 rfl rfl ?_
          refine j_getf 56 hJ (T := TJ39) (C := RJ39) 2 (v := .ref (nd (j - 1))) okJ39 (h.prev (by omega) (by omega)) rfl (by decide) (Or.inl q1736) (Or.inl rfl) dJ10_node_53 rfl ?_
          refine r_astore_n 57 [(2, .ref (nd (j - 1))), (3, .int (nI j)), (0, .ref a), (1, .int (nI i))] (hJ.pu _ _ _) dJ10_node_56 rfl (by decide) rfl rfl ?_
          refine r_iinc 60 (nI (j - 1)) 1 [(3, .int (nI (j - 1))), (2, .ref (nd (j - 1))), (0, .ref a), (1, .int (nI i))] (hJ.pu _ _ _) dJ10_node_57 rfl (nI_dec (by omega)) (by decide) rfl rfl ?_
          refine r_goto 47 (hJ.pu _ _ _) dJ10_node_60 (by decide) ?_
          exact ih (j - 1) (by omega) (by omega) (by omega)
    exact lp_47 (n + 1) (n - 1) (by omega) (by omega) (by omega)
  · refine r_aload_n 11 0 (hJ.pu _ _ _) dJ10_node_10 rfl rfl ?_
    refine j_getf 14 hJ (T := TJ10) (C := RJ10) 2 (v := .ref (nd 0)) okJ10 (h.first (by omega)) rfl (by decide) (Or.inl q294) (Or.inl rfl) dJ10_node_11 rfl ?_
    refine r_astore_n 15 [(2, .ref (nd 0)), (0, .ref a), (1, .int (nI i))] (hJ.pu _ _ _) dJ10_node_14 rfl (by decide) rfl rfl ?_
    refine r_iconst 16 0 (hJ.pu _ _ _) dJ10_node_15 (by decide) rfl ?_
    refine r_istore_n 17 [(3, .int 0), (2, .ref (nd 0)), (0, .ref a), (1, .int (nI i))] (hJ.pu _ _ _) dJ10_node_16 rfl (by decide) rfl rfl ?_
    have lp_17 : ∀ (m : Nat) (j : Nat), (j ≤ i) → (i - j) < m → J H0 0 0 17 [] [(3, .int (nI j)), (2, .ref (nd j)), (0, .ref a), (1, .int (nI i))] := by
      intro m
      induction m with
      | zero => intro j hj hm; exact absurd hm (Nat.not_lt_zero _)
      | succ m ih =>
        intro j hj hm
        refine r_iload_n 18 0 (hJ.pu _ _ _) dJ10_node_17 rfl rfl ?_
        refine r_iload_n 19 3 (hJ.pu _ _ _) dJ10_node_18 rfl rfl ?_
        refine r_icmp_geN j i 22 33 (hJ.pu _ _ _) dJ10_node_19 (by omega) (by omega) (by decide) (fun c19 => ?_) rfl (fun c19 => ?_)
        · have hji : j = i := by omega
          subst hji
          refine r_aload_n 34 1 (hJ.pu _ _ _) dJ10_node_33 rfl rfl ?_
          exact Rt.a hR (Or.inl ⟨_, rfl⟩) dJ10_node_34 (Nat.zero_le _) (Nat.zero_le _) ⟨rfl, rfl⟩
        · refine r_aload_n 23 1 (hJ.pu _ _ _) dJ10_node_22 rfl rfl ?_
          refine j_getf 26 hJ (T := TJ39) (C := RJ39) 1 (v := .ref (nd (j + 1))) okJ39 (h.next (by omega)) rfl (by decide) (Or.inl q1734) (Or.inl rfl) dJ10_node_23 rfl ?_
          refine r_astore_n 27 [(2, .ref (nd (j + 1))), (3, .int (nI j)), (0, .ref a), (1, .int (nI i))] (hJ.pu _ _ _) dJ10_node_26 rfl (by decide) rfl rfl ?_
          refine r_iinc 30 (nI (j + 1)) 1 [(3, .int (nI (j + 1))), (2, .ref (nd (j + 1))), (0, .ref a), (1, .int (nI i))] (hJ.pu _ _ _) dJ10_node_27 rfl (nI_1 j) (by decide) rfl rfl ?_
          refine r_goto 17 (hJ.pu _ _ _) dJ10_node_30 (by decide) ?_
          exact ih (j + 1) (by omega) (by omega)
    exact lp_17 (i + 1) 0 (by omega) (by omega)
theorem lk_J10_90 : GoodIn lw_all (wsV RJ10 90 yJ10_checkElementIndex.cls yJ10_checkElementIndex (ws_ yJ10_checkElementIndex cJ10_checkElementIndex 2 none)) := lw_V q1404 q1406 qs16 q116 q1407
theorem yk_J10_checkElementIndex : yOk yJ10_checkElementIndex 1 := by decide +kernel
theorem lk_J10_86 : GoodIn lw_all (wsV RJ10 86 yJ10_node.cls yJ10_node (ws_ yJ10_node cJ10_node 4 (Option.some (ClassFile.FieldType.object "java/util/LinkedList$Node")))) := lw_V q1412 q1127 q1128 q116 q1129
theorem yk_J10_node : yOk yJ10_node 1 := by decide +kernel
set_option maxHeartbeats 2000000 in
theorem cp_J10_get (D : DD) (l : Launch) {H0 : Heap} {K : Nat → Prop} (a n i : Nat) (nd f : Nat → Nat) (h : llsK K D a n nd f H0) (hi : i < n) (hn : n ≤ 6) : Cp D l yJ10_get cJ10_get 2 (Option.some (ClassFile.FieldType.object "java/lang/Object")) 2 42 [.ref a, .int (nI i)] H0 (some (.ref (f i))) := by
  refine Cp.of (by decide) (Nat.le_of_ble_eq_true rfl) (fun s A J hJ hR => ?_)
  show J H0 0 0 0 [] [(0, .ref a), (1, .int (nI i))]
  refine r_aload_n 1 0 (hJ.pu _ _ _) dJ10_get_0 rfl rfl ?_
  refine r_iload_n 2 1 (hJ.pu _ _ _) dJ10_get_1 rfl rfl ?_
  refine j_callp 5 hJ (cp_J10_checkElementIndex D l a n i h.sz (by omega) (by omega)) lk_J10_90 1 yk_J10_checkElementIndex rfl ⟨by decide, by decide⟩ h.sz rfl rfl (Nat.le_of_ble_eq_true rfl) dJ10_get_2 ⟨Nat.zero_le _, Nat.zero_le _⟩ rfl ?_
  refine r_aload_n 6 0 (hJ.pu _ _ _) dJ10_get_5 rfl rfl ?_
  refine r_iload_n 7 1 (hJ.pu _ _ _) dJ10_get_6 rfl rfl ?_
  refine j_callp 10 hJ (cp_J10_node D l a n i nd f h hi hn) lk_J10_86 1 yk_J10_node rfl ⟨by decide, by decide⟩ h.sz rfl rfl (Nat.le_of_ble_eq_true rfl) dJ10_get_7 ⟨Nat.zero_le _, Nat.zero_le _⟩ rfl ?_
  refine j_getf 13 hJ (T := TJ39) (C := RJ39) 0 (v := .ref (f i)) okJ39 (h.item hi) rfl (by decide) (Or.inl q1731) (Or.inl rfl) dJ10_get_10 rfl ?_
  exact Rt.a hR (Or.inl ⟨_, rfl⟩) dJ10_get_13 (Nat.zero_le _) (Nat.zero_le _) ⟨rfl, rfl⟩
