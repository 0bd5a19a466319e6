section STR
variable {D : DD} {l : Launch} {s : State} {own : String} {args : Array Value} {cc : ByteArray} {nL : Nat} {R : Room} {nm : String} {A : Nat → Prop} {H0 : Heap} {J : Heap → Nat → Nat → Nat → List Value → List (Nat × Value) → Prop} {H : Heap} {KS : Nat → Prop} {Hb : Heap} {F : FJ} {k n pc index : Nat} {ws im : va_W} {st rest : List Value} {lv : List (Nat × Value)}
theorem KK.strs (h : KK D s) : va_O "java/lang/String" (D.2.2.1 4) (fun a => D.2.2.2.size ≤ a) s D.2.2.2 ∧ va_OF "java/lang/String" "coder" "B" (.int 0) (D.2.2.1 4) (fun a => D.2.2.2.size ≤ a) s D.2.2.2 ∧ va_OF "java/lang/String" "value" "[B" (.ref (D.2.2.1 5)) (D.2.2.1 4) (fun a => D.2.2.2.size ≤ a) s D.2.2.2 ∧ va_T .byte (D.2.2.1 5) 3 (fun j => .int (([110, 114, 107] : List Int32).getD j 0)) (fun a => D.2.2.2.size ≤ a) s D.2.2.2 := h.2.2.2.2.2.2.2.2.2.2.1
theorem j_sget (q : Nat) (hJ : Jx D l s own args cc nL R nm A H0 J) {nn dd : String} {v : Value} {a : Nat} (hE : ∀ s, KK D s → va_OF "java/lang/String" nn dd v a (fun a => D.2.2.2.size ≤ a) s D.2.2.2) (hlk : Cond.fieldLink own index "java/lang/String" nn dd ∈ lw_all) (d : decode cc pc = .ok (.getfield index, 3)) (e : pc + 3 = q) (kk : J H k n q (v :: st) lv) : J H k n pc (.ref a :: st) lv := by
  subst e
  refine hJ.go fun ls locs hx hb hml hown hts hnm hK hA hOK hl hS ret => ?_
  obtain ⟨cf, kf, fi, f, cell, h1, h2, h3, h4, h5, h6⟩ := hE s hK
  exact W.getf hx hb hown (hts _ hlk) h1 h2 (by rw [hOK.2 a (Array.getElem?_eq_some_iff.mp h3).1]; exact h3) h4 (v := v) h5 rfl rfl d (ret _ _ _ _ _ _ kk ls locs hl hS)
theorem j_slen (q : Nat) (hJ : Jx D l s own args cc nL R nm A H0 J) (d : decode cc pc = .ok (.arraylength, 1)) (e : pc + 1 = q) (kk : J H k n q (.int (nI 3) :: st) lv) : J H k n pc (.ref (D.2.2.1 5) :: st) lv := by
  subst e
  refine hJ.go fun ls locs hx hb hml hown hts hnm hK hA hOK hl hS ret => ?_
  obtain ⟨cell, h1, h2, h3, h4, h5, h6, h7⟩ := hK.strs.2.2.2
  exact W.alen (n := Int32.ofNat 3) hx hb (by rw [hOK.2 _ (Array.getElem?_eq_some_iff.mp h1).1]; exact h1) h2 h5 rfl rfl d (ret _ _ _ _ _ _ kk ls locs hl hS)
theorem j_sbyt (q : Nat) (hJ : Jx D l s own args cc nL R nm A H0 J) (j : Nat) (hj : j < 3) {v : Int32} (hv : ([110, 114, 107] : List Int32).getD j 0 = v) (d : decode cc pc = .ok (.baload, 1)) (e : pc + 1 = q) (kk : J H k n q (.int v :: st) lv) : J H k n pc (.int (nI j) :: .ref (D.2.2.1 5) :: st) lv := by
  subst e
  refine hJ.go fun ls locs hx hb hml hown hts hnm hK hA hOK hl hS ret => ?_
  obtain ⟨cell, h1, h2, h3, h4, h5, h6, h7⟩ := hK.strs.2.2.2
  have hc := nI_clamp (n := j) (by omega)
  have hin : ¬ (nI j < 0 ∨ cell.slots.size ≤ (nI j).toNatClampNeg) := by
    rintro (q | q)
    · exact nI_pos (by omega) q
    · rw [hc] at q; omega
  exact W.bald (v := .int v) hx hb (by rw [hOK.2 _ (Array.getElem?_eq_some_iff.mp h1).1]; exact h1) h2 h3 hin (by rw [hc, h6 _ hj, ← hv]) rfl rfl d (ret _ _ _ _ _ _ kk ls locs hl hS)
variable {y : MethodName} {b : ByteArray} {L f lo : Nat} {ret : Option FieldType} {As : List Value}
/-- a call on the string -/
theorem j_scall (q : Nat) (hJ : Jx D l s own args cc nL R nm A H0 J) {v : Option Value} (hc : Cp D l y b L ret f lo (.ref (D.2.2.1 4) :: As) H v) (hcls : y.cls = "java/lang/String") (hw : GoodIn lw_all (wsV own index y.cls y (ws_ y b L ret))) (na : Nat) (hy : yOk y na) (hna : As.length = na) (hR : f + 1 ≤ R.frames ∧ 8 + (L + 11) + lo ≤ R.locals) (hst : st = As.reverse ++ .ref (D.2.2.1 4) :: rest) (hrest : (rest.map fun v => v.category).sum ≤ 8) (d : decode cc pc = .ok (.invokevirtual index, 3)) (hf : k ≤ R.cells ∧ n ≤ R.slots) (e : pc + 3 = q) (kk : J H k n q (v.toList ++ rest) lv) : J H k n pc st lv := by
  subst e; subst hst
  have hAs := hJ.as
  refine hJ.go fun ls locs hx hb hml hown hts hnm hK hA hOK hl hS ret' => ?_
  have hA2 : ∀ q, H.size ≤ q → A q := fun q h => hA q (Nat.le_trans hS.1 h)
  obtain ⟨cell, c1, c2, c3, c4⟩ := hK.strs.1
  have hrec : ∃ cell : Cell, H[D.2.2.1 4]? = some cell ∧ cell.vm.isStatics = false ∧ s.vm.findClass y.cls = some cell.cls := ⟨cell, by rw [hOK.2 _ (Array.getElem?_eq_some_iff.mp c1).1]; exact c1, c2, by rw [hcls]; exact c3⟩
  exact j_run (mc := 0) (ms := 0) (va_runV (As := As) (rest := rest) ⟨hx, hb, hml, hown, hts⟩ (hc hOK (fun q h => hAs q (hA2 q h))) (cwV na hts hw rfl rfl rfl ⟨rfl, hy⟩ hR) ⟨cP_blind, hrec, fun U hU hW => ⟨rfl, hU, hK.warm hW⟩⟩ rfl hna hl.1 rfl (lv_room hrest) d hf) hS (fun q _ h => hA2 q h) hA2 (fun r H1 locs1 hp hfr hS1 => by
    obtain ⟨rfl, rfl⟩ := hp
    exact ret' _ _ _ _ _ _ kk ls locs1 hl hS1)
theorem f_scall (q : Nat) (hF : Fx D l s own args cc nL R nm KS Hb F) {v : Option Value} (hc : ∀ H, Cp D l y b L ret f lo (.ref (D.2.2.1 4) :: As) H v) (hcls : y.cls = "java/lang/String") (hw : GoodIn lw_all (wsV own index y.cls y (ws_ y b L ret))) (na : Nat) (hy : yOk y na) (hna : As.length = na) (hR : f + 1 ≤ R.frames ∧ 8 + (L + 11) + lo ≤ R.locals) (hst : st = As.reverse ++ .ref (D.2.2.1 4) :: rest) (hrest : (rest.map fun v => v.category).sum ≤ 8) (d : decode cc pc = .ok (.invokevirtual index, 3)) (hf : k ≤ R.cells ∧ n ≤ R.slots) (e : pc + 3 = q) (kk : F k n ws im q (v.toList ++ rest) lv) : F k n ws im pc st lv := by
  obtain ⟨A, B, H0, J, hJ, hB, hAK, hAB, hBB, rfl⟩ := hF
  intro H hH
  exact j_scall q hJ (hc H) hcls hw na hy hna hR hst hrest d hf e (kk H hH)
theorem f_sldc (q : Nat) (hF : Fx D l s own args cc nL R nm KS Hb F) (hown : own = "TaxWorkbench$Reader") (hidx : index = 135) (d : decode cc pc = .ok (.ldc index, 2)) (e : pc + 2 = q) (kk : F k n ws im q (.ref (D.2.2.1 4) :: st) lv) : F k n ws im pc st lv := by
  subst e; subst hown; subst hidx
  obtain ⟨A, B, H0, J, hJ, hB, hAK, hAB, hBB, rfl⟩ := hF
  intro H hH
  refine hJ.go fun ls locs hx hb hml hown hts hnm hK hA hOK hl hS ret => ?_
  exact va_ldcS hx hb hown hK.2.2.2.2.2.2.2.2.2.1 d (ret _ _ _ _ _ _ (kk H hH) ls locs hl hS)
end STR
def nrkV (j : Nat) : Int32 := if j = 110 then 0 else if j = 114 then 1 else if j = 107 then 2 else -1
theorem b2_ok {j : Nat} (h : j < 127) : (nI j).toInt8.toInt32 = nI j := (show ∀ j, j < 127 → (nI j).toInt8.toInt32 = nI j by decide +kernel) j h
set_option maxHeartbeats 2000000 in
theorem cp_J23_coder (D : DD) (l : Launch) {H0 : Heap}  : Cp D l yJ23_coder cJ23_coder 1 (Option.some ClassFile.FieldType.byte) 0 0 [.ref (D.2.2.1 4)] H0 (some (.int 0)) := by
  refine Cp.of (by decide) (Nat.le_of_ble_eq_true rfl) (fun s A J hJ hR => ?_)
  show J H0 0 0 0 [] [(0, .ref (D.2.2.1 4))]
  refine j_geti 3 hJ (v := 1) (List.mem_of_getElem? (i := 2) rfl) (Or.inl q834) dJ23_coder_0 rfl ?_
  refine r_if_eq 6 13 (hJ.pu _ _ _) dJ23_coder_3 (by decide) (fun c => absurd c (by decide)) rfl (fun _ => ?_)
  refine r_aload_n 7 0 (hJ.pu _ _ _) dJ23_coder_6 rfl rfl ?_
  refine j_sget 10 hJ (v := .int 0) (fun _ h => h.strs.2.1) q985 dJ23_coder_7 rfl ?_
  refine r_goto 14 (hJ.pu _ _ _) dJ23_coder_10 (by decide) ?_
  exact Rt.i hR rfl dJ23_coder_14 (Nat.zero_le _) (Nat.zero_le _) ⟨rfl, rfl⟩
theorem lk_J23_335 : GoodIn lw_all (wsV RJ23 335 yJ23_coder.cls yJ23_coder (ws_ yJ23_coder cJ23_coder 1 (Option.some ClassFile.FieldType.byte))) := lw_V q830 q831 q832 q135 q833
theorem yk_J23_coder : yOk yJ23_coder 0 := by decide +kernel
set_option maxHeartbeats 2000000 in
theorem cp_J23_length (D : DD) (l : Launch) {H0 : Heap}  : Cp D l yJ23_length cJ23_length 1 (some .int) 1 20 [.ref (D.2.2.1 4)] H0 (some (.int (nI 3))) := by
  refine Cp.of (by decide) (Nat.le_of_ble_eq_true rfl) (fun s A J hJ hR => ?_)
  show J H0 0 0 0 [] [(0, .ref (D.2.2.1 4))]
  refine r_aload_n 1 0 (hJ.pu _ _ _) dJ23_length_0 rfl rfl ?_
  refine j_sget 4 hJ (v := .ref (D.2.2.1 5)) (fun _ h => h.strs.2.2.1) q984 dJ23_length_1 rfl ?_
  refine j_slen 5 hJ dJ23_length_4 rfl ?_
  refine r_aload_n 6 0 (hJ.pu _ _ _) dJ23_length_5 rfl rfl ?_
  refine j_scall 9 hJ (cp_J23_coder D l ) rfl lk_J23_335 0 yk_J23_coder rfl ⟨by decide, by decide⟩ rfl (Nat.le_of_ble_eq_true rfl) dJ23_length_6 ⟨Nat.zero_le _, Nat.zero_le _⟩ rfl ?_
  refine r_ishr 10 (hJ.pu _ _ _) dJ23_length_9 rfl ?_
  refine r_eqi 3 (by decide) ?_
  exact Rt.i hR rfl dJ23_length_10 (Nat.zero_le _) (Nat.zero_le _) ⟨rfl, rfl⟩
set_option maxHeartbeats 2000000 in
theorem cp_J23_isLatin1 (D : DD) (l : Launch) {H0 : Heap}  : Cp D l yJ23_isLatin1 cJ23_isLatin1 1 (some .boolean) 0 0 [.ref (D.2.2.1 4)] H0 (some (.int 1)) := by
  refine Cp.of (by decide) (Nat.le_of_ble_eq_true rfl) (fun s A J hJ hR => ?_)
  show J H0 0 0 0 [] [(0, .ref (D.2.2.1 4))]
  refine j_geti 3 hJ (v := 1) (List.mem_of_getElem? (i := 2) rfl) (Or.inl q834) dJ23_isLatin1_0 rfl ?_
  refine r_if_eq 6 17 (hJ.pu _ _ _) dJ23_isLatin1_3 (by decide) (fun c => absurd c (by decide)) rfl (fun _ => ?_)
  refine r_aload_n 7 0 (hJ.pu _ _ _) dJ23_isLatin1_6 rfl rfl ?_
  refine j_sget 10 hJ (v := .int 0) (fun _ h => h.strs.2.1) q985 dJ23_isLatin1_7 rfl ?_
  refine r_if_ne 13 17 (hJ.pu _ _ _) dJ23_isLatin1_10 (by decide) (fun c => absurd (by decide) c) rfl (fun _ => ?_)
  refine r_iconst 14 1 (hJ.pu _ _ _) dJ23_isLatin1_13 (by decide) rfl ?_
  refine r_goto 18 (hJ.pu _ _ _) dJ23_isLatin1_14 (by decide) ?_
  exact Rt.i hR rfl dJ23_isLatin1_18 (Nat.zero_le _) (Nat.zero_le _) ⟨rfl, rfl⟩
set_option maxHeartbeats 2000000 in
theorem ts_J26_canEncode (D : DD) (l : Launch) (j : Nat) (hj : j < 127)  : Cs D l yJ26_canEncode cJ26_canEncode 1 (some .boolean) 0 0 [.int (nI j)] (.int 1) := by
  refine Cs.of (by decide) (Nat.le_of_ble_eq_true rfl) (fun s H0 A J hJ hR => ?_)
  have hp := hJ.pu H0 0 0
  show J H0 0 0 0 [] [(0, .int (nI j))]
  refine r_iload_n 1 0 hp dJ26_canEncode_0 rfl rfl ?_
  refine r_if_ltN j 4 15 hp dJ26_canEncode_1 (by omega) (by decide) rfl ?_
  refine r_iload_n 5 0 hp dJ26_canEncode_4 rfl rfl ?_
  refine r_sipush 8 255 hp dJ26_canEncode_5 (by decide) rfl ?_
  refine r_icmp_gtN j 255 11 15 hp dJ26_canEncode_8 (by omega) (by omega) (by decide) (fun c8 => absurd c8 (by omega)) rfl (fun c8 => ?_)
  refine r_iconst 12 1 hp dJ26_canEncode_11 (by decide) rfl ?_
  refine r_goto 16 hp dJ26_canEncode_12 (by decide) ?_
  exact hR.1 16 _ _ _ rfl rfl dJ26_canEncode_16 rfl
set_option maxHeartbeats 2000000 in
theorem cp_J26_indexOfChar (D : DD) (l : Launch) {H0 : Heap} (j : Nat) (hj : j < 127) : Cp D l yJ26_indexOfChar cJ26_indexOfChar 6 (some .int) 0 0 [.ref (D.2.2.1 5), .int (nI j), .int (nI 0), .int (nI 3)] H0 (some (.int (nrkV j))) := by
  refine Cp.of (by decide) (Nat.le_of_ble_eq_true rfl) (fun s A J hJ hR => ?_)
  show J H0 0 0 0 [] [(0, .ref (D.2.2.1 5)), (1, .int (nI j)), (2, .int (nI 0)), (3, .int (nI 3))]
  refine r_iload_n 1 1 (hJ.pu _ _ _) dJ26_indexOfChar_0 rfl rfl ?_
  refine r_i2b 2 (hJ.pu _ _ _) dJ26_indexOfChar_1 rfl ?_
  refine r_eqi (nI j) (b2_ok hj) ?_
  refine r_istore 4 [(4, .int (nI j)), (0, .ref (D.2.2.1 5)), (1, .int (nI j)), (2, .int (nI 0)), (3, .int (nI 3))] (hJ.pu _ _ _) dJ26_indexOfChar_2 (by decide) rfl rfl ?_
  refine r_iload_n 5 3 (hJ.pu _ _ _) dJ26_indexOfChar_4 rfl rfl ?_
  refine r_istore 7 [(5, .int (nI 0)), (4, .int (nI j)), (0, .ref (D.2.2.1 5)), (1, .int (nI j)), (2, .int (nI 0)), (3, .int (nI 3))] (hJ.pu _ _ _) dJ26_indexOfChar_5 (by decide) rfl rfl ?_
  refine r_iload 9 0 (hJ.pu _ _ _) dJ26_indexOfChar_7 rfl rfl ?_
  refine r_iload_n 10 5 (hJ.pu _ _ _) dJ26_indexOfChar_9 rfl rfl ?_
  refine r_icmp_geN 0 3 13 31 (hJ.pu _ _ _) dJ26_indexOfChar_10 (by omega) (by omega) (by decide) (fun c10 => absurd c10 (by decide)) rfl (fun c10 => ?_)
  refine r_aload_n 14 2 (hJ.pu _ _ _) dJ26_indexOfChar_13 rfl rfl ?_
  refine r_iload 16 0 (hJ.pu _ _ _) dJ26_indexOfChar_14 rfl rfl ?_
  refine j_sbyt 17 hJ 0 (by decide) (v := nI 110) rfl dJ26_indexOfChar_16 rfl ?_
  refine r_iload 19 1 (hJ.pu _ _ _) dJ26_indexOfChar_17 rfl rfl ?_
  refine r_icmp_neN 110 j 22 25 (hJ.pu _ _ _) dJ26_indexOfChar_19 (by omega) (by omega) (by decide) (fun c19 => ?_) rfl (fun c19 => ?_)
  · refine r_iinc 28 (nI (0 + 1)) 0 [(5, .int (nI (0 + 1))), (4, .int (nI j)), (0, .ref (D.2.2.1 5)), (1, .int (nI j)), (2, .int (nI 0)), (3, .int (nI 3))] (hJ.pu _ _ _) dJ26_indexOfChar_25 rfl (nI_1 0) (by decide) rfl rfl ?_
    refine r_goto 7 (hJ.pu _ _ _) dJ26_indexOfChar_28 (by decide) ?_
    refine r_iload 9 0 (hJ.pu _ _ _) dJ26_indexOfChar_7 rfl rfl ?_
    refine r_iload_n 10 5 (hJ.pu _ _ _) dJ26_indexOfChar_9 rfl rfl ?_
    refine r_icmp_geN 1 3 13 31 (hJ.pu _ _ _) dJ26_indexOfChar_10 (by omega) (by omega) (by decide) (fun c10 => absurd c10 (by decide)) rfl (fun c10 => ?_)
    refine r_aload_n 14 2 (hJ.pu _ _ _) dJ26_indexOfChar_13 rfl rfl ?_
    refine r_iload 16 0 (hJ.pu _ _ _) dJ26_indexOfChar_14 rfl rfl ?_
    refine j_sbyt 17 hJ 1 (by decide) (v := nI 114) rfl dJ26_indexOfChar_16 rfl ?_
    refine r_iload 19 1 (hJ.pu _ _ _) dJ26_indexOfChar_17 rfl rfl ?_
    refine r_icmp_neN 114 j 22 25 (hJ.pu _ _ _) dJ26_indexOfChar_19 (by omega) (by omega) (by decide) (fun c19 => ?_) rfl (fun c19 => ?_)
    · refine r_iinc 28 (nI (1 + 1)) 0 [(5, .int (nI (1 + 1))), (4, .int (nI j)), (0, .ref (D.2.2.1 5)), (1, .int (nI j)), (2, .int (nI 0)), (3, .int (nI 3))] (hJ.pu _ _ _) dJ26_indexOfChar_25 rfl (nI_1 1) (by decide) rfl rfl ?_
      refine r_goto 7 (hJ.pu _ _ _) dJ26_indexOfChar_28 (by decide) ?_
      refine r_iload 9 0 (hJ.pu _ _ _) dJ26_indexOfChar_7 rfl rfl ?_
      refine r_iload_n 10 5 (hJ.pu _ _ _) dJ26_indexOfChar_9 rfl rfl ?_
      refine r_icmp_geN 2 3 13 31 (hJ.pu _ _ _) dJ26_indexOfChar_10 (by omega) (by omega) (by decide) (fun c10 => absurd c10 (by decide)) rfl (fun c10 => ?_)
      refine r_aload_n 14 2 (hJ.pu _ _ _) dJ26_indexOfChar_13 rfl rfl ?_
      refine r_iload 16 0 (hJ.pu _ _ _) dJ26_indexOfChar_14 rfl rfl ?_
      refine j_sbyt 17 hJ 2 (by decide) (v := nI 107) rfl dJ26_indexOfChar_16 rfl ?_
      refine r_iload 19 1 (hJ.pu _ _ _) dJ26_indexOfChar_17 rfl rfl ?_
      refine r_icmp_neN 107 j 22 25 (hJ.pu _ _ _) dJ26_indexOfChar_19 (by omega) (by omega) (by decide) (fun c19 => ?_) rfl (fun c19 => ?_)
      · refine r_iinc 28 (nI (2 + 1)) 0 [(5, .int (nI (2 + 1))), (4, .int (nI j)), (0, .ref (D.2.2.1 5)), (1, .int (nI j)), (2, .int (nI 0)), (3, .int (nI 3))] (hJ.pu _ _ _) dJ26_indexOfChar_25 rfl (nI_1 2) (by decide) rfl rfl ?_
        refine r_goto 7 (hJ.pu _ _ _) dJ26_indexOfChar_28 (by decide) ?_
        refine r_iload 9 0 (hJ.pu _ _ _) dJ26_indexOfChar_7 rfl rfl ?_
        refine r_iload_n 10 5 (hJ.pu _ _ _) dJ26_indexOfChar_9 rfl rfl ?_
        refine r_icmp_geN 3 3 13 31 (hJ.pu _ _ _) dJ26_indexOfChar_10 (by omega) (by omega) (by decide) (fun c10 => ?_) rfl (fun c10 => absurd c10 (by decide))
        refine r_iconst 32 (-1) (hJ.pu _ _ _) dJ26_indexOfChar_31 (by decide) rfl ?_
        exact Rt.i hR rfl dJ26_indexOfChar_32 (Nat.zero_le _) (Nat.zero_le _) ⟨(by unfold nrkV; first | (rw [if_pos (by omega)]; done) | (rw [if_pos (by omega)]; rfl) | (rw [if_neg (by omega), if_pos (by omega)]; done) | (rw [if_neg (by omega), if_pos (by omega)]; rfl) | (rw [if_neg (by omega), if_neg (by omega), if_pos (by omega)]; done) | (rw [if_neg (by omega), if_neg (by omega), if_pos (by omega)]; rfl) | (rw [if_neg (by omega), if_neg (by omega), if_neg (by omega)])), rfl⟩
      · refine r_iload 24 0 (hJ.pu _ _ _) dJ26_indexOfChar_22 rfl rfl ?_
        exact Rt.i hR rfl dJ26_indexOfChar_24 (Nat.zero_le _) (Nat.zero_le _) ⟨(by unfold nrkV; first | (rw [if_pos (by omega)]; done) | (rw [if_pos (by omega)]; rfl) | (rw [if_neg (by omega), if_pos (by omega)]; done) | (rw [if_neg (by omega), if_pos (by omega)]; rfl) | (rw [if_neg (by omega), if_neg (by omega), if_pos (by omega)]; done) | (rw [if_neg (by omega), if_neg (by omega), if_pos (by omega)]; rfl) | (rw [if_neg (by omega), if_neg (by omega), if_neg (by omega)])), rfl⟩
    · refine r_iload 24 0 (hJ.pu _ _ _) dJ26_indexOfChar_22 rfl rfl ?_
      exact Rt.i hR rfl dJ26_indexOfChar_24 (Nat.zero_le _) (Nat.zero_le _) ⟨(by unfold nrkV; first | (rw [if_pos (by omega)]; done) | (rw [if_pos (by omega)]; rfl) | (rw [if_neg (by omega), if_pos (by omega)]; done) | (rw [if_neg (by omega), if_pos (by omega)]; rfl) | (rw [if_neg (by omega), if_neg (by omega), if_pos (by omega)]; done) | (rw [if_neg (by omega), if_neg (by omega), if_pos (by omega)]; rfl) | (rw [if_neg (by omega), if_neg (by omega), if_neg (by omega)])), rfl⟩
  · refine r_iload 24 0 (hJ.pu _ _ _) dJ26_indexOfChar_22 rfl rfl ?_
    exact Rt.i hR rfl dJ26_indexOfChar_24 (Nat.zero_le _) (Nat.zero_le _) ⟨(by unfold nrkV; first | (rw [if_pos (by omega)]; done) | (rw [if_pos (by omega)]; rfl) | (rw [if_neg (by omega), if_pos (by omega)]; done) | (rw [if_neg (by omega), if_pos (by omega)]; rfl) | (rw [if_neg (by omega), if_neg (by omega), if_pos (by omega)]; done) | (rw [if_neg (by omega), if_neg (by omega), if_pos (by omega)]; rfl) | (rw [if_neg (by omega), if_neg (by omega), if_neg (by omega)])), rfl⟩
theorem lk_J26_88 : GoodIn lw_all (va_wsS RJ26 88 yJ26_canEncode (ws_ yJ26_canEncode cJ26_canEncode 1 (some .boolean))) := lw_S q2096 q2097 q138 q2098
theorem yk_J26_canEncode : yOk yJ26_canEncode 1 := by decide +kernel
theorem lk_J26_95 : GoodIn lw_all (va_wsS RJ26 95 yJ26_indexOfChar (ws_ yJ26_indexOfChar cJ26_indexOfChar 6 (some .int))) := lw_S q2101 q2102 q138 q2103
theorem yk_J26_indexOfChar : yOk yJ26_indexOfChar 4 := by decide +kernel
set_option maxHeartbeats 2000000 in
theorem cp_J26_indexOf (D : DD) (l : Launch) {H0 : Heap} (j : Nat) (hj : j < 127) : Cp D l yJ26_indexOf cJ26_indexOf 4 (some .int) 1 25 [.ref (D.2.2.1 5), .int (nI j), .int (nI 0), .int (nI 3)] H0 (some (.int (nrkV j))) := by
  refine Cp.of (by decide) (Nat.le_of_ble_eq_true rfl) (fun s A J hJ hR => ?_)
  show J H0 0 0 0 [] [(0, .ref (D.2.2.1 5)), (1, .int (nI j)), (2, .int (nI 0)), (3, .int (nI 3))]
  refine r_iload_n 1 1 (hJ.pu _ _ _) dJ26_indexOf_0 rfl rfl ?_
  refine cs_row 4 hJ (ts_J26_canEncode D l j hj) lk_J26_88 1 yk_J26_canEncode rfl ⟨by decide, by decide⟩ rfl (Nat.le_of_ble_eq_true rfl) dJ26_indexOf_1 ⟨Nat.zero_le _, Nat.zero_le _⟩ rfl ?_
  refine r_if_ne 7 9 (hJ.pu _ _ _) dJ26_indexOf_4 (by decide) (fun _ => ?_) rfl (fun c => absurd c (by decide))
  refine r_iload_n 10 2 (hJ.pu _ _ _) dJ26_indexOf_9 rfl rfl ?_
  refine r_iconst 11 0 (hJ.pu _ _ _) dJ26_indexOf_10 (by decide) rfl ?_
  refine j_maxJ 14 hJ q2099 ⟨by decide, by decide⟩ (Nat.le_of_ble_eq_true rfl) dJ26_indexOf_11 ⟨Nat.zero_le _, Nat.zero_le _⟩ rfl ?_
  refine r_eqi (nI 0) rfl ?_
  refine r_istore_n 15 [(2, .int (nI 0)), (0, .ref (D.2.2.1 5)), (1, .int (nI j)), (3, .int (nI 3))] (hJ.pu _ _ _) dJ26_indexOf_14 rfl (by decide) rfl rfl ?_
  refine r_iload_n 16 3 (hJ.pu _ _ _) dJ26_indexOf_15 rfl rfl ?_
  refine r_aload_n 17 1 (hJ.pu _ _ _) dJ26_indexOf_16 rfl rfl ?_
  refine j_slen 18 hJ dJ26_indexOf_17 rfl ?_
  refine j_minJ 21 hJ q2100 ⟨by decide, by decide⟩ (Nat.le_of_ble_eq_true rfl) dJ26_indexOf_18 ⟨Nat.zero_le _, Nat.zero_le _⟩ rfl ?_
  refine r_eqi (nI 3) rfl ?_
  refine r_istore_n 22 [(3, .int (nI 3)), (2, .int (nI 0)), (0, .ref (D.2.2.1 5)), (1, .int (nI j))] (hJ.pu _ _ _) dJ26_indexOf_21 rfl (by decide) rfl rfl ?_
  refine r_iload_n 23 1 (hJ.pu _ _ _) dJ26_indexOf_22 rfl rfl ?_
  refine r_iload_n 24 0 (hJ.pu _ _ _) dJ26_indexOf_23 rfl rfl ?_
  refine r_icmp_ltN 0 3 27 29 (hJ.pu _ _ _) dJ26_indexOf_24 (by omega) (by omega) (by decide) (fun c24 => ?_) rfl (fun c24 => absurd c24 (by decide))
  refine r_aload_n 30 2 (hJ.pu _ _ _) dJ26_indexOf_29 rfl rfl ?_
  refine r_iload_n 31 3 (hJ.pu _ _ _) dJ26_indexOf_30 rfl rfl ?_
  refine r_iload_n 32 1 (hJ.pu _ _ _) dJ26_indexOf_31 rfl rfl ?_
  refine r_iload_n 33 0 (hJ.pu _ _ _) dJ26_indexOf_32 rfl rfl ?_
  refine j_callps 36 hJ (cp_J26_indexOfChar D l j hj) lk_J26_95 4 yk_J26_indexOfChar rfl ⟨by decide, by decide⟩ rfl (Nat.le_of_ble_eq_true rfl) dJ26_indexOf_33 ⟨Nat.zero_le _, Nat.zero_le _⟩ rfl ?_
  exact Rt.i hR rfl dJ26_indexOf_36 (Nat.zero_le _) (Nat.zero_le _) ⟨rfl, rfl⟩
theorem lk_J23_492 : GoodIn lw_all (wsV RJ23 492 yJ23_isLatin1.cls yJ23_isLatin1 (ws_ yJ23_isLatin1 cJ23_isLatin1 1 (some .boolean))) := lw_V q2088 q2089 q2090 q135 q2091
theorem yk_J23_isLatin1 : yOk yJ23_isLatin1 0 := by decide +kernel
theorem lk_J23_505 : GoodIn lw_all (wsV RJ23 505 yJ23_length.cls yJ23_length (ws_ yJ23_length cJ23_length 1 (some .int))) := lw_V q2092 q827 q828 q135 q829
theorem yk_J23_length : yOk yJ23_length 0 := by decide +kernel
theorem lk_J23_637 : GoodIn lw_all (va_wsS RJ23 637 yJ26_indexOf (ws_ yJ26_indexOf cJ26_indexOf 4 (some .int))) := lw_S q2093 q2094 q138 q2095
theorem yk_J26_indexOf : yOk yJ26_indexOf 4 := by decide +kernel
set_option maxHeartbeats 2000000 in
theorem cp_J23_indexOf_2 (D : DD) (l : Launch) {H0 : Heap} (j : Nat) (hj : j < 127) : Cp D l yJ23_indexOf_2 cJ23_indexOf_2 3 (some .int) 2 48 [.ref (D.2.2.1 4), .int (nI j), .int (nI 0)] H0 (some (.int (nrkV j))) := by
  refine Cp.of (by decide) (Nat.le_of_ble_eq_true rfl) (fun s A J hJ hR => ?_)
  show J H0 0 0 0 [] [(0, .ref (D.2.2.1 4)), (1, .int (nI j)), (2, .int (nI 0))]
  refine r_aload_n 1 0 (hJ.pu _ _ _) dJ23_indexOf_2_0 rfl rfl ?_
  refine j_scall 4 hJ (cp_J23_isLatin1 D l ) rfl lk_J23_492 0 yk_J23_isLatin1 rfl ⟨by decide, by decide⟩ rfl (Nat.le_of_ble_eq_true rfl) dJ23_indexOf_2_1 ⟨Nat.zero_le _, Nat.zero_le _⟩ rfl ?_
  refine r_if_eq 7 23 (hJ.pu _ _ _) dJ23_indexOf_2_4 (by decide) (fun c => absurd c (by decide)) rfl (fun _ => ?_)
  refine r_aload_n 8 0 (hJ.pu _ _ _) dJ23_indexOf_2_7 rfl rfl ?_
  refine j_sget 11 hJ (v := .ref (D.2.2.1 5)) (fun _ h => h.strs.2.2.1) q984 dJ23_indexOf_2_8 rfl ?_
  refine r_iload_n 12 1 (hJ.pu _ _ _) dJ23_indexOf_2_11 rfl rfl ?_
  refine r_iload_n 13 2 (hJ.pu _ _ _) dJ23_indexOf_2_12 rfl rfl ?_
  refine r_aload_n 14 0 (hJ.pu _ _ _) dJ23_indexOf_2_13 rfl rfl ?_
  refine j_scall 17 hJ (cp_J23_length D l ) rfl lk_J23_505 0 yk_J23_length rfl ⟨by decide, by decide⟩ rfl (Nat.le_of_ble_eq_true rfl) dJ23_indexOf_2_14 ⟨Nat.zero_le _, Nat.zero_le _⟩ rfl ?_
  refine j_callps 20 hJ (cp_J26_indexOf D l j hj) lk_J23_637 4 yk_J26_indexOf rfl ⟨by decide, by decide⟩ rfl (Nat.le_of_ble_eq_true rfl) dJ23_indexOf_2_17 ⟨Nat.zero_le _, Nat.zero_le _⟩ rfl ?_
  refine r_goto 36 (hJ.pu _ _ _) dJ23_indexOf_2_20 (by decide) ?_
  exact Rt.i hR rfl dJ23_indexOf_2_36 (Nat.zero_le _) (Nat.zero_le _) ⟨rfl, rfl⟩
theorem lk_J23_633 : GoodIn lw_all (wsV RJ23 633 yJ23_indexOf_2.cls yJ23_indexOf_2 (ws_ yJ23_indexOf_2 cJ23_indexOf_2 3 (some .int))) := lw_V q2084 q2085 q2086 q135 q2087
theorem yk_J23_indexOf_2 : yOk yJ23_indexOf_2 2 := by decide +kernel
set_option maxHeartbeats 2000000 in
theorem cp_J23_indexOf (D : DD) (l : Launch) {H0 : Heap} (j : Nat) (hj : j < 127) : Cp D l yJ23_indexOf cJ23_indexOf 2 (some .int) 3 70 [.ref (D.2.2.1 4), .int (nI j)] H0 (some (.int (nrkV j))) := by
  refine Cp.of (by decide) (Nat.le_of_ble_eq_true rfl) (fun s A J hJ hR => ?_)
  show J H0 0 0 0 [] [(0, .ref (D.2.2.1 4)), (1, .int (nI j))]
  refine r_aload_n 1 0 (hJ.pu _ _ _) dJ23_indexOf_0 rfl rfl ?_
  refine r_iload_n 2 1 (hJ.pu _ _ _) dJ23_indexOf_1 rfl rfl ?_
  refine r_iconst 3 0 (hJ.pu _ _ _) dJ23_indexOf_2 (by decide) rfl ?_
  refine j_scall 6 hJ (cp_J23_indexOf_2 D l j hj) rfl lk_J23_633 2 yk_J23_indexOf_2 rfl ⟨by decide, by decide⟩ rfl (Nat.le_of_ble_eq_true rfl) dJ23_indexOf_3 ⟨Nat.zero_le _, Nat.zero_le _⟩ rfl ?_
  exact Rt.i hR rfl dJ23_indexOf_6 (Nat.zero_le _) (Nat.zero_le _) ⟨rfl, rfl⟩
