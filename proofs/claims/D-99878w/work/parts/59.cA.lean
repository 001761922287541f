/-! the component: JDK's small methods, lists, sums, laws -/
/-- a list of n things -/
def isLs (h : Nat → Option zSh) (S : Nat → Nat → Int32) (a n : Nat) (f : Nat → Nat) : Prop := zt h a = 29 ∧ S a 2 = nI n ∧ n ≤ 100 ∧ (0 < n → ∃ e, zr h a 1 = some e ∧ zt h e = 9 ∧ n ≤ zn h e ∧ zn h e ≤ 1000 ∧ ∀ i, i < n → zr h e i = some (f i))
def bcF (x : Int32) : Int32 :=
  let us (x : Int32) (k : Nat) : Int32 := (x.toUInt32 >>> ((nI k).toUInt32 &&& Int32.toUInt32 31)).toInt32
  let a := x - (us x 1 &&& 1431655765)
  let b := (a &&& 858993459) + (us a 2 &&& 858993459)
  let c := (b + us b 4) &&& 252645135
  let d := c + us c 8
  let e := d + us d 16
  e &&& nI 63
section CA
variable {l : Launch} {E : zE} {z : Nat} {h : Nat → Option zSh} {S : Nat → Nat → Int32} {L : Nat → Nat → Int64}
theorem zJ16_bitCount (x : Int32) (X : zX) : zM l E 0 YJ16_bitCount [.int x] X 0 0 (fun r X' => ∃ v, r = some (.int v) ∧ v = bcF x ∧ X' = X) (fun _ _ => False) := by
  refine zM.go rfl rfl (Nat.le_of_ble_eq_true rfl) (ls := [some (.int x)]) rfl ?_
  intro V hVl hVE hVd hVc hVs hVQ hVX
  refine sJ16_bitCount_0 _ _ _ _ _ ?_
  simp (disch := omega) only [oBin, oIld, oIst, oPush, oRI, List.getElem?_cons_zero, List.getElem?_cons_succ, List.set_cons_zero, List.set_cons_succ, List.drop_succ_cons, List.drop_zero, List.take_succ_cons, List.take_zero, List.length_cons, List.length_nil, List.reverse_cons, List.reverse_nil, List.nil_append, List.cons_append, Option.toList_some, Option.toList_none, va_rf_s, true_and, and_true, true_implies, false_implies, not_true_eq_false, not_false_eq_true, Nat.reduceAdd, Nat.reduceLeDiff, Nat.le_add_left, Nat.zero_le, Nat.le_refl, znew, true_or, or_true, b01_t, b01_f, b01_ok, bool_ft, vp_b01, vp_b0, vp_b1, b01_eq0, b01_eq1, implies_true, nI_add, nI_clamp, zi_in, zi_le_t, zi_le_f, zi_lt_t, zi_lt_f, zi_eq_t, zi_eq_f, nI_leI, nI_ltI, nI_eq, z_in, pk_mul, zu_same, zu_rw, zu_ix, zi_ne0, zi_sub, zi_m1, Nat.add_sub_cancel, Nat.reduceMul, Nat.reduceSub]
  exact hVQ _ _ ⟨_, rfl, rfl, rfl⟩
theorem zJ5_size {a n : Nat} {f : Nat → Nat} (hL : isLs h S a n f) : zM l E 0 YJ5_size [.ref a] (z, h, S, L) 0 0 (fun r X' => r = some (.int (nI n)) ∧ X' = (z, h, S, L)) (fun _ _ => False) := by
  obtain ⟨h1, h2, -⟩ := hL
  refine zM.go rfl rfl (Nat.le_of_ble_eq_true rfl) (ls := [some (.ref a)]) rfl ?_
  intro V hVl hVE hVd hVc hVs hVQ hVX
  refine sJ5_size_0 _ _ _ _ _ ?_
  simp (disch := omega) only [oAld, oGI, oRI, h1, h2, List.getElem?_cons_zero, List.getElem?_cons_succ, List.set_cons_zero, List.set_cons_succ, List.drop_succ_cons, List.drop_zero, List.take_succ_cons, List.take_zero, List.length_cons, List.length_nil, List.reverse_cons, List.reverse_nil, List.nil_append, List.cons_append, Option.toList_some, Option.toList_none, va_rf_s, true_and, and_true, true_implies, false_implies, not_true_eq_false, not_false_eq_true, Nat.reduceAdd, Nat.reduceLeDiff, Nat.le_add_left, Nat.zero_le, Nat.le_refl, znew, true_or, or_true, b01_t, b01_f, b01_ok, bool_ft, vp_b01, vp_b0, vp_b1, b01_eq0, b01_eq1, implies_true, nI_add, nI_clamp, zi_in, zi_le_t, zi_le_f, zi_lt_t, zi_lt_f, zi_eq_t, zi_eq_f, nI_leI, nI_ltI, nI_eq, z_in, pk_mul, zu_same, zu_rw, zu_ix, zi_ne0, zi_sub, zi_m1, Nat.add_sub_cancel, Nat.reduceMul, Nat.reduceSub]
  exact hVQ _ _ ⟨rfl, rfl⟩
theorem zJ7_checkIndex {i n : Nat} (hi : i < n) (hn : n < 1000) (X : zX) : zM l E 0 YJ7_checkIndex [.int (nI i), .int (nI n), .null] X 0 0 (fun r X' => r = some (.int (nI i)) ∧ X' = X) (fun _ _ => False) := by
  refine zM.go rfl rfl (Nat.le_of_ble_eq_true rfl) (ls := [some (.int (nI i)), some (.int (nI n)), some .null]) rfl ?_
  intro V hVl hVE hVd hVc hVs hVQ hVX
  refine sJ7_checkIndex_0 _ _ _ _ _ ?_
  simp (disch := omega) only [oAld, oBot, oIf, oIfc, oIld, oRI, List.getElem?_cons_zero, List.getElem?_cons_succ, List.set_cons_zero, List.set_cons_succ, List.drop_succ_cons, List.drop_zero, List.take_succ_cons, List.take_zero, List.length_cons, List.length_nil, List.reverse_cons, List.reverse_nil, List.nil_append, List.cons_append, Option.toList_some, Option.toList_none, va_rf_s, true_and, and_true, true_implies, false_implies, not_true_eq_false, not_false_eq_true, Nat.reduceAdd, Nat.reduceLeDiff, Nat.le_add_left, Nat.zero_le, Nat.le_refl, znew, true_or, or_true, b01_t, b01_f, b01_ok, bool_ft, vp_b01, vp_b0, vp_b1, b01_eq0, b01_eq1, implies_true, nI_add, nI_clamp, zi_in, zi_le_t, zi_le_f, zi_lt_t, zi_lt_f, zi_eq_t, zi_eq_f, nI_leI, nI_ltI, nI_eq, z_in, pk_mul, zu_same, zu_rw, zu_ix, zi_ne0, zi_sub, zi_m1, Nat.add_sub_cancel, Nat.reduceMul, Nat.reduceSub]
  exact hVQ _ _ ⟨rfl, rfl⟩
theorem zJ6_checkIndex {i n : Nat} (hi : i < n) (hn : n < 1000) (X : zX) : zM l E 1 YJ6_checkIndex [.int (nI i), .int (nI n)] X 0 0 (fun r X' => r = some (.int (nI i)) ∧ X' = X) (fun _ _ => False) := by
  refine zM.go rfl rfl (Nat.le_of_ble_eq_true rfl) (ls := [some (.int (nI i)), some (.int (nI n))]) rfl ?_
  intro V hVl hVE hVd hVc hVs hVQ hVX
  refine sJ6_checkIndex_0 _ _ _ _ _ ?_
  simp (disch := omega) only [oCS, oIld, oPush, List.getElem?_cons_zero, List.getElem?_cons_succ, List.set_cons_zero, List.set_cons_succ, List.drop_succ_cons, List.drop_zero, List.take_succ_cons, List.take_zero, List.length_cons, List.length_nil, List.reverse_cons, List.reverse_nil, List.nil_append, List.cons_append, Option.toList_some, Option.toList_none, va_rf_s, true_and, and_true, true_implies, false_implies, not_true_eq_false, not_false_eq_true, Nat.reduceAdd, Nat.reduceLeDiff, Nat.le_add_left, Nat.zero_le, Nat.le_refl, znew, true_or, or_true, b01_t, b01_f, b01_ok, bool_ft, vp_b01, vp_b0, vp_b1, b01_eq0, b01_eq1, implies_true, nI_add, nI_clamp, zi_in, zi_le_t, zi_le_f, zi_lt_t, zi_lt_f, zi_eq_t, zi_eq_f, nI_leI, nI_ltI, nI_eq, z_in, pk_mul, zu_same, zu_rw, zu_ix, zi_ne0, zi_sub, zi_m1, Nat.add_sub_cancel, Nat.reduceMul, Nat.reduceSub]
  refine zC.of0 (zJ7_checkIndex hi hn _) (by omega) (Nat.zero_le _) (Nat.zero_le _) ?_
  rintro _ _ ⟨rfl, rfl⟩
  refine sJ6_checkIndex_6 _ _ _ _ _ ?_
  simp (disch := omega) only [oRI, List.getElem?_cons_zero, List.getElem?_cons_succ, List.set_cons_zero, List.set_cons_succ, List.drop_succ_cons, List.drop_zero, List.take_succ_cons, List.take_zero, List.length_cons, List.length_nil, List.reverse_cons, List.reverse_nil, List.nil_append, List.cons_append, Option.toList_some, Option.toList_none, va_rf_s, true_and, and_true, true_implies, false_implies, not_true_eq_false, not_false_eq_true, Nat.reduceAdd, Nat.reduceLeDiff, Nat.le_add_left, Nat.zero_le, Nat.le_refl, znew, true_or, or_true, b01_t, b01_f, b01_ok, bool_ft, vp_b01, vp_b0, vp_b1, b01_eq0, b01_eq1, implies_true, nI_add, nI_clamp, zi_in, zi_le_t, zi_le_f, zi_lt_t, zi_lt_f, zi_eq_t, zi_eq_f, nI_leI, nI_ltI, nI_eq, z_in, pk_mul, zu_same, zu_rw, zu_ix, zi_ne0, zi_sub, zi_m1, Nat.add_sub_cancel, Nat.reduceMul, Nat.reduceSub]
  exact hVQ _ _ ⟨rfl, rfl⟩
theorem zJ5_get {a n i : Nat} {f : Nat → Nat} (hL : isLs h S a n f) (hi : i < n) : zM l E 2 YJ5_get [.ref a, .int (nI i)] (z, h, S, L) 0 0 (fun r X' => r = some (.ref (f i)) ∧ X' = (z, h, S, L)) (fun _ _ => False) := by
  obtain ⟨h1, h2, h3, h4⟩ := id hL
  obtain ⟨e, e1, e2, e3, e4, e5⟩ := h4 (by omega)
  have e6 := e5 i hi
  refine zM.go rfl rfl (Nat.le_of_ble_eq_true rfl) (ls := [some (.ref a), some (.int (nI i))]) rfl ?_
  intro V hVl hVE hVd hVc hVs hVQ hVX
  refine sJ5_get_0 _ _ _ _ _ ?_
  simp (disch := omega) only [oAld, oCS, oGI, oIld, h1, h2, List.getElem?_cons_zero, List.getElem?_cons_succ, List.set_cons_zero, List.set_cons_succ, List.drop_succ_cons, List.drop_zero, List.take_succ_cons, List.take_zero, List.length_cons, List.length_nil, List.reverse_cons, List.reverse_nil, List.nil_append, List.cons_append, Option.toList_some, Option.toList_none, va_rf_s, true_and, and_true, true_implies, false_implies, not_true_eq_false, not_false_eq_true, Nat.reduceAdd, Nat.reduceLeDiff, Nat.le_add_left, Nat.zero_le, Nat.le_refl, znew, true_or, or_true, b01_t, b01_f, b01_ok, bool_ft, vp_b01, vp_b0, vp_b1, b01_eq0, b01_eq1, implies_true, nI_add, nI_clamp, zi_in, zi_le_t, zi_le_f, zi_lt_t, zi_lt_f, zi_eq_t, zi_eq_f, nI_leI, nI_ltI, nI_eq, z_in, pk_mul, zu_same, zu_rw, zu_ix, zi_ne0, zi_sub, zi_m1, Nat.add_sub_cancel, Nat.reduceMul, Nat.reduceSub]
  refine zC.of0 (zJ6_checkIndex hi (by omega) _) (by omega) (Nat.zero_le _) (Nat.zero_le _) ?_
  rintro _ _ ⟨rfl, rfl⟩
  refine sJ5_get_8 _ _ _ _ _ ?_
  simp (disch := omega) only [oAld, oCV, oIld, oPop, h1, List.getElem?_cons_zero, List.getElem?_cons_succ, List.set_cons_zero, List.set_cons_succ, List.drop_succ_cons, List.drop_zero, List.take_succ_cons, List.take_zero, List.length_cons, List.length_nil, List.reverse_cons, List.reverse_nil, List.nil_append, List.cons_append, Option.toList_some, Option.toList_none, va_rf_s, true_and, and_true, true_implies, false_implies, not_true_eq_false, not_false_eq_true, Nat.reduceAdd, Nat.reduceLeDiff, Nat.le_add_left, Nat.zero_le, Nat.le_refl, znew, true_or, or_true, b01_t, b01_f, b01_ok, bool_ft, vp_b01, vp_b0, vp_b1, b01_eq0, b01_eq1, implies_true, nI_add, nI_clamp, zi_in, zi_le_t, zi_le_f, zi_lt_t, zi_lt_f, zi_eq_t, zi_eq_f, nI_leI, nI_ltI, nI_eq, z_in, pk_mul, zu_same, zu_rw, zu_ix, zi_ne0, zi_sub, zi_m1, Nat.add_sub_cancel, Nat.reduceMul, Nat.reduceSub]
  have key : zM l E 0 YJ5_elementData [.ref a, .int (nI i)] (z, h, S, L) 0 0 (fun r X' => r = some (.ref (f i)) ∧ X' = (z, h, S, L)) (fun _ _ => False) := by
    refine zM.go rfl rfl (Nat.le_of_ble_eq_true rfl) (ls := [some (.ref a), some (.int (nI i))]) rfl ?_
    intro V hVl hVE hVd hVc hVs hVQ hVX
    refine sJ5_elementData_0 _ _ _ _ _ ?_
    simp (disch := omega) only [oAld, oAld9, oGR, oIld, oRA, h1, e1, e2, e6, List.getElem?_cons_zero, List.getElem?_cons_succ, List.set_cons_zero, List.set_cons_succ, List.drop_succ_cons, List.drop_zero, List.take_succ_cons, List.take_zero, List.length_cons, List.length_nil, List.reverse_cons, List.reverse_nil, List.nil_append, List.cons_append, Option.toList_some, Option.toList_none, va_rf_s, true_and, and_true, true_implies, false_implies, not_true_eq_false, not_false_eq_true, Nat.reduceAdd, Nat.reduceLeDiff, Nat.le_add_left, Nat.zero_le, Nat.le_refl, znew, true_or, or_true, b01_t, b01_f, b01_ok, bool_ft, vp_b01, vp_b0, vp_b1, b01_eq0, b01_eq1, implies_true, nI_add, nI_clamp, zi_in, zi_le_t, zi_le_f, zi_lt_t, zi_lt_f, zi_eq_t, zi_eq_f, nI_leI, nI_ltI, nI_eq, z_in, pk_mul, zu_same, zu_rw, zu_ix, zi_ne0, zi_sub, zi_m1, Nat.add_sub_cancel, Nat.reduceMul, Nat.reduceSub]
    exact hVQ _ _ ⟨rfl, rfl⟩
  subst hVl hVE
  refine zC.of0 (key) (by omega) (Nat.zero_le _) (Nat.zero_le _) ?_
  rintro _ _ ⟨rfl, rfl⟩
  refine sJ5_get_14 _ _ _ _ _ ?_
  simp (disch := omega) only [oRA, List.getElem?_cons_zero, List.getElem?_cons_succ, List.set_cons_zero, List.set_cons_succ, List.drop_succ_cons, List.drop_zero, List.take_succ_cons, List.take_zero, List.length_cons, List.length_nil, List.reverse_cons, List.reverse_nil, List.nil_append, List.cons_append, Option.toList_some, Option.toList_none, va_rf_s, true_and, and_true, true_implies, false_implies, not_true_eq_false, not_false_eq_true, Nat.reduceAdd, Nat.reduceLeDiff, Nat.le_add_left, Nat.zero_le, Nat.le_refl, znew, true_or, or_true, b01_t, b01_f, b01_ok, bool_ft, vp_b01, vp_b0, vp_b1, b01_eq0, b01_eq1, implies_true, nI_add, nI_clamp, zi_in, zi_le_t, zi_le_f, zi_lt_t, zi_lt_f, zi_eq_t, zi_eq_f, nI_leI, nI_ltI, nI_eq, z_in, pk_mul, zu_same, zu_rw, zu_ix, zi_ne0, zi_sub, zi_m1, Nat.add_sub_cancel, Nat.reduceMul, Nat.reduceSub]
  exact hVQ _ _ ⟨rfl, rfl⟩
end CA
