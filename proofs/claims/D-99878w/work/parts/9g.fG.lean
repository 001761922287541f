/-! the component's parser: things are made and put into lists -/
section FG
variable {l : Launch} {E : zE} {z : Nat} {h : Nat → Option zSh} {S : Nat → Nat → Int32} {L : Nat → Nat → Int64} {c : Nat} {ta dE : Nat} {eA : Nat → Nat} {B : Nat → Nat → Nat} {x x' : zTx}
theorem zX16_init {a s k : Nat} (hk : k = 17 ∨ k = 19 ∨ k = 20) (ht : zt h a = 20 + k) : zM l E 1 YX16_init [.ref a, .ref s] (z, h, S, L) 0 0 (fun r X => r = none ∧ X = (z, zur h a 0 (some s), S, L)) (fun _ _ => False) := by
  refine zM.go rfl rfl (Nat.le_of_ble_eq_true rfl) (ls := [some (.ref a), some (.ref s)]) rfl ?_
  intro V hVl hVE hVd hVc hVs hVQ hVX
  refine sX16_init_0 (by omega) _ _ _ _ _ ?_
  simp (disch := omega) only [oAld, oObj, oPRs, oRV, List.getElem?_cons_zero, List.getElem?_cons_succ, List.set_cons_zero, List.set_cons_succ, List.drop_succ_cons, List.drop_zero, List.take_succ_cons, List.take_zero, List.length_cons, List.length_nil, List.reverse_cons, List.reverse_nil, List.nil_append, List.cons_append, Option.toList_some, Option.toList_none, va_rf_s, true_and, and_true, true_implies, false_implies, not_true_eq_false, not_false_eq_true, Nat.reduceAdd, Nat.reduceLeDiff, Nat.le_add_left, Nat.zero_le, Nat.le_refl, znew, true_or, or_true, b01_t, b01_f, b01_ok, bool_ft, vp_b01, vp_b0, vp_b1, b01_eq0, b01_eq1, implies_true, nI_add, nI_clamp, zi_in, zi_le_t, zi_le_f, zi_lt_t, zi_lt_f, zi_eq_t, zi_eq_f, nI_leI, nI_ltI, nI_eq, z_in, pk_mul, zu_same, zu_rw, zu_ix, zi_ne0, zi_sub, zi_m1, Nat.add_sub_cancel, Nat.reduceMul, Nat.reduceSub]
  rcases hk with rfl | rfl | rfl
  · exact ⟨(17, 0), by simp, ht, hVQ _ _ ⟨rfl, rfl⟩⟩
  · exact ⟨(19, 0), by simp, ht, hVQ _ _ ⟨rfl, rfl⟩⟩
  · exact ⟨(20, 0), by simp, ht, hVQ _ _ ⟨rfl, rfl⟩⟩
theorem zX17_init {a s : Nat} (ht : zt h a = 37) : zM l E 2 YX17_init [.ref a, .ref s] (z, h, S, L) 0 0 (fun r X => r = none ∧ X = (z, zur h a 0 (some s), S, L)) (fun _ _ => False) := by
  refine zM.go rfl rfl (Nat.le_of_ble_eq_true rfl) (ls := [some (.ref a), some (.ref s)]) rfl ?_
  intro V hVl hVE hVd hVc hVs hVQ hVX
  refine sX17_init_0 _ _ _ _ _ ?_
  simp (disch := omega) only [oAld, oCI, List.getElem?_cons_zero, List.getElem?_cons_succ, List.set_cons_zero, List.set_cons_succ, List.drop_succ_cons, List.drop_zero, List.take_succ_cons, List.take_zero, List.length_cons, List.length_nil, List.reverse_cons, List.reverse_nil, List.nil_append, List.cons_append, Option.toList_some, Option.toList_none, va_rf_s, true_and, and_true, true_implies, false_implies, not_true_eq_false, not_false_eq_true, Nat.reduceAdd, Nat.reduceLeDiff, Nat.le_add_left, Nat.zero_le, Nat.le_refl, znew, true_or, or_true, b01_t, b01_f, b01_ok, bool_ft, vp_b01, vp_b0, vp_b1, b01_eq0, b01_eq1, implies_true, nI_add, nI_clamp, zi_in, zi_le_t, zi_le_f, zi_lt_t, zi_lt_f, zi_eq_t, zi_eq_f, nI_leI, nI_ltI, nI_eq, z_in, pk_mul, zu_same, zu_rw, zu_ix, zi_ne0, zi_sub, zi_m1, Nat.add_sub_cancel, Nat.reduceMul, Nat.reduceSub]
  refine zC.of0 (zX16_init (Or.inl rfl) ht) (by omega) (Nat.zero_le _) (Nat.zero_le _) ?_
  rintro _ _ ⟨rfl, rfl⟩
  refine sX17_init_5 _ _ _ _ _ ?_
  simp (disch := omega) only [oRV, List.getElem?_cons_zero, List.getElem?_cons_succ, List.set_cons_zero, List.set_cons_succ, List.drop_succ_cons, List.drop_zero, List.take_succ_cons, List.take_zero, List.length_cons, List.length_nil, List.reverse_cons, List.reverse_nil, List.nil_append, List.cons_append, Option.toList_some, Option.toList_none, va_rf_s, true_and, and_true, true_implies, false_implies, not_true_eq_false, not_false_eq_true, Nat.reduceAdd, Nat.reduceLeDiff, Nat.le_add_left, Nat.zero_le, Nat.le_refl, znew, true_or, or_true, b01_t, b01_f, b01_ok, bool_ft, vp_b01, vp_b0, vp_b1, b01_eq0, b01_eq1, implies_true, nI_add, nI_clamp, zi_in, zi_le_t, zi_le_f, zi_lt_t, zi_lt_f, zi_eq_t, zi_eq_f, nI_leI, nI_ltI, nI_eq, z_in, pk_mul, zu_same, zu_rw, zu_ix, zi_ne0, zi_sub, zi_m1, Nat.add_sub_cancel, Nat.reduceMul, Nat.reduceSub]
  exact hVQ _ _ ⟨rfl, rfl⟩
theorem zX19_init {a s : Nat} (ht : zt h a = 39) : zM l E 2 YX19_init [.ref a, .ref s] (z, h, S, L) 0 0 (fun r X => r = none ∧ X = (z, zur h a 0 (some s), S, L)) (fun _ _ => False) := by
  refine zM.go rfl rfl (Nat.le_of_ble_eq_true rfl) (ls := [some (.ref a), some (.ref s)]) rfl ?_
  intro V hVl hVE hVd hVc hVs hVQ hVX
  refine sX19_init_0 _ _ _ _ _ ?_
  simp (disch := omega) only [oAld, oCI, List.getElem?_cons_zero, List.getElem?_cons_succ, List.set_cons_zero, List.set_cons_succ, List.drop_succ_cons, List.drop_zero, List.take_succ_cons, List.take_zero, List.length_cons, List.length_nil, List.reverse_cons, List.reverse_nil, List.nil_append, List.cons_append, Option.toList_some, Option.toList_none, va_rf_s, true_and, and_true, true_implies, false_implies, not_true_eq_false, not_false_eq_true, Nat.reduceAdd, Nat.reduceLeDiff, Nat.le_add_left, Nat.zero_le, Nat.le_refl, znew, true_or, or_true, b01_t, b01_f, b01_ok, bool_ft, vp_b01, vp_b0, vp_b1, b01_eq0, b01_eq1, implies_true, nI_add, nI_clamp, zi_in, zi_le_t, zi_le_f, zi_lt_t, zi_lt_f, zi_eq_t, zi_eq_f, nI_leI, nI_ltI, nI_eq, z_in, pk_mul, zu_same, zu_rw, zu_ix, zi_ne0, zi_sub, zi_m1, Nat.add_sub_cancel, Nat.reduceMul, Nat.reduceSub]
  refine zC.of0 (zX16_init (Or.inr (Or.inl rfl)) ht) (by omega) (Nat.zero_le _) (Nat.zero_le _) ?_
  rintro _ _ ⟨rfl, rfl⟩
  refine sX19_init_5 _ _ _ _ _ ?_
  simp (disch := omega) only [oRV, List.getElem?_cons_zero, List.getElem?_cons_succ, List.set_cons_zero, List.set_cons_succ, List.drop_succ_cons, List.drop_zero, List.take_succ_cons, List.take_zero, List.length_cons, List.length_nil, List.reverse_cons, List.reverse_nil, List.nil_append, List.cons_append, Option.toList_some, Option.toList_none, va_rf_s, true_and, and_true, true_implies, false_implies, not_true_eq_false, not_false_eq_true, Nat.reduceAdd, Nat.reduceLeDiff, Nat.le_add_left, Nat.zero_le, Nat.le_refl, znew, true_or, or_true, b01_t, b01_f, b01_ok, bool_ft, vp_b01, vp_b0, vp_b1, b01_eq0, b01_eq1, implies_true, nI_add, nI_clamp, zi_in, zi_le_t, zi_le_f, zi_lt_t, zi_lt_f, zi_eq_t, zi_eq_f, nI_leI, nI_ltI, nI_eq, z_in, pk_mul, zu_same, zu_rw, zu_ix, zi_ne0, zi_sub, zi_m1, Nat.add_sub_cancel, Nat.reduceMul, Nat.reduceSub]
  exact hVQ _ _ ⟨rfl, rfl⟩
theorem zX20_init {a s : Nat} (ht : zt h a = 40) : zM l E 2 YX20_init [.ref a, .ref s] (z, h, S, L) 0 0 (fun r X => r = none ∧ X = (z, zur h a 0 (some s), S, L)) (fun _ _ => False) := by
  refine zM.go rfl rfl (Nat.le_of_ble_eq_true rfl) (ls := [some (.ref a), some (.ref s)]) rfl ?_
  intro V hVl hVE hVd hVc hVs hVQ hVX
  refine sX20_init_0 _ _ _ _ _ ?_
  simp (disch := omega) only [oAld, oCI, List.getElem?_cons_zero, List.getElem?_cons_succ, List.set_cons_zero, List.set_cons_succ, List.drop_succ_cons, List.drop_zero, List.take_succ_cons, List.take_zero, List.length_cons, List.length_nil, List.reverse_cons, List.reverse_nil, List.nil_append, List.cons_append, Option.toList_some, Option.toList_none, va_rf_s, true_and, and_true, true_implies, false_implies, not_true_eq_false, not_false_eq_true, Nat.reduceAdd, Nat.reduceLeDiff, Nat.le_add_left, Nat.zero_le, Nat.le_refl, znew, true_or, or_true, b01_t, b01_f, b01_ok, bool_ft, vp_b01, vp_b0, vp_b1, b01_eq0, b01_eq1, implies_true, nI_add, nI_clamp, zi_in, zi_le_t, zi_le_f, zi_lt_t, zi_lt_f, zi_eq_t, zi_eq_f, nI_leI, nI_ltI, nI_eq, z_in, pk_mul, zu_same, zu_rw, zu_ix, zi_ne0, zi_sub, zi_m1, Nat.add_sub_cancel, Nat.reduceMul, Nat.reduceSub]
  refine zC.of0 (zX16_init (Or.inr (Or.inr rfl)) ht) (by omega) (Nat.zero_le _) (Nat.zero_le _) ?_
  rintro _ _ ⟨rfl, rfl⟩
  refine sX20_init_5 _ _ _ _ _ ?_
  simp (disch := omega) only [oRV, List.getElem?_cons_zero, List.getElem?_cons_succ, List.set_cons_zero, List.set_cons_succ, List.drop_succ_cons, List.drop_zero, List.take_succ_cons, List.take_zero, List.length_cons, List.length_nil, List.reverse_cons, List.reverse_nil, List.nil_append, List.cons_append, Option.toList_some, Option.toList_none, va_rf_s, true_and, and_true, true_implies, false_implies, not_true_eq_false, not_false_eq_true, Nat.reduceAdd, Nat.reduceLeDiff, Nat.le_add_left, Nat.zero_le, Nat.le_refl, znew, true_or, or_true, b01_t, b01_f, b01_ok, bool_ft, vp_b01, vp_b0, vp_b1, b01_eq0, b01_eq1, implies_true, nI_add, nI_clamp, zi_in, zi_le_t, zi_le_f, zi_lt_t, zi_lt_f, zi_eq_t, zi_eq_f, nI_leI, nI_ltI, nI_eq, z_in, pk_mul, zu_same, zu_rw, zu_ix, zi_ne0, zi_sub, zi_m1, Nat.add_sub_cancel, Nat.reduceMul, Nat.reduceSub]
  exact hVQ _ _ ⟨rfl, rfl⟩
theorem zX18_init {a : Nat} (X : zX) : zM l E 1 YX18_init [.ref a] X 0 0 (fun r X' => r = none ∧ X' = X) (fun _ _ => False) := by
  refine zM.go rfl rfl (Nat.le_of_ble_eq_true rfl) (ls := [some (.ref a)]) rfl ?_
  intro V hVl hVE hVd hVc hVs hVQ hVX
  refine sX18_init_0 (by omega) _ _ _ _ _ ?_
  simp (disch := omega) only [oAld, oObj, oRV, List.getElem?_cons_zero, List.getElem?_cons_succ, List.set_cons_zero, List.set_cons_succ, List.drop_succ_cons, List.drop_zero, List.take_succ_cons, List.take_zero, List.length_cons, List.length_nil, List.reverse_cons, List.reverse_nil, List.nil_append, List.cons_append, Option.toList_some, Option.toList_none, va_rf_s, true_and, and_true, true_implies, false_implies, not_true_eq_false, not_false_eq_true, Nat.reduceAdd, Nat.reduceLeDiff, Nat.le_add_left, Nat.zero_le, Nat.le_refl, znew, true_or, or_true, b01_t, b01_f, b01_ok, bool_ft, vp_b01, vp_b0, vp_b1, b01_eq0, b01_eq1, implies_true, nI_add, nI_clamp, zi_in, zi_le_t, zi_le_f, zi_lt_t, zi_lt_f, zi_eq_t, zi_eq_f, nI_leI, nI_ltI, nI_eq, z_in, pk_mul, zu_same, zu_rw, zu_ix, zi_ne0, zi_sub, zi_m1, Nat.add_sub_cancel, Nat.reduceMul, Nat.reduceSub]
  exact hVQ _ _ ⟨rfl, rfl⟩
theorem zJ5_init {a : Nat} (hd : dfZ E dE) (ht : zt h a = 29) : zM l E 3 YJ5_init [.ref a] (z, h, S, L) 0 0 (fun r X => r = none ∧ X = (z, zur h a 1 (some dE), zu S a 0 (nI 0), L)) (fun _ _ => False) := by
  have b3 : ∀ l' E' X, zM l' E' 1 YJ3_init [.ref a] X 0 0 (fun r X' => r = none ∧ X' = X) (fun _ _ => False) := by
    intro l' E' X
    refine zM.go rfl rfl (Nat.le_of_ble_eq_true rfl) (ls := [some (.ref a)]) rfl ?_
    intro V hVl hVE hVd hVc hVs hVQ hVX
    refine sJ3_init_0 (by omega) _ _ _ _ _ ?_
    simp (disch := omega) only [oAld, oObj, oRV, List.getElem?_cons_zero, List.getElem?_cons_succ, List.set_cons_zero, List.set_cons_succ, List.drop_succ_cons, List.drop_zero, List.take_succ_cons, List.take_zero, List.length_cons, List.length_nil, List.reverse_cons, List.reverse_nil, List.nil_append, List.cons_append, Option.toList_some, Option.toList_none, va_rf_s, true_and, and_true, true_implies, false_implies, not_true_eq_false, not_false_eq_true, Nat.reduceAdd, Nat.reduceLeDiff, Nat.le_add_left, Nat.zero_le, Nat.le_refl, znew, true_or, or_true, b01_t, b01_f, b01_ok, bool_ft, vp_b01, vp_b0, vp_b1, b01_eq0, b01_eq1, implies_true, nI_add, nI_clamp, zi_in, zi_le_t, zi_le_f, zi_lt_t, zi_lt_f, zi_eq_t, zi_eq_f, nI_leI, nI_ltI, nI_eq, z_in, pk_mul, zu_same, zu_rw, zu_ix, zi_ne0, zi_sub, zi_m1, Nat.add_sub_cancel, Nat.reduceMul, Nat.reduceSub]
    exact hVQ _ _ ⟨rfl, rfl⟩
  have b4 : ∀ l' E', zM l' E' 2 YJ4_init [.ref a] (z, h, S, L) 0 0 (fun r X => r = none ∧ X = (z, h, zu S a 0 (nI 0), L)) (fun _ _ => False) := by
    intro l' E'
    refine zM.go rfl rfl (Nat.le_of_ble_eq_true rfl) (ls := [some (.ref a)]) rfl ?_
    intro V hVl hVE hVd hVc hVs hVQ hVX
    refine sJ4_init_0 _ _ _ _ _ ?_
    simp (disch := omega) only [oAld, oCI, List.getElem?_cons_zero, List.getElem?_cons_succ, List.set_cons_zero, List.set_cons_succ, List.drop_succ_cons, List.drop_zero, List.take_succ_cons, List.take_zero, List.length_cons, List.length_nil, List.reverse_cons, List.reverse_nil, List.nil_append, List.cons_append, Option.toList_some, Option.toList_none, va_rf_s, true_and, and_true, true_implies, false_implies, not_true_eq_false, not_false_eq_true, Nat.reduceAdd, Nat.reduceLeDiff, Nat.le_add_left, Nat.zero_le, Nat.le_refl, znew, true_or, or_true, b01_t, b01_f, b01_ok, bool_ft, vp_b01, vp_b0, vp_b1, b01_eq0, b01_eq1, implies_true, nI_add, nI_clamp, zi_in, zi_le_t, zi_le_f, zi_lt_t, zi_lt_f, zi_eq_t, zi_eq_f, nI_leI, nI_ltI, nI_eq, z_in, pk_mul, zu_same, zu_rw, zu_ix, zi_ne0, zi_sub, zi_m1, Nat.add_sub_cancel, Nat.reduceMul, Nat.reduceSub]
    refine zC.of0 (b3 _ _ _) (by omega) (Nat.zero_le _) (Nat.zero_le _) ?_
    rintro _ _ ⟨rfl, rfl⟩
    refine sJ4_init_4 _ _ _ _ _ ?_
    simp (disch := omega) only [oAld, oPI, oPush, oRV, ht, List.getElem?_cons_zero, List.getElem?_cons_succ, List.set_cons_zero, List.set_cons_succ, List.drop_succ_cons, List.drop_zero, List.take_succ_cons, List.take_zero, List.length_cons, List.length_nil, List.reverse_cons, List.reverse_nil, List.nil_append, List.cons_append, Option.toList_some, Option.toList_none, va_rf_s, true_and, and_true, true_implies, false_implies, not_true_eq_false, not_false_eq_true, Nat.reduceAdd, Nat.reduceLeDiff, Nat.le_add_left, Nat.zero_le, Nat.le_refl, znew, true_or, or_true, b01_t, b01_f, b01_ok, bool_ft, vp_b01, vp_b0, vp_b1, b01_eq0, b01_eq1, implies_true, nI_add, nI_clamp, zi_in, zi_le_t, zi_le_f, zi_lt_t, zi_lt_f, zi_eq_t, zi_eq_f, nI_leI, nI_ltI, nI_eq, z_in, pk_mul, zu_same, zu_rw, zu_ix, zi_ne0, zi_sub, zi_m1, Nat.add_sub_cancel, Nat.reduceMul, Nat.reduceSub]
    exact hVQ _ _ ⟨rfl, rfl⟩
  have hd1 := hd.1
  refine zM.go rfl rfl (Nat.le_of_ble_eq_true rfl) (ls := [some (.ref a)]) rfl ?_
  intro V hVl hVE hVd hVc hVs hVQ hVX
  rw [← hVE] at hd1
  refine sJ5_init_0 _ _ _ _ _ ?_
  simp (disch := omega) only [oAld, oCI, List.getElem?_cons_zero, List.getElem?_cons_succ, List.set_cons_zero, List.set_cons_succ, List.drop_succ_cons, List.drop_zero, List.take_succ_cons, List.take_zero, List.length_cons, List.length_nil, List.reverse_cons, List.reverse_nil, List.nil_append, List.cons_append, Option.toList_some, Option.toList_none, va_rf_s, true_and, and_true, true_implies, false_implies, not_true_eq_false, not_false_eq_true, Nat.reduceAdd, Nat.reduceLeDiff, Nat.le_add_left, Nat.zero_le, Nat.le_refl, znew, true_or, or_true, b01_t, b01_f, b01_ok, bool_ft, vp_b01, vp_b0, vp_b1, b01_eq0, b01_eq1, implies_true, nI_add, nI_clamp, zi_in, zi_le_t, zi_le_f, zi_lt_t, zi_lt_f, zi_eq_t, zi_eq_f, nI_leI, nI_ltI, nI_eq, z_in, pk_mul, zu_same, zu_rw, zu_ix, zi_ne0, zi_sub, zi_m1, Nat.add_sub_cancel, Nat.reduceMul, Nat.reduceSub]
  refine zC.of0 (b4 _ _) (by omega) (Nat.zero_le _) (Nat.zero_le _) ?_
  rintro _ _ ⟨rfl, rfl⟩
  refine sJ5_init_4 (v5 := .ref dE) _ _ _ _ _ ?_
  simp (disch := omega) only [oAld, oGetS, oPR, oRV, hd1, ht, List.getElem?_cons_zero, List.getElem?_cons_succ, List.set_cons_zero, List.set_cons_succ, List.drop_succ_cons, List.drop_zero, List.take_succ_cons, List.take_zero, List.length_cons, List.length_nil, List.reverse_cons, List.reverse_nil, List.nil_append, List.cons_append, Option.toList_some, Option.toList_none, va_rf_s, true_and, and_true, true_implies, false_implies, not_true_eq_false, not_false_eq_true, Nat.reduceAdd, Nat.reduceLeDiff, Nat.le_add_left, Nat.zero_le, Nat.le_refl, znew, true_or, or_true, b01_t, b01_f, b01_ok, bool_ft, vp_b01, vp_b0, vp_b1, b01_eq0, b01_eq1, implies_true, nI_add, nI_clamp, zi_in, zi_le_t, zi_le_f, zi_lt_t, zi_lt_f, zi_eq_t, zi_eq_f, nI_leI, nI_ltI, nI_eq, z_in, pk_mul, zu_same, zu_rw, zu_ix, zi_ne0, zi_sub, zi_m1, Nat.add_sub_cancel, Nat.reduceMul, Nat.reduceSub]
  exact hVQ _ _ ⟨rfl, rfl⟩
theorem xn0 (k : Nat) : xn x0 k = 0 := by
  unfold xn
  (repeat' split) <;> rfl
/-- a text is made -/
theorem zX4_init (hd : dfZ E dE) (hz : ta + 1 = z) (ht : zt h ta = 24) (hS : S ta = fun _ => nI 0) : zM l E 4 YX4_init [.ref ta] (z, h, S, L) 5 16 (fun r X => r = none ∧ ∃ h' S' L', X = (z + 5, h', S', L') ∧ (∀ a, a < ta → h' a = h a ∧ S' a = S a ∧ L' a = L a) ∧ txP (z + 5) h' S' ta dE eA B x0) (fun _ _ => False) := by
  subst hz
  refine zM.go rfl rfl (Nat.le_of_ble_eq_true rfl) (ls := [some (.ref ta)]) rfl ?_
  intro V hVl hVE hVd hVc hVs hVQ hVX
  have hp4 : (nI 4 < (0 : Int32)) = False := eq_false (by decide)
  refine sX4_init_0 (by omega) _ _ _ _ _ ?_
  simp (disch := omega) only [oAld, oCI, oDup, oNew, oObj, hVc, hVs, List.getElem?_cons_zero, List.getElem?_cons_succ, List.set_cons_zero, List.set_cons_succ, List.drop_succ_cons, List.drop_zero, List.take_succ_cons, List.take_zero, List.length_cons, List.length_nil, List.reverse_cons, List.reverse_nil, List.nil_append, List.cons_append, Option.toList_some, Option.toList_none, va_rf_s, true_and, and_true, true_implies, false_implies, not_true_eq_false, not_false_eq_true, Nat.reduceAdd, Nat.reduceLeDiff, Nat.le_add_left, Nat.zero_le, Nat.le_refl, true_or, or_true, b01_t, b01_f, b01_ok, bool_ft, vp_b01, vp_b0, vp_b1, b01_eq0, b01_eq1, implies_true, zneq, hN_ts, hN_to, hN_ns, hN_no, hN_rs, hN_ro, SN_s, SN_o, zur_t, zur_n, zur_rs, zur_rk, zur_ro, nI_add, nI_clamp, zi_in, zi_le_t, zi_le_f, zi_lt_t, zi_lt_f, zi_eq_t, zi_eq_f, nI_leI, nI_ltI, nI_eq, z_in, pk_mul, zu_same, zu_rw, zu_ix, zi_ne0, zi_sub, zi_m1, Nat.add_sub_cancel, Nat.reduceMul, Nat.reduceSub]
  refine zC.ofN (zJ5_init (a := ta + 1) (by rw [hVE]; exact hd) hN_ts) (by omega) (by omega) (by omega) ?_
  rintro _ _ ⟨rfl, rfl⟩
  have t1 : zt (zur (hN h (ta + 1) (29, 0, fun _ => none)) (ta + 1) 1 (some dE)) ta = 24 := by rw [zur_t, hN_to (by omega)]; exact ht
  refine sX4_init_12 _ _ _ _ _ ?_
  simp (disch := omega) only [oAld, oCI, oDup, oNew, oPR, t1, ht, hVc, hVs, List.getElem?_cons_zero, List.getElem?_cons_succ, List.set_cons_zero, List.set_cons_succ, List.drop_succ_cons, List.drop_zero, List.take_succ_cons, List.take_zero, List.length_cons, List.length_nil, List.reverse_cons, List.reverse_nil, List.nil_append, List.cons_append, Option.toList_some, Option.toList_none, va_rf_s, true_and, and_true, true_implies, false_implies, not_true_eq_false, not_false_eq_true, Nat.reduceAdd, Nat.reduceLeDiff, Nat.le_add_left, Nat.zero_le, Nat.le_refl, true_or, or_true, b01_t, b01_f, b01_ok, bool_ft, vp_b01, vp_b0, vp_b1, b01_eq0, b01_eq1, implies_true, zneq, hN_ts, hN_to, hN_ns, hN_no, hN_rs, hN_ro, SN_s, SN_o, zur_t, zur_n, zur_rs, zur_rk, zur_ro, nI_add, nI_clamp, zi_in, zi_le_t, zi_le_f, zi_lt_t, zi_lt_f, zi_eq_t, zi_eq_f, nI_leI, nI_ltI, nI_eq, z_in, pk_mul, zu_same, zu_rw, zu_ix, zi_ne0, zi_sub, zi_m1, Nat.add_sub_cancel, Nat.reduceMul, Nat.reduceSub]
  refine zC.ofN (zJ5_init (a := ta + 1 + 1) (by rw [hVE]; exact hd) hN_ts) (by omega) (by omega) (by omega) ?_
  rintro _ _ ⟨rfl, rfl⟩
  refine sX4_init_23 _ _ _ _ _ ?_
  simp (disch := omega) only [oAld, oCI, oDup, oNew, oPR, ht, hVc, hVs, List.getElem?_cons_zero, List.getElem?_cons_succ, List.set_cons_zero, List.set_cons_succ, List.drop_succ_cons, List.drop_zero, List.take_succ_cons, List.take_zero, List.length_cons, List.length_nil, List.reverse_cons, List.reverse_nil, List.nil_append, List.cons_append, Option.toList_some, Option.toList_none, va_rf_s, true_and, and_true, true_implies, false_implies, not_true_eq_false, not_false_eq_true, Nat.reduceAdd, Nat.reduceLeDiff, Nat.le_add_left, Nat.zero_le, Nat.le_refl, true_or, or_true, b01_t, b01_f, b01_ok, bool_ft, vp_b01, vp_b0, vp_b1, b01_eq0, b01_eq1, implies_true, zneq, hN_ts, hN_to, hN_ns, hN_no, hN_rs, hN_ro, SN_s, SN_o, zur_t, zur_n, zur_rs, zur_rk, zur_ro, nI_add, nI_clamp, zi_in, zi_le_t, zi_le_f, zi_lt_t, zi_lt_f, zi_eq_t, zi_eq_f, nI_leI, nI_ltI, nI_eq, z_in, pk_mul, zu_same, zu_rw, zu_ix, zi_ne0, zi_sub, zi_m1, Nat.add_sub_cancel, Nat.reduceMul, Nat.reduceSub]
  refine zC.ofN (zJ5_init (a := ta + 1 + 1 + 1) (by rw [hVE]; exact hd) hN_ts) (by omega) (by omega) (by omega) ?_
  rintro _ _ ⟨rfl, rfl⟩
  refine sX4_init_34 _ _ _ _ _ ?_
  simp (disch := omega) only [oAld, oCI, oDup, oNew, oPR, ht, hVc, hVs, List.getElem?_cons_zero, List.getElem?_cons_succ, List.set_cons_zero, List.set_cons_succ, List.drop_succ_cons, List.drop_zero, List.take_succ_cons, List.take_zero, List.length_cons, List.length_nil, List.reverse_cons, List.reverse_nil, List.nil_append, List.cons_append, Option.toList_some, Option.toList_none, va_rf_s, true_and, and_true, true_implies, false_implies, not_true_eq_false, not_false_eq_true, Nat.reduceAdd, Nat.reduceLeDiff, Nat.le_add_left, Nat.zero_le, Nat.le_refl, true_or, or_true, b01_t, b01_f, b01_ok, bool_ft, vp_b01, vp_b0, vp_b1, b01_eq0, b01_eq1, implies_true, zneq, hN_ts, hN_to, hN_ns, hN_no, hN_rs, hN_ro, SN_s, SN_o, zur_t, zur_n, zur_rs, zur_rk, zur_ro, nI_add, nI_clamp, zi_in, zi_le_t, zi_le_f, zi_lt_t, zi_lt_f, zi_eq_t, zi_eq_f, nI_leI, nI_ltI, nI_eq, z_in, pk_mul, zu_same, zu_rw, zu_ix, zi_ne0, zi_sub, zi_m1, Nat.add_sub_cancel, Nat.reduceMul, Nat.reduceSub]
  refine zC.ofN (zJ5_init (a := ta + 1 + 1 + 1 + 1) (by rw [hVE]; exact hd) hN_ts) (by omega) (by omega) (by omega) ?_
  rintro _ _ ⟨rfl, rfl⟩
  refine sX4_init_45 _ _ _ _ _ ?_
  simp (disch := omega) only [oAld, oNewa, oPR, oPush, oRV, ht, hp4, hVc, hVs, List.getElem?_cons_zero, List.getElem?_cons_succ, List.set_cons_zero, List.set_cons_succ, List.drop_succ_cons, List.drop_zero, List.take_succ_cons, List.take_zero, List.length_cons, List.length_nil, List.reverse_cons, List.reverse_nil, List.nil_append, List.cons_append, Option.toList_some, Option.toList_none, va_rf_s, true_and, and_true, true_implies, false_implies, not_true_eq_false, not_false_eq_true, Nat.reduceAdd, Nat.reduceLeDiff, Nat.le_add_left, Nat.zero_le, Nat.le_refl, true_or, or_true, b01_t, b01_f, b01_ok, bool_ft, vp_b01, vp_b0, vp_b1, b01_eq0, b01_eq1, implies_true, zneq, hN_ts, hN_to, hN_ns, hN_no, hN_rs, hN_ro, SN_s, SN_o, zur_t, zur_n, zur_rs, zur_rk, zur_ro, nI_add, nI_clamp, zi_in, zi_le_t, zi_le_f, zi_lt_t, zi_lt_f, zi_eq_t, zi_eq_f, nI_leI, nI_ltI, nI_eq, z_in, pk_mul, zu_same, zu_rw, zu_ix, zi_ne0, zi_sub, zi_m1, Nat.add_sub_cancel, Nat.reduceMul, Nat.reduceSub]
  have hrow : ∀ j, j ≤ ta + 5 → SN (zu (SN (zu (SN (zu (SN (zu (SN S (ta + 1)) (ta + 1) 0 (nI 0)) (ta + 1 + 1)) (ta + 1 + 1) 0 (nI 0)) (ta + 1 + 1 + 1)) (ta + 1 + 1 + 1) 0 (nI 0)) (ta + 1 + 1 + 1 + 1)) (ta + 1 + 1 + 1 + 1) 0 (nI 0)) (ta + 1 + 1 + 1 + 1 + 1) j = if j ≤ ta then S j else fun _ => nI 0 := by
    intro j hj5
    funext i
    unfold SN zu
    by_cases hj : j ≤ ta
    · rw [if_pos hj]
      simp (disch := omega) only [show ¬ j = ta + 1 + 1 + 1 + 1 + 1 by omega, show ¬ j = ta + 1 + 1 + 1 + 1 by omega, show ¬ j = ta + 1 + 1 + 1 by omega, show ¬ j = ta + 1 + 1 by omega, show ¬ j = ta + 1 by omega, if_false, false_and]
    · rw [if_neg hj]
      have : j = ta + 1 ∨ j = ta + 1 + 1 ∨ j = ta + 1 + 1 + 1 ∨ j = ta + 1 + 1 + 1 + 1 ∨ j = ta + 1 + 1 + 1 + 1 + 1 := by omega
      rcases this with rfl | rfl | rfl | rfl | rfl
      · simp
      · simp
      · simp
      · simp
      · simp
  refine hVQ _ _ ⟨rfl, _, _, _, rfl, fun a ha => ⟨?_, ?_, ?_⟩, ⟨?_, fun k hk => ?_, ?_, ?_, ?_⟩, fun k hk => ?_, ?_, ?_, by omega, fun k hk h0 => ?_, fun k k' hk hk' hne h0 => ?_⟩
  · rw [zur_ne (by omega), hN_o (by omega), zur_ne (by omega), zur_ne (by omega), hN_o (by omega), zur_ne (by omega), zur_ne (by omega), hN_o (by omega), zur_ne (by omega), zur_ne (by omega), hN_o (by omega), zur_ne (by omega), zur_ne (by omega), hN_o (by omega)]
  · rw [hrow _ (by omega), if_pos (by omega)]
  · rw [LN_o (by omega), LN_o (by omega), LN_o (by omega), LN_o (by omega), LN_o (by omega)]
  · simp (disch := omega) only [zur_t, zur_n, zur_rs, zur_rk, zur_ro, hN_ts, hN_to, hN_ns, hN_no, hN_rs, hN_ro, va_rf_s]
    exact ht
  · have : k = 0 ∨ k = 1 ∨ k = 2 ∨ k = 3 := by omega
    rcases this with rfl | rfl | rfl | rfl
    · simp (disch := omega) only [zur_t, zur_n, zur_rs, zur_rk, zur_ro, hN_ts, hN_to, hN_ns, hN_no, hN_rs, hN_ro, va_rf_s]
    · simp (disch := omega) only [zur_t, zur_n, zur_rs, zur_rk, zur_ro, hN_ts, hN_to, hN_ns, hN_no, hN_rs, hN_ro, va_rf_s]
    · simp (disch := omega) only [zur_t, zur_n, zur_rs, zur_rk, zur_ro, hN_ts, hN_to, hN_ns, hN_no, hN_rs, hN_ro, va_rf_s]
    · simp (disch := omega) only [zur_t, zur_n, zur_rs, zur_rk, zur_ro, hN_ts, hN_to, hN_ns, hN_no, hN_rs, hN_ro, va_rf_s]
  · simp (disch := omega) only [zur_t, zur_n, zur_rs, zur_rk, zur_ro, hN_ts, hN_to, hN_ns, hN_no, hN_rs, hN_ro, va_rf_s]
  · simp (disch := omega) only [zur_t, zur_n, zur_rs, zur_rk, zur_ro, hN_ts, hN_to, hN_ns, hN_no, hN_rs, hN_ro, va_rf_s]
  · simp (disch := omega) only [zur_t, zur_n, zur_rs, zur_rk, zur_ro, hN_ts, hN_to, hN_ns, hN_no, hN_rs, hN_ro, va_rf_s]
  · have : k = 0 ∨ k = 1 ∨ k = 2 ∨ k = 3 := by omega
    rcases this with rfl | rfl | rfl | rfl
    · refine ⟨?_, by rw [hrow _ (by omega), if_neg (by omega)]; rfl, by show 0 ≤ 10; omega, fun _ => ?_, fun h0 => absurd rfl h0⟩
      · simp (disch := omega) only [zur_t, zur_n, zur_rs, zur_rk, zur_ro, hN_ts, hN_to, hN_ns, hN_no, hN_rs, hN_ro, va_rf_s]
      · simp (disch := omega) only [zur_t, zur_n, zur_rs, zur_rk, zur_ro, hN_ts, hN_to, hN_ns, hN_no, hN_rs, hN_ro, va_rf_s]
    · refine ⟨?_, by rw [hrow _ (by omega), if_neg (by omega)]; rfl, by show 0 ≤ 10; omega, fun _ => ?_, fun h0 => absurd rfl h0⟩
      · simp (disch := omega) only [zur_t, zur_n, zur_rs, zur_rk, zur_ro, hN_ts, hN_to, hN_ns, hN_no, hN_rs, hN_ro, va_rf_s]
      · simp (disch := omega) only [zur_t, zur_n, zur_rs, zur_rk, zur_ro, hN_ts, hN_to, hN_ns, hN_no, hN_rs, hN_ro, va_rf_s]
    · refine ⟨?_, by rw [hrow _ (by omega), if_neg (by omega)]; rfl, by show 0 ≤ 10; omega, fun _ => ?_, fun h0 => absurd rfl h0⟩
      · simp (disch := omega) only [zur_t, zur_n, zur_rs, zur_rk, zur_ro, hN_ts, hN_to, hN_ns, hN_no, hN_rs, hN_ro, va_rf_s]
      · simp (disch := omega) only [zur_t, zur_n, zur_rs, zur_rk, zur_ro, hN_ts, hN_to, hN_ns, hN_no, hN_rs, hN_ro, va_rf_s]
    · refine ⟨?_, by rw [hrow _ (by omega), if_neg (by omega)]; rfl, by show 0 ≤ 10; omega, fun _ => ?_, fun h0 => absurd rfl h0⟩
      · simp (disch := omega) only [zur_t, zur_n, zur_rs, zur_rk, zur_ro, hN_ts, hN_to, hN_ns, hN_no, hN_rs, hN_ro, va_rf_s]
      · simp (disch := omega) only [zur_t, zur_n, zur_rs, zur_rk, zur_ro, hN_ts, hN_to, hN_ns, hN_no, hN_rs, hN_ro, va_rf_s]
  · refine ⟨fun i hi => absurd hi (by show ¬ i < 0; omega), fun i hi => absurd hi (by show ¬ i < 0; omega), fun i hi => absurd hi (by show ¬ i < 0; omega), fun i hi => absurd hi (by show ¬ i < 0; omega), fun k hk => Or.inl ⟨rfl, ?_⟩⟩
    simp (disch := omega) only [zur_t, zur_n, zur_rs, zur_rk, zur_ro, hN_ts, hN_to, hN_ns, hN_no, hN_rs, hN_ro, va_rf_s]
  · rw [hrow _ (by omega), if_pos (Nat.le_refl _), hS]; exact ⟨rfl, rfl, rfl⟩
  · exact absurd (xn0 k) h0
  · exact absurd (xn0 k) h0
/-- a list of the text grows -/
theorem txP.add {k v z' : Nat} {h' : Nat → Option zSh} {S' : Nat → Nat → Int32} {L' : Nat → Nat → Int64} (hk : k < 4) (hp : txP z h S ta dE eA B x) (hn : xn x k < 10) (hv : v < z) (hg : lsG z h S L (ta + 1 + k) (xn x k) (eA k) v (z', h', S', L')) (hx : ∀ j, j < 4 → xn x' j = if j = k then xn x k + 1 else xn x j) (hxa : xA x' = xA x) (hxg : xG x' = xG x)
    (hit : ∀ eA' B', (∀ a, txd ta z eA x a → h' a = h a ∧ S' a = S a ∧ txd ta z' eA' x' a) → (∀ j i, B' j i = if j = k ∧ i = xn x k then v else B j i) → zr h' (ta + 5) = zr h (ta + 5) → txI h' S' (txd ta z' eA' x') B' (zr h' (ta + 5)) x') :
    ∃ eA' B', txP z' h' S' ta dE eA' B' x' ∧ z ≤ z' ∧ z' ≤ z + 1 ∧ ∀ a, a < ta → h' a = h a ∧ S' a = S a ∧ L' a = L a := by
  obtain ⟨⟨a1, a2, a3, a4, a5⟩, b, d, e, f, f2, f3⟩ := id hp
  obtain ⟨z2, h2, S2, L2, e', hX, hz, g1, g2, g3, g4, g5, g6, ⟨g7, g8⟩, g9, g10⟩ := hg
  cases hX
  have hzz : z ≤ z' ∧ z' ≤ z + 1 := by rcases hz with ⟨-, -, q⟩ | ⟨-, -, q⟩ <;> omega
  have he' : ta + 6 ≤ e' ∧ e' < z' := by
    rcases hz with ⟨q1, q2, q3⟩ | ⟨q1, q2, q3⟩
    · omega
    · have := f2 k hk q1; omega
  have hh : ∀ y, y < z → y ≠ ta + 1 + k → (xn x k ≠ 0 → y ≠ eA k) → zt h' y = zt h y ∧ zn h' y = zn h y ∧ zr h' y = zr h y := fun y h1 h3 h4 => by unfold zt zn zr; rw [g1 y h1 h3 h4]; exact ⟨rfl, rfl, rfl⟩
  have ne0 : ∀ y, y < ta + 6 → xn x k ≠ 0 → y ≠ eA k := fun y hy h0 => by have := f2 k hk h0; omega
  have fr : ∀ a, txd ta z eA x a → h' a = h a ∧ S' a = S a ∧ txd ta z' (fun j => if j = k then e' else eA j) x' a := fun a ha => by
    refine ⟨g1 a ha.2.1 (by have := ha.1; omega) (fun h0 => ha.2.2 k hk h0), g2 a ha.2.1 (by have := ha.1; omega), ha.1, by have := ha.2.1; omega, fun j hj h0 => ?_⟩
    show a ≠ if j = k then e' else eA j
    by_cases ej : j = k
    · rw [if_pos ej]
      rcases hz with ⟨q1, q2, q3⟩ | ⟨q1, q2, q3⟩
      · have := ha.2.1; omega
      · rw [q2]; exact ha.2.2 k hk q1
    · rw [if_neg ej]
      rw [hx j hj, if_neg ej] at h0
      exact ha.2.2 j hj h0
  have r5 : zr h' (ta + 5) = zr h (ta + 5) := (hh (ta + 5) (by omega) (by omega) (ne0 _ (by omega))).2.2
  refine ⟨fun j => if j = k then e' else eA j, fun j i => if j = k ∧ i = xn x k then v else B j i, ⟨⟨?_, fun j hj => ?_, ?_, ?_, ?_⟩, fun j hj => ?_, hit _ _ fr (fun _ _ => rfl) r5, ?_, by omega, fun j hj h0 => ?_, fun j j' hj hj' hne h0 h0' => ?_⟩, hzz.1, hzz.2, fun a ha => ⟨g1 a (by omega) (by omega) (ne0 _ (by omega)), g2 a (by omega) (by omega), g3 a (by omega)⟩⟩
  · rw [(hh ta (by omega) (by omega) (ne0 _ (by omega))).1]; exact a1
  · rw [(hh ta (by omega) (by omega) (ne0 _ (by omega))).2.2]; exact a2 j hj
  · rw [(hh ta (by omega) (by omega) (ne0 _ (by omega))).2.2]; exact a3
  · rw [(hh (ta + 5) (by omega) (by omega) (ne0 _ (by omega))).1]; exact a4
  · rw [(hh (ta + 5) (by omega) (by omega) (ne0 _ (by omega))).2.1]; exact a5
  · by_cases ej : j = k
    · subst ej
      have hxj : xn x' j = xn x j + 1 := by rw [hx j hj, if_pos rfl]
      refine ⟨g4, by rw [hxj]; exact g5, by omega, fun h0 => absurd h0 (by omega), fun _ => ?_⟩
      simp only [if_true]
      refine ⟨g6, g7, g8, fun i hi => ?_⟩
      by_cases ei : i = xn x j
      · rw [if_pos ⟨trivial, ei⟩, ei]; exact g10
      · rw [if_neg (fun q => ei q.2), g9 i (by omega)]
        obtain ⟨-, -, -, -, b5⟩ := b j hj
        exact (b5 (by omega)).2.2.2 i (by omega)
    · have hxj : xn x' j = xn x j := by rw [hx j hj, if_neg ej]
      obtain ⟨b1, b2, b3, b4, b5⟩ := b j hj
      have hq := hh (ta + 1 + j) (by omega) (by omega) (ne0 _ (by omega))
      refine ⟨by rw [hq.1]; exact b1, by rw [g2 _ (by omega) (by omega), hxj]; exact b2, by omega, fun h0 => by rw [hq.2.2]; exact b4 (by omega), fun h0 => ?_⟩
      rw [hxj] at h0
      obtain ⟨c1, c2, c3, c4⟩ := b5 h0
      have hej := f2 j hj h0
      have hq2 := hh (eA j) (by omega) (by omega) (fun h1 => f3 j k hj hk ej h0 h1)
      simp only [if_neg ej]
      refine ⟨by rw [hq.2.2]; exact c1, by rw [hq2.1]; exact c2, by rw [hq2.2.1]; exact c3, fun i hi => ?_⟩
      rw [if_neg (fun q => ej q.1), hq2.2.2]; exact c4 i (by omega)
  · rw [g2 ta (by omega) (by omega), hxg]; exact e
  · by_cases ej : j = k
    · simp only [if_pos ej]; exact he'
    · simp only [if_neg ej]
      rw [hx j hj, if_neg ej] at h0
      have := f2 j hj h0
      omega
  · have key : ∀ i, i < 4 → i ≠ k → xn x' i ≠ 0 → eA i ≠ e' := fun i hi hik hi0 => by
      rw [hx i hi, if_neg hik] at hi0
      rcases hz with ⟨q1, q2, q3⟩ | ⟨q1, q2, q3⟩
      · have := f2 i hi hi0; omega
      · rw [q2]; exact f3 i k hi hk hik hi0 q1
    by_cases ej : j = k
    · by_cases ej' : j' = k
      · omega
      · simp only [if_pos ej, if_neg ej']; exact fun q => key j' hj' ej' h0' q.symm
    · by_cases ej' : j' = k
      · simp only [if_neg ej, if_pos ej']; exact key j hj ej h0
      · simp only [if_neg ej, if_neg ej']
        rw [hx j hj, if_neg ej] at h0
        rw [hx j' hj', if_neg ej'] at h0'
        exact f3 j j' hj hj' hne h0 h0'
end FG
