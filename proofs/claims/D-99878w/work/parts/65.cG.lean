/-! the component: lots, airs, an hour -/
section CG
variable {l : Launch} {E : zE} {z : Nat} {h : Nat → Option zSh} {S : Nat → Nat → Int32} {L : Nat → Nat → Int64} {ok : Nat → Prop} {D ta w : Nat} {t : ZT} {q0 T : Nat → Int32} {A : zTA} {sd : Int32}
theorem zX0_mixed (u v : Int32) (X : zX) : zM l E 0 YX0_mixed [.int u, .int v] X 0 0 (fun r X' => ∃ x, r = some (.int x) ∧ x = mixedF u v ∧ X' = X) (fun _ _ => False) := by
  refine zM.go rfl rfl (Nat.le_of_ble_eq_true rfl) (ls := [some (.int u), some (.int v), none]) rfl ?_
  intro V hVl hVE hVd hVc hVs hVQ hVX
  refine sX0_mixed_0 _ _ _ _ _ ?_
  simp (disch := omega) only [oBin, oIld, oIst, oPush, oRI, List.getElem?_cons_zero, List.getElem?_cons_succ, List.set_cons_zero, List.set_cons_succ, List.drop_succ_cons, List.drop_zero, List.take_succ_cons, List.take_zero, List.length_cons, List.length_nil, List.reverse_cons, List.reverse_nil, List.nil_append, List.cons_append, Option.toList_some, Option.toList_none, va_rf_s, true_and, and_true, true_implies, false_implies, not_true_eq_false, not_false_eq_true, Nat.reduceAdd, Nat.reduceLeDiff, Nat.le_add_left, Nat.zero_le, Nat.le_refl, znew, true_or, or_true, b01_t, b01_f, b01_ok, bool_ft, vp_b01, vp_b0, vp_b1, b01_eq0, b01_eq1, implies_true, nI_add, nI_clamp, zi_in, zi_le_t, zi_le_f, zi_lt_t, zi_lt_f, zi_eq_t, zi_eq_f, nI_leI, nI_ltI, nI_eq, z_in, pk_mul, zu_same, zu_rw, zu_ix, zi_ne0, zi_sub, zi_m1, Nat.add_sub_cancel, Nat.reduceMul, Nat.reduceSub]
  exact hVQ _ _ ⟨_, rfl, rfl, rfl⟩
theorem zX0_lot (u v : Int32) {n : Nat} (hn : 0 < n) (hn2 : n < 1000) (X : zX) : zM l E 1 YX0_lot [.int u, .int v, .int (nI n)] X 0 0 (fun r X' => ∃ x, r = some (.int x) ∧ x = lotF u v (nI n) ∧ X' = X) (fun _ _ => False) := by
  refine zM.go rfl rfl (Nat.le_of_ble_eq_true rfl) (ls := [some (.int u), some (.int v), some (.int (nI n))]) rfl ?_
  intro V hVl hVE hVd hVc hVs hVQ hVX
  refine sX0_lot_0 _ _ _ _ _ ?_
  simp (disch := omega) only [oCS, oIld, oPush, List.getElem?_cons_zero, List.getElem?_cons_succ, List.set_cons_zero, List.set_cons_succ, List.drop_succ_cons, List.drop_zero, List.take_succ_cons, List.take_zero, List.length_cons, List.length_nil, List.reverse_cons, List.reverse_nil, List.nil_append, List.cons_append, Option.toList_some, Option.toList_none, va_rf_s, true_and, and_true, true_implies, false_implies, not_true_eq_false, not_false_eq_true, Nat.reduceAdd, Nat.reduceLeDiff, Nat.le_add_left, Nat.zero_le, Nat.le_refl, znew, true_or, or_true, b01_t, b01_f, b01_ok, bool_ft, vp_b01, vp_b0, vp_b1, b01_eq0, b01_eq1, implies_true, nI_add, nI_clamp, zi_in, zi_le_t, zi_le_f, zi_lt_t, zi_lt_f, zi_eq_t, zi_eq_f, nI_leI, nI_ltI, nI_eq, z_in, pk_mul, zu_same, zu_rw, zu_ix, zi_ne0, zi_sub, zi_m1, Nat.add_sub_cancel, Nat.reduceMul, Nat.reduceSub]
  refine zC.of0 (zX0_mixed _ _ _) (by omega) (Nat.zero_le _) (Nat.zero_le _) ?_
  rintro _ _ ⟨x, rfl, hx, rfl⟩
  refine sX0_lot_7 _ _ _ _ _ ?_
  simp (disch := omega) only [oCS, oIld, List.getElem?_cons_zero, List.getElem?_cons_succ, List.set_cons_zero, List.set_cons_succ, List.drop_succ_cons, List.drop_zero, List.take_succ_cons, List.take_zero, List.length_cons, List.length_nil, List.reverse_cons, List.reverse_nil, List.nil_append, List.cons_append, Option.toList_some, Option.toList_none, va_rf_s, true_and, and_true, true_implies, false_implies, not_true_eq_false, not_false_eq_true, Nat.reduceAdd, Nat.reduceLeDiff, Nat.le_add_left, Nat.zero_le, Nat.le_refl, znew, true_or, or_true, b01_t, b01_f, b01_ok, bool_ft, vp_b01, vp_b0, vp_b1, b01_eq0, b01_eq1, implies_true, nI_add, nI_clamp, zi_in, zi_le_t, zi_le_f, zi_lt_t, zi_lt_f, zi_eq_t, zi_eq_f, nI_leI, nI_ltI, nI_eq, z_in, pk_mul, zu_same, zu_rw, zu_ix, zi_ne0, zi_sub, zi_m1, Nat.add_sub_cancel, Nat.reduceMul, Nat.reduceSub]
  refine zC.of0 (zX0_mixed _ _ _) (by omega) (Nat.zero_le _) (Nat.zero_le _) ?_
  rintro _ _ ⟨y, rfl, hy, rfl⟩
  refine sX0_lot_11 _ _ _ _ _ ?_
  simp (disch := omega) only [oBin, oDiv, oIld, oPush, oRI, List.getElem?_cons_zero, List.getElem?_cons_succ, List.set_cons_zero, List.set_cons_succ, List.drop_succ_cons, List.drop_zero, List.take_succ_cons, List.take_zero, List.length_cons, List.length_nil, List.reverse_cons, List.reverse_nil, List.nil_append, List.cons_append, Option.toList_some, Option.toList_none, va_rf_s, true_and, and_true, true_implies, false_implies, not_true_eq_false, not_false_eq_true, Nat.reduceAdd, Nat.reduceLeDiff, Nat.le_add_left, Nat.zero_le, Nat.le_refl, znew, true_or, or_true, b01_t, b01_f, b01_ok, bool_ft, vp_b01, vp_b0, vp_b1, b01_eq0, b01_eq1, implies_true, nI_add, nI_clamp, zi_in, zi_le_t, zi_le_f, zi_lt_t, zi_lt_f, zi_eq_t, zi_eq_f, nI_leI, nI_ltI, nI_eq, z_in, pk_mul, zu_same, zu_rw, zu_ix, zi_ne0, zi_sub, zi_m1, Nat.add_sub_cancel, Nat.reduceMul, Nat.reduceSub]
  refine hVQ _ _ ⟨_, rfl, ?_, rfl⟩
  rw [lotF, ← hx, ← hy]; rfl
theorem zX5_isDraught (hW : isTw h w) (hX : isTx h S ok D ta t q0 A) (hT : tw S w t sd T) : zM l E 2 YX5_isDraught [.ref w, .ref ta] (z, h, S, L) 0 0 (fun r X => ∃ c : Bool, r = some (.int (b01 c)) ∧ (c = true ↔ lotF sd (nI 4 * T 47) (nI 100) < tdr t) ∧ X = (z, h, S, L)) (fun _ _ => False) := by
  have e9 := hT.2.2.2.2.2.2.2.2.1
  have e10 := hT.2.2.2.2.2.2.2.2.2
  have g6 := hX.g.2.1
  refine zM.go rfl rfl (Nat.le_of_ble_eq_true rfl) (ls := [some (.ref w), some (.ref ta)]) rfl ?_
  intro V hVl hVE hVd hVc hVs hVQ hVX
  refine sX5_isDraught_0 _ _ _ _ _ ?_
  simp (disch := omega) only [oAld, oBin, oCS, oGI, oPush, hW.k, e9, e10, List.getElem?_cons_zero, List.getElem?_cons_succ, List.set_cons_zero, List.set_cons_succ, List.drop_succ_cons, List.drop_zero, List.take_succ_cons, List.take_zero, List.length_cons, List.length_nil, List.reverse_cons, List.reverse_nil, List.nil_append, List.cons_append, Option.toList_some, Option.toList_none, va_rf_s, true_and, and_true, true_implies, false_implies, not_true_eq_false, not_false_eq_true, Nat.reduceAdd, Nat.reduceLeDiff, Nat.le_add_left, Nat.zero_le, Nat.le_refl, znew, true_or, or_true, b01_t, b01_f, b01_ok, bool_ft, vp_b01, vp_b0, vp_b1, b01_eq0, b01_eq1, implies_true, nI_add, nI_clamp, zi_in, zi_le_t, zi_le_f, zi_lt_t, zi_lt_f, zi_eq_t, zi_eq_f, nI_leI, nI_ltI, nI_eq, z_in, pk_mul, zu_same, zu_rw, zu_ix, zi_ne0, zi_sub, zi_m1, Nat.add_sub_cancel, Nat.reduceMul, Nat.reduceSub]
  refine zC.of0 (zX0_lot _ _ (by omega) (by omega) _) (by omega) (Nat.zero_le _) (Nat.zero_le _) ?_
  rintro _ _ ⟨x, rfl, hx, rfl⟩
  refine sX5_isDraught_15 _ _ _ _ _ ?_
  simp (disch := omega) only [oAld, oGI, oIfc, oNop, oPush, oRZ, hX.k, g6, List.getElem?_cons_zero, List.getElem?_cons_succ, List.set_cons_zero, List.set_cons_succ, List.drop_succ_cons, List.drop_zero, List.take_succ_cons, List.take_zero, List.length_cons, List.length_nil, List.reverse_cons, List.reverse_nil, List.nil_append, List.cons_append, Option.toList_some, Option.toList_none, va_rf_s, true_and, and_true, true_implies, false_implies, not_true_eq_false, not_false_eq_true, Nat.reduceAdd, Nat.reduceLeDiff, Nat.le_add_left, Nat.zero_le, Nat.le_refl, znew, true_or, or_true, b01_t, b01_f, b01_ok, bool_ft, vp_b01, vp_b0, vp_b1, b01_eq0, b01_eq1, implies_true, nI_add, nI_clamp, zi_in, zi_le_t, zi_le_f, zi_lt_t, zi_lt_f, zi_eq_t, zi_eq_f, nI_leI, nI_ltI, nI_eq, z_in, pk_mul, zu_same, zu_rw, zu_ix, zi_ne0, zi_sub, zi_m1, Nat.add_sub_cancel, Nat.reduceMul, Nat.reduceSub]
  rw [← hx] at hVQ
  refine ⟨fun h1 => hVQ _ _ ⟨false, rfl, ?_, rfl⟩, fun h1 => hVQ _ _ ⟨true, rfl, ?_, rfl⟩⟩
  · exact ⟨fun q => absurd q (by decide), fun q => absurd q (Int32.not_lt.mpr h1)⟩
  · exact ⟨fun _ => Int32.not_le.mp h1, fun _ => rfl⟩
/-- what an air does: halves the glow at one corner -/
def blR (w ny : Nat) (T : Nat → Int32) (dy : Int32) (S S' : Nat → Nat → Int32) : Prop := (∀ a, a ≠ w + 2 → S' a = S a) ∧ ∀ j, j < 6 → S' (w + 2) j = if j < ny ∧ T j = dy then S (w + 2) j / nI 2 else S (w + 2) j
/-- what a town keeps while its glow is changed -/
def twG (S : Nat → Nat → Int32) (w : Nat) (t : ZT) (sd : Int32) (T : Nat → Int32) : Prop := (∀ y, y < 6 → S (w + 1) y = if y < tny t then T y else -1) ∧ S w 9 = T 47 ∧ S w 10 = sd
theorem twG.dr (hX : isTx h S ok D ta t q0 A) (hW : isTw h w) (hT : twG S w t sd T) : zM l E 2 YX5_isDraught [.ref w, .ref ta] (z, h, S, L) 0 0 (fun r X => ∃ c : Bool, r = some (.int (b01 c)) ∧ (c = true ↔ lotF sd (nI 4 * T 47) (nI 100) < tdr t) ∧ X = (z, h, S, L)) (fun _ _ => False) := by
  have e9 := hT.2.1
  have e10 := hT.2.2
  have g6 := hX.g.2.1
  refine zM.go rfl rfl (Nat.le_of_ble_eq_true rfl) (ls := [some (.ref w), some (.ref ta)]) rfl ?_
  intro V hVl hVE hVd hVc hVs hVQ hVX
  refine sX5_isDraught_0 _ _ _ _ _ ?_
  simp (disch := omega) only [oAld, oBin, oCS, oGI, oPush, hW.k, e9, e10, List.getElem?_cons_zero, List.getElem?_cons_succ, List.set_cons_zero, List.set_cons_succ, List.drop_succ_cons, List.drop_zero, List.take_succ_cons, List.take_zero, List.length_cons, List.length_nil, List.reverse_cons, List.reverse_nil, List.nil_append, List.cons_append, Option.toList_some, Option.toList_none, va_rf_s, true_and, and_true, true_implies, false_implies, not_true_eq_false, not_false_eq_true, Nat.reduceAdd, Nat.reduceLeDiff, Nat.le_add_left, Nat.zero_le, Nat.le_refl, znew, true_or, or_true, b01_t, b01_f, b01_ok, bool_ft, vp_b01, vp_b0, vp_b1, b01_eq0, b01_eq1, implies_true, nI_add, nI_clamp, zi_in, zi_le_t, zi_le_f, zi_lt_t, zi_lt_f, zi_eq_t, zi_eq_f, nI_leI, nI_ltI, nI_eq, z_in, pk_mul, zu_same, zu_rw, zu_ix, zi_ne0, zi_sub, zi_m1, Nat.add_sub_cancel, Nat.reduceMul, Nat.reduceSub]
  refine zC.of0 (zX0_lot _ _ (by omega) (by omega) _) (by omega) (Nat.zero_le _) (Nat.zero_le _) ?_
  rintro _ _ ⟨x, rfl, hx, rfl⟩
  refine sX5_isDraught_15 _ _ _ _ _ ?_
  simp (disch := omega) only [oAld, oGI, oIfc, oNop, oPush, oRZ, hX.k, g6, List.getElem?_cons_zero, List.getElem?_cons_succ, List.set_cons_zero, List.set_cons_succ, List.drop_succ_cons, List.drop_zero, List.take_succ_cons, List.take_zero, List.length_cons, List.length_nil, List.reverse_cons, List.reverse_nil, List.nil_append, List.cons_append, Option.toList_some, Option.toList_none, va_rf_s, true_and, and_true, true_implies, false_implies, not_true_eq_false, not_false_eq_true, Nat.reduceAdd, Nat.reduceLeDiff, Nat.le_add_left, Nat.zero_le, Nat.le_refl, znew, true_or, or_true, b01_t, b01_f, b01_ok, bool_ft, vp_b01, vp_b0, vp_b1, b01_eq0, b01_eq1, implies_true, nI_add, nI_clamp, zi_in, zi_le_t, zi_le_f, zi_lt_t, zi_lt_f, zi_eq_t, zi_eq_f, nI_leI, nI_ltI, nI_eq, z_in, pk_mul, zu_same, zu_rw, zu_ix, zi_ne0, zi_sub, zi_m1, Nat.add_sub_cancel, Nat.reduceMul, Nat.reduceSub]
  rw [← hx] at hVQ
  refine ⟨fun h1 => hVQ _ _ ⟨false, rfl, ?_, rfl⟩, fun h1 => hVQ _ _ ⟨true, rfl, ?_, rfl⟩⟩
  · exact ⟨fun q => absurd q (by decide), fun q => absurd q (Int32.not_lt.mpr h1)⟩
  · exact ⟨fun _ => Int32.not_le.mp h1, fun _ => rfl⟩
theorem blR.no {dy : Int32} (h7 : tnc t ≤ 7) (hI : rI t T) (hdy : dy = -1) : blR w (tny t) T dy S S := by
  refine ⟨fun _ _ => rfl, fun j hj => ?_⟩
  by_cases hjn : j < tny t ∧ T j = dy
  · obtain ⟨at', hC⟩ := hI.2.2.2.2.1
    obtain ⟨e, hc⟩ := hC j hjn.1
    have : nI (at' j) = -1 := by rw [← e, hjn.2, hdy]
    exact absurd this (nI_nm1 (by omega))
  · rw [if_neg hjn]
theorem zX9_blows {a : Nat} (h7 : tnc t ≤ 7) (hI : rI t T) : zM l E 0 YX9_blows [.ref a, .ref w, .ref ta] (z, h, S, L) 0 0 (fun r X => r = none ∧ ∃ S', X = (z, h, S', L) ∧ blR w (tny t) T (draftyF T sd (nI 1) (tnc t) (tdr t)) S S') (fun _ _ => False) := by
  refine zM.go rfl rfl (Nat.le_of_ble_eq_true rfl) (ls := [some (.ref a), some (.ref w), some (.ref ta)]) rfl ?_
  intro V hVl hVE hVd hVc hVs hVQ hVX
  refine sX9_blows_0 _ _ _ _ _ ?_
  simp (disch := omega) only [oRV, List.getElem?_cons_zero, List.getElem?_cons_succ, List.set_cons_zero, List.set_cons_succ, List.drop_succ_cons, List.drop_zero, List.take_succ_cons, List.take_zero, List.length_cons, List.length_nil, List.reverse_cons, List.reverse_nil, List.nil_append, List.cons_append, Option.toList_some, Option.toList_none, va_rf_s, true_and, and_true, true_implies, false_implies, not_true_eq_false, not_false_eq_true, Nat.reduceAdd, Nat.reduceLeDiff, Nat.le_add_left, Nat.zero_le, Nat.le_refl, znew, true_or, or_true, b01_t, b01_f, b01_ok, bool_ft, vp_b01, vp_b0, vp_b1, b01_eq0, b01_eq1, implies_true, nI_add, nI_clamp, zi_in, zi_le_t, zi_le_f, zi_lt_t, zi_lt_f, zi_eq_t, zi_eq_f, nI_leI, nI_ltI, nI_eq, z_in, pk_mul, zu_same, zu_rw, zu_ix, zi_ne0, zi_sub, zi_m1, Nat.add_sub_cancel, Nat.reduceMul, Nat.reduceSub]
  refine hVQ _ _ ⟨rfl, S, rfl, blR.no h7 hI ?_⟩
  rw [draftyF, if_neg (fun q => absurd q.1 (by decide))]
theorem zX8_blows {a : Nat} (hW : isTw h w) (hX : isTx h S ok D ta t q0 A) (hk : okW ok w) (hT : twG S w t sd T) (hI : rI t T) : zM l E 3 YX8_blows [.ref a, .ref w, .ref ta] (z, h, S, L) 0 0 (fun r X => r = none ∧ ∃ S', X = (z, h, S', L) ∧ blR w (tny t) T (draftyF T sd (nI 0) (tnc t) (tdr t)) S S') (fun _ _ => False) := by
  obtain ⟨h7, h10, h6, h5⟩ := hX.b
  have e9 := hT.2.1
  have e10 := hT.2.2
  refine zM.go rfl rfl (Nat.le_of_ble_eq_true rfl) (ls := [some (.ref a), some (.ref w), some (.ref ta), none, none]) rfl ?_
  intro V hVl hVE hVd hVc hVs hVQ hVX
  refine sX8_blows_0 _ _ _ _ _ ?_
  simp (disch := omega) only [oAld, oCV, hW.k, List.getElem?_cons_zero, List.getElem?_cons_succ, List.set_cons_zero, List.set_cons_succ, List.drop_succ_cons, List.drop_zero, List.take_succ_cons, List.take_zero, List.length_cons, List.length_nil, List.reverse_cons, List.reverse_nil, List.nil_append, List.cons_append, Option.toList_some, Option.toList_none, va_rf_s, true_and, and_true, true_implies, false_implies, not_true_eq_false, not_false_eq_true, Nat.reduceAdd, Nat.reduceLeDiff, Nat.le_add_left, Nat.zero_le, Nat.le_refl, znew, true_or, or_true, b01_t, b01_f, b01_ok, bool_ft, vp_b01, vp_b0, vp_b1, b01_eq0, b01_eq1, implies_true, nI_add, nI_clamp, zi_in, zi_le_t, zi_le_f, zi_lt_t, zi_lt_f, zi_eq_t, zi_eq_f, nI_leI, nI_ltI, nI_eq, z_in, pk_mul, zu_same, zu_rw, zu_ix, zi_ne0, zi_sub, zi_m1, Nat.add_sub_cancel, Nat.reduceMul, Nat.reduceSub]
  refine zC.of0 (twG.dr hX hW hT) (by omega) (Nat.zero_le _) (Nat.zero_le _) ?_
  rintro _ _ ⟨c, rfl, hc, rfl⟩
  cases c with
  | false =>
    refine sX8_blows_5 _ _ _ _ _ ?_
    simp (disch := omega) only [oAld, oCV, oGR, oIf, oRV, hX.k, hX.r0, hX.z0, hX.z1, hX.z2, hX.z3, List.getElem?_cons_zero, List.getElem?_cons_succ, List.set_cons_zero, List.set_cons_succ, List.drop_succ_cons, List.drop_zero, List.take_succ_cons, List.take_zero, List.length_cons, List.length_nil, List.reverse_cons, List.reverse_nil, List.nil_append, List.cons_append, Option.toList_some, Option.toList_none, va_rf_s, true_and, and_true, true_implies, false_implies, not_true_eq_false, not_false_eq_true, Nat.reduceAdd, Nat.reduceLeDiff, Nat.le_add_left, Nat.zero_le, Nat.le_refl, znew, true_or, or_true, b01_t, b01_f, b01_ok, bool_ft, vp_b01, vp_b0, vp_b1, b01_eq0, b01_eq1, implies_true, nI_add, nI_clamp, zi_in, zi_le_t, zi_le_f, zi_lt_t, zi_lt_f, zi_eq_t, zi_eq_f, nI_leI, nI_ltI, nI_eq, z_in, pk_mul, zu_same, zu_rw, zu_ix, zi_ne0, zi_sub, zi_m1, Nat.add_sub_cancel, Nat.reduceMul, Nat.reduceSub]
    refine hVQ _ _ ⟨rfl, S, rfl, blR.no h7 hI ?_⟩
    rw [draftyF, if_neg (fun q => absurd (hc.mpr q.2.2) (by decide))]
  | true =>
    refine sX8_blows_5 _ _ _ _ _ ?_
    simp (disch := omega) only [oAld, oCV, oGR, oIf, oRV, hX.k, hX.r0, hX.z0, hX.z1, hX.z2, hX.z3, List.getElem?_cons_zero, List.getElem?_cons_succ, List.set_cons_zero, List.set_cons_succ, List.drop_succ_cons, List.drop_zero, List.take_succ_cons, List.take_zero, List.length_cons, List.length_nil, List.reverse_cons, List.reverse_nil, List.nil_append, List.cons_append, Option.toList_some, Option.toList_none, va_rf_s, true_and, and_true, true_implies, false_implies, not_true_eq_false, not_false_eq_true, Nat.reduceAdd, Nat.reduceLeDiff, Nat.le_add_left, Nat.zero_le, Nat.le_refl, znew, true_or, or_true, b01_t, b01_f, b01_ok, bool_ft, vp_b01, vp_b0, vp_b1, b01_eq0, b01_eq1, implies_true, nI_add, nI_clamp, zi_in, zi_le_t, zi_le_f, zi_lt_t, zi_lt_f, zi_eq_t, zi_eq_f, nI_leI, nI_ltI, nI_eq, z_in, pk_mul, zu_same, zu_rw, zu_ix, zi_ne0, zi_sub, zi_m1, Nat.add_sub_cancel, Nat.reduceMul, Nat.reduceSub]
    refine zC.of0 (zJ5_size hX.l0) (by omega) (Nat.zero_le _) (Nat.zero_le _) ?_
    rintro _ _ ⟨rfl, rfl⟩
    by_cases h0 : tnc t = 0
    · refine sX8_blows_15 _ _ _ _ _ ?_
      simp (disch := omega) only [oAld, oBin, oCV, oGI, oGR, oIf, oPush, oRV, hW.k, hX.k, hX.r0, hX.z0, hX.z1, hX.z2, hX.z3, List.getElem?_cons_zero, List.getElem?_cons_succ, List.set_cons_zero, List.set_cons_succ, List.drop_succ_cons, List.drop_zero, List.take_succ_cons, List.take_zero, List.length_cons, List.length_nil, List.reverse_cons, List.reverse_nil, List.nil_append, List.cons_append, Option.toList_some, Option.toList_none, va_rf_s, true_and, and_true, true_implies, false_implies, not_true_eq_false, not_false_eq_true, Nat.reduceAdd, Nat.reduceLeDiff, Nat.le_add_left, Nat.zero_le, Nat.le_refl, znew, true_or, or_true, b01_t, b01_f, b01_ok, bool_ft, vp_b01, vp_b0, vp_b1, b01_eq0, b01_eq1, implies_true, nI_add, nI_clamp, zi_in, zi_le_t, zi_le_f, zi_lt_t, zi_lt_f, zi_eq_t, zi_eq_f, nI_leI, nI_ltI, nI_eq, z_in, pk_mul, zu_same, zu_rw, zu_ix, zi_ne0, zi_sub, zi_m1, Nat.add_sub_cancel, Nat.reduceMul, Nat.reduceSub]
      refine hVQ _ _ ⟨rfl, S, rfl, blR.no h7 hI ?_⟩
      rw [draftyF, if_neg (fun q => by omega)]
    · refine sX8_blows_15 _ _ _ _ _ ?_
      simp (disch := omega) only [oAld, oBin, oCV, oGI, oGR, oIf, oPush, oRV, hW.k, hX.k, hX.r0, hX.z0, hX.z1, hX.z2, hX.z3, e9, e10, List.getElem?_cons_zero, List.getElem?_cons_succ, List.set_cons_zero, List.set_cons_succ, List.drop_succ_cons, List.drop_zero, List.take_succ_cons, List.take_zero, List.length_cons, List.length_nil, List.reverse_cons, List.reverse_nil, List.nil_append, List.cons_append, Option.toList_some, Option.toList_none, va_rf_s, true_and, and_true, true_implies, false_implies, not_true_eq_false, not_false_eq_true, Nat.reduceAdd, Nat.reduceLeDiff, Nat.le_add_left, Nat.zero_le, Nat.le_refl, znew, true_or, or_true, b01_t, b01_f, b01_ok, bool_ft, vp_b01, vp_b0, vp_b1, b01_eq0, b01_eq1, implies_true, nI_add, nI_clamp, zi_in, zi_le_t, zi_le_f, zi_lt_t, zi_lt_f, zi_eq_t, zi_eq_f, nI_leI, nI_ltI, nI_eq, z_in, pk_mul, zu_same, zu_rw, zu_ix, zi_ne0, zi_sub, zi_m1, Nat.add_sub_cancel, Nat.reduceMul, Nat.reduceSub]
      refine zC.of0 (zJ5_size hX.l0) (by omega) (Nat.zero_le _) (Nat.zero_le _) ?_
      rintro _ _ ⟨rfl, rfl⟩
      refine sX8_blows_38 _ _ _ _ _ ?_
      simp (disch := omega) only [oCS, List.getElem?_cons_zero, List.getElem?_cons_succ, List.set_cons_zero, List.set_cons_succ, List.drop_succ_cons, List.drop_zero, List.take_succ_cons, List.take_zero, List.length_cons, List.length_nil, List.reverse_cons, List.reverse_nil, List.nil_append, List.cons_append, Option.toList_some, Option.toList_none, va_rf_s, true_and, and_true, true_implies, false_implies, not_true_eq_false, not_false_eq_true, Nat.reduceAdd, Nat.reduceLeDiff, Nat.le_add_left, Nat.zero_le, Nat.le_refl, znew, true_or, or_true, b01_t, b01_f, b01_ok, bool_ft, vp_b01, vp_b0, vp_b1, b01_eq0, b01_eq1, implies_true, nI_add, nI_clamp, zi_in, zi_le_t, zi_le_f, zi_lt_t, zi_lt_f, zi_eq_t, zi_eq_f, nI_leI, nI_ltI, nI_eq, z_in, pk_mul, zu_same, zu_rw, zu_ix, zi_ne0, zi_sub, zi_m1, Nat.add_sub_cancel, Nat.reduceMul, Nat.reduceSub]
      refine zC.of0 (zX0_lot _ _ (by omega) (by omega) _) (by omega) (Nat.zero_le _) (Nat.zero_le _) ?_
      rintro _ _ ⟨dy, rfl, hdy, rfl⟩
      have edy : draftyF T sd (nI 0) (tnc t) (tdr t) = dy := by
        rw [draftyF, if_pos ⟨rfl, by omega, hc.mp rfl⟩, hdy]
      rw [edy] at hVQ
      have loop : ∀ p, p ≤ tny t → ∀ S1 : Nat → Nat → Int32, (∀ a, a ≠ w + 2 → S1 a = S a) → (∀ j, j < 6 → S1 (w + 2) j = if j < p ∧ T j = dy then S (w + 2) j / nI 2 else S (w + 2) j) → zW V YX8_blows 45 [some (.ref a), some (.ref w), some (.ref ta), some (.int dy), some (.int (nI p))] [] (z, h, S1, L) 0 0 := by
        refine z_down ?_ (fun p hp ih => ?_)
        · intro S1 hS1 hj
          have hX1 : isTx h S1 ok D ta t q0 A := hX.fr (fun b hb => hS1 b (by have := hk b hb; omega)) (fun _ _ => rfl) (fun _ hb => hb)
          refine sX8_blows_45 _ _ _ _ _ ?_
          simp (disch := omega) only [oAld, oCV, oGR, oIld, hX.k, hX.r2, hX.z0, hX.z1, hX.z2, hX.z3, List.getElem?_cons_zero, List.getElem?_cons_succ, List.set_cons_zero, List.set_cons_succ, List.drop_succ_cons, List.drop_zero, List.take_succ_cons, List.take_zero, List.length_cons, List.length_nil, List.reverse_cons, List.reverse_nil, List.nil_append, List.cons_append, Option.toList_some, Option.toList_none, va_rf_s, true_and, and_true, true_implies, false_implies, not_true_eq_false, not_false_eq_true, Nat.reduceAdd, Nat.reduceLeDiff, Nat.le_add_left, Nat.zero_le, Nat.le_refl, znew, true_or, or_true, b01_t, b01_f, b01_ok, bool_ft, vp_b01, vp_b0, vp_b1, b01_eq0, b01_eq1, implies_true, nI_add, nI_clamp, zi_in, zi_le_t, zi_le_f, zi_lt_t, zi_lt_f, zi_eq_t, zi_eq_f, nI_leI, nI_ltI, nI_eq, z_in, pk_mul, zu_same, zu_rw, zu_ix, zi_ne0, zi_sub, zi_m1, Nat.add_sub_cancel, Nat.reduceMul, Nat.reduceSub]
          refine zC.of0 (zJ5_size hX1.l2) (by omega) (Nat.zero_le _) (Nat.zero_le _) ?_
          rintro _ _ ⟨rfl, rfl⟩
          refine sX8_blows_54 _ _ _ _ _ ?_
          simp (disch := omega) only [oAld, oAld1, oAst1, oDiv, oDup2, oGR, oIfc, oIld, oInc, oNop, oPush, oRV, hW.k, hW.r0, hW.t0, hW.n0, hW.r1, hW.t1, hW.n1, List.getElem?_cons_zero, List.getElem?_cons_succ, List.set_cons_zero, List.set_cons_succ, List.drop_succ_cons, List.drop_zero, List.take_succ_cons, List.take_zero, List.length_cons, List.length_nil, List.reverse_cons, List.reverse_nil, List.nil_append, List.cons_append, Option.toList_some, Option.toList_none, va_rf_s, true_and, and_true, true_implies, false_implies, not_true_eq_false, not_false_eq_true, Nat.reduceAdd, Nat.reduceLeDiff, Nat.le_add_left, Nat.zero_le, Nat.le_refl, znew, true_or, or_true, b01_t, b01_f, b01_ok, bool_ft, vp_b01, vp_b0, vp_b1, b01_eq0, b01_eq1, implies_true, nI_add, nI_clamp, zi_in, zi_le_t, zi_le_f, zi_lt_t, zi_lt_f, zi_eq_t, zi_eq_f, nI_leI, nI_ltI, nI_eq, z_in, pk_mul, zu_same, zu_rw, zu_ix, zi_ne0, zi_sub, zi_m1, Nat.add_sub_cancel, Nat.reduceMul, Nat.reduceSub]
          exact hVQ _ _ ⟨rfl, S1, rfl, hS1, hj⟩
        · intro S1 hS1 hj
          have hX1 : isTx h S1 ok D ta t q0 A := hX.fr (fun b hb => hS1 b (by have := hk b hb; omega)) (fun _ _ => rfl) (fun _ hb => hb)
          have e1 : S1 (w + 1) p = T p := by rw [hS1 _ (by omega), hT.1 p (by omega), if_pos hp]
          have e2 : S1 (w + 2) p = S (w + 2) p := by rw [hj p (by omega), if_neg (by omega)]
          refine sX8_blows_45 _ _ _ _ _ ?_
          simp (disch := omega) only [oAld, oCV, oGR, oIld, hX.k, hX.r2, hX.z0, hX.z1, hX.z2, hX.z3, List.getElem?_cons_zero, List.getElem?_cons_succ, List.set_cons_zero, List.set_cons_succ, List.drop_succ_cons, List.drop_zero, List.take_succ_cons, List.take_zero, List.length_cons, List.length_nil, List.reverse_cons, List.reverse_nil, List.nil_append, List.cons_append, Option.toList_some, Option.toList_none, va_rf_s, true_and, and_true, true_implies, false_implies, not_true_eq_false, not_false_eq_true, Nat.reduceAdd, Nat.reduceLeDiff, Nat.le_add_left, Nat.zero_le, Nat.le_refl, znew, true_or, or_true, b01_t, b01_f, b01_ok, bool_ft, vp_b01, vp_b0, vp_b1, b01_eq0, b01_eq1, implies_true, nI_add, nI_clamp, zi_in, zi_le_t, zi_le_f, zi_lt_t, zi_lt_f, zi_eq_t, zi_eq_f, nI_leI, nI_ltI, nI_eq, z_in, pk_mul, zu_same, zu_rw, zu_ix, zi_ne0, zi_sub, zi_m1, Nat.add_sub_cancel, Nat.reduceMul, Nat.reduceSub]
          refine zC.of0 (zJ5_size hX1.l2) (by omega) (Nat.zero_le _) (Nat.zero_le _) ?_
          rintro _ _ ⟨rfl, rfl⟩
          obtain ⟨gv, hgv⟩ : ∃ gv, gv = S (w + 2) p / nI 2 := ⟨_, rfl⟩
          by_cases hq : T p = dy
          · have hq' : (T p = dy) = True := eq_true hq
            refine sX8_blows_54 _ _ _ _ _ ?_
            simp (disch := omega) only [oAld, oAld1, oAst1, oDiv, oDup2, oGR, oIfc, oIld, oInc, oNop, oPush, oRV, hW.k, hW.r0, hW.t0, hW.n0, hW.r1, hW.t1, hW.n1, e1, e2, hq', List.getElem?_cons_zero, List.getElem?_cons_succ, List.set_cons_zero, List.set_cons_succ, List.drop_succ_cons, List.drop_zero, List.take_succ_cons, List.take_zero, List.length_cons, List.length_nil, List.reverse_cons, List.reverse_nil, List.nil_append, List.cons_append, Option.toList_some, Option.toList_none, va_rf_s, true_and, and_true, true_implies, false_implies, not_true_eq_false, not_false_eq_true, Nat.reduceAdd, Nat.reduceLeDiff, Nat.le_add_left, Nat.zero_le, Nat.le_refl, znew, true_or, or_true, b01_t, b01_f, b01_ok, bool_ft, vp_b01, vp_b0, vp_b1, b01_eq0, b01_eq1, implies_true, nI_add, nI_clamp, zi_in, zi_le_t, zi_le_f, zi_lt_t, zi_lt_f, zi_eq_t, zi_eq_f, nI_leI, nI_ltI, nI_eq, z_in, pk_mul, zu_same, zu_rw, zu_ix, zi_ne0, zi_sub, zi_m1, Nat.add_sub_cancel, Nat.reduceMul, Nat.reduceSub]
            refine ih _ (fun b hb => by rw [zu_rw _ _ hb]; exact hS1 b hb) (fun j hj6 => ?_)
            rw [zu_rowj]
            by_cases he : j = p
            · subst he
              rw [if_pos rfl, if_pos ⟨by omega, hq⟩]
            · rw [if_neg he, hj j hj6]
              by_cases h2 : j < p ∧ T j = dy
              · rw [if_pos h2, if_pos ⟨by omega, h2.2⟩]
              · rw [if_neg h2, if_neg (fun q => h2 ⟨by omega, q.2⟩)]
          · have hq' : (T p = dy) = False := eq_false hq
            refine sX8_blows_54 _ _ _ _ _ ?_
            simp (disch := omega) only [oAld, oAld1, oAst1, oDiv, oDup2, oGR, oIfc, oIld, oInc, oNop, oPush, oRV, hW.k, hW.r0, hW.t0, hW.n0, hW.r1, hW.t1, hW.n1, e1, e2, hq', List.getElem?_cons_zero, List.getElem?_cons_succ, List.set_cons_zero, List.set_cons_succ, List.drop_succ_cons, List.drop_zero, List.take_succ_cons, List.take_zero, List.length_cons, List.length_nil, List.reverse_cons, List.reverse_nil, List.nil_append, List.cons_append, Option.toList_some, Option.toList_none, va_rf_s, true_and, and_true, true_implies, false_implies, not_true_eq_false, not_false_eq_true, Nat.reduceAdd, Nat.reduceLeDiff, Nat.le_add_left, Nat.zero_le, Nat.le_refl, znew, true_or, or_true, b01_t, b01_f, b01_ok, bool_ft, vp_b01, vp_b0, vp_b1, b01_eq0, b01_eq1, implies_true, nI_add, nI_clamp, zi_in, zi_le_t, zi_le_f, zi_lt_t, zi_lt_f, zi_eq_t, zi_eq_f, nI_leI, nI_ltI, nI_eq, z_in, pk_mul, zu_same, zu_rw, zu_ix, zi_ne0, zi_sub, zi_m1, Nat.add_sub_cancel, Nat.reduceMul, Nat.reduceSub]
            refine ih S1 hS1 (fun j hj6 => ?_)
            rw [hj j hj6]
            by_cases h2 : j < p ∧ T j = dy
            · rw [if_pos h2, if_pos ⟨by omega, h2.2⟩]
            · rw [if_neg h2, if_neg (fun q => by
                by_cases he : j = p
                · subst he; exact hq q.2
                · exact h2 ⟨by omega, q.2⟩)]
      refine sX8_blows_41 _ _ _ _ _ ?_
      simp (disch := omega) only [oIst, oPush, List.getElem?_cons_zero, List.getElem?_cons_succ, List.set_cons_zero, List.set_cons_succ, List.drop_succ_cons, List.drop_zero, List.take_succ_cons, List.take_zero, List.length_cons, List.length_nil, List.reverse_cons, List.reverse_nil, List.nil_append, List.cons_append, Option.toList_some, Option.toList_none, va_rf_s, true_and, and_true, true_implies, false_implies, not_true_eq_false, not_false_eq_true, Nat.reduceAdd, Nat.reduceLeDiff, Nat.le_add_left, Nat.zero_le, Nat.le_refl, znew, true_or, or_true, b01_t, b01_f, b01_ok, bool_ft, vp_b01, vp_b0, vp_b1, b01_eq0, b01_eq1, implies_true, nI_add, nI_clamp, zi_in, zi_le_t, zi_le_f, zi_lt_t, zi_lt_f, zi_eq_t, zi_eq_f, nI_leI, nI_ltI, nI_eq, z_in, pk_mul, zu_same, zu_rw, zu_ix, zi_ne0, zi_sub, zi_m1, Nat.add_sub_cancel, Nat.reduceMul, Nat.reduceSub]
      exact loop 0 (by omega) S (fun _ _ => rfl) (fun j _ => by rw [if_neg (by omega)])
end CG
