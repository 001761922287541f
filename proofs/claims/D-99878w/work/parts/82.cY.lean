/-! the component: the best way to stand -/
section CY
variable {l : Launch} {E : zE} {z : Nat} {h : Nat → Option zSh} {S : Nat → Nat → Int32} {L : Nat → Nat → Int64} {c D ta : Nat} {t : ZT} {q0 T : Nat → Int32} {A : zTA}
theorem cnt_t {p : Nat → Bool} {n : Nat} (h : p n = true) : cntN p (n + 1) = cntN p n + 1 := by rw [cntN, if_pos h]
theorem cnt_f {p : Nat → Bool} {n : Nat} (h : ¬ p n = true) : cntN p (n + 1) = cntN p n := by rw [cntN, if_neg h]
theorem zX0_litSoFar (hQ : cQ h S c z D ta t q0 A T) {la : Nat → Int32} (hla : ∀ j, j < tnc t → S (c + 72) j = la j) : zM l E 3 YX0_litSoFar [.ref c] (z, h, S, L) 0 0 (fun r X => r = some (.int (nI (cntN (fun s => decide (tlo t s ≤ la (tone t s) + la (toth t s))) (tns t)))) ∧ X = (z, h, S, L)) (fun _ _ => False) := by
  obtain ⟨hB, hTa, hX, hT, hI, hTI⟩ := id hQ
  obtain ⟨h7, h10, h6, h5⟩ := hX.b
  refine zM.go rfl rfl (Nat.le_of_ble_eq_true rfl) (ls := [some (.ref c), none, none, none]) rfl ?_
  intro V hVl hVE hVd hVc hVs hVQ hVX
  have hp : ∀ s, (fun s => decide (tlo t s ≤ la (tone t s) + la (toth t s))) s = decide (tlo t s ≤ la (tone t s) + la (toth t s)) := fun _ => rfl
  generalize (fun s => decide (tlo t s ≤ la (tone t s) + la (toth t s))) = p at hVQ hp
  have loop : ∀ s, s ≤ tns t → ∀ x3, zW V YX0_litSoFar 4 [some (.ref c), some (.int (nI (cntN p s))), some (.int (nI s)), x3] [] (z, h, S, L) 0 0 := by
    refine z_down ?_ (fun s hs ih => ?_)
    · intro x3
      refine sX0_litSoFar_4 _ _ _ _ _ ?_
      simp (disch := omega) only [oAld, oCV, oIld, hB.k, List.getElem?_cons_zero, List.getElem?_cons_succ, List.set_cons_zero, List.set_cons_succ, List.drop_succ_cons, List.drop_zero, List.take_succ_cons, List.take_zero, List.length_cons, List.length_nil, List.reverse_cons, List.reverse_nil, List.nil_append, List.cons_append, Option.toList_some, Option.toList_none, va_rf_s, true_and, and_true, true_implies, false_implies, not_true_eq_false, not_false_eq_true, Nat.reduceAdd, Nat.reduceLeDiff, Nat.le_add_left, Nat.zero_le, Nat.le_refl, znew, true_or, or_true, b01_t, b01_f, b01_ok, bool_ft, vp_b01, vp_b0, vp_b1, b01_eq0, b01_eq1, implies_true, nI_add, nI_clamp, zi_in, zi_le_t, zi_le_f, zi_lt_t, zi_lt_f, zi_eq_t, zi_eq_f, nI_leI, nI_ltI, nI_eq, z_in, pk_mul, zu_same, zu_rw, zu_ix, zi_ne0, zi_sub, zi_m1, Nat.add_sub_cancel, Nat.reduceMul, Nat.reduceSub]
      refine zC.of0 (zX0_streets hQ) (by omega) (Nat.zero_le _) (Nat.zero_le _) ?_
      rintro _ _ ⟨rfl, rfl⟩
      refine sX0_litSoFar_9 _ _ _ _ _ ?_
      simp (disch := omega) only [oAld, oCV, oGR, oIfc, oIld, oRI, hB.k, hTa, hX.k, hX.r1, hX.z0, hX.z1, hX.z2, hX.z3, List.getElem?_cons_zero, List.getElem?_cons_succ, List.set_cons_zero, List.set_cons_succ, List.drop_succ_cons, List.drop_zero, List.take_succ_cons, List.take_zero, List.length_cons, List.length_nil, List.reverse_cons, List.reverse_nil, List.nil_append, List.cons_append, Option.toList_some, Option.toList_none, va_rf_s, true_and, and_true, true_implies, false_implies, not_true_eq_false, not_false_eq_true, Nat.reduceAdd, Nat.reduceLeDiff, Nat.le_add_left, Nat.zero_le, Nat.le_refl, znew, true_or, or_true, b01_t, b01_f, b01_ok, bool_ft, vp_b01, vp_b0, vp_b1, b01_eq0, b01_eq1, implies_true, nI_add, nI_clamp, zi_in, zi_le_t, zi_le_f, zi_lt_t, zi_lt_f, zi_eq_t, zi_eq_f, nI_leI, nI_ltI, nI_eq, z_in, pk_mul, zu_same, zu_rw, zu_ix, zi_ne0, zi_sub, zi_m1, Nat.add_sub_cancel, Nat.reduceMul, Nat.reduceSub]
      exact hVQ _ _ ⟨rfl, rfl⟩
    · intro x3
      obtain ⟨-, s1, s2, s3, s4, s5, s6, s7⟩ := hX.st hs
      have e1 := hla _ s5
      have e2 := hla _ s6
      refine sX0_litSoFar_4 _ _ _ _ _ ?_
      simp (disch := omega) only [oAld, oCV, oIld, hB.k, List.getElem?_cons_zero, List.getElem?_cons_succ, List.set_cons_zero, List.set_cons_succ, List.drop_succ_cons, List.drop_zero, List.take_succ_cons, List.take_zero, List.length_cons, List.length_nil, List.reverse_cons, List.reverse_nil, List.nil_append, List.cons_append, Option.toList_some, Option.toList_none, va_rf_s, true_and, and_true, true_implies, false_implies, not_true_eq_false, not_false_eq_true, Nat.reduceAdd, Nat.reduceLeDiff, Nat.le_add_left, Nat.zero_le, Nat.le_refl, znew, true_or, or_true, b01_t, b01_f, b01_ok, bool_ft, vp_b01, vp_b0, vp_b1, b01_eq0, b01_eq1, implies_true, nI_add, nI_clamp, zi_in, zi_le_t, zi_le_f, zi_lt_t, zi_lt_f, zi_eq_t, zi_eq_f, nI_leI, nI_ltI, nI_eq, z_in, pk_mul, zu_same, zu_rw, zu_ix, zi_ne0, zi_sub, zi_m1, Nat.add_sub_cancel, Nat.reduceMul, Nat.reduceSub]
      refine zC.of0 (zX0_streets hQ) (by omega) (Nat.zero_le _) (Nat.zero_le _) ?_
      rintro _ _ ⟨rfl, rfl⟩
      refine sX0_litSoFar_9 _ _ _ _ _ ?_
      simp (disch := omega) only [oAld, oCV, oGR, oIfc, oIld, oRI, hB.k, hTa, hX.k, hX.r1, hX.z0, hX.z1, hX.z2, hX.z3, List.getElem?_cons_zero, List.getElem?_cons_succ, List.set_cons_zero, List.set_cons_succ, List.drop_succ_cons, List.drop_zero, List.take_succ_cons, List.take_zero, List.length_cons, List.length_nil, List.reverse_cons, List.reverse_nil, List.nil_append, List.cons_append, Option.toList_some, Option.toList_none, va_rf_s, true_and, and_true, true_implies, false_implies, not_true_eq_false, not_false_eq_true, Nat.reduceAdd, Nat.reduceLeDiff, Nat.le_add_left, Nat.zero_le, Nat.le_refl, znew, true_or, or_true, b01_t, b01_f, b01_ok, bool_ft, vp_b01, vp_b0, vp_b1, b01_eq0, b01_eq1, implies_true, nI_add, nI_clamp, zi_in, zi_le_t, zi_le_f, zi_lt_t, zi_lt_f, zi_eq_t, zi_eq_f, nI_leI, nI_ltI, nI_eq, z_in, pk_mul, zu_same, zu_rw, zu_ix, zi_ne0, zi_sub, zi_m1, Nat.add_sub_cancel, Nat.reduceMul, Nat.reduceSub]
      refine zC.of0 (zJ5_get hX.l1 hs) (by omega) (Nat.zero_le _) (Nat.zero_le _) ?_
      rintro _ _ ⟨rfl, rfl⟩
      refine sX0_litSoFar_23 _ _ _ _ _ ?_
      simp (disch := omega) only [oAld, oAld1, oAst, oBin, oCast, oGI, oGR, oIfc, oIld, oInc, oIst, oNop, oPush, hB.k, hB.r16, hB.t16, hB.n16, s1, s2, s3, s4, e1, e2, List.getElem?_cons_zero, List.getElem?_cons_succ, List.set_cons_zero, List.set_cons_succ, List.drop_succ_cons, List.drop_zero, List.take_succ_cons, List.take_zero, List.length_cons, List.length_nil, List.reverse_cons, List.reverse_nil, List.nil_append, List.cons_append, Option.toList_some, Option.toList_none, va_rf_s, true_and, and_true, true_implies, false_implies, not_true_eq_false, not_false_eq_true, Nat.reduceAdd, Nat.reduceLeDiff, Nat.le_add_left, Nat.zero_le, Nat.le_refl, znew, true_or, or_true, b01_t, b01_f, b01_ok, bool_ft, vp_b01, vp_b0, vp_b1, b01_eq0, b01_eq1, implies_true, nI_add, nI_clamp, zi_in, zi_le_t, zi_le_f, zi_lt_t, zi_lt_f, zi_eq_t, zi_eq_f, nI_leI, nI_ltI, nI_eq, z_in, pk_mul, zu_same, zu_rw, zu_ix, zi_ne0, zi_sub, zi_m1, Nat.add_sub_cancel, Nat.reduceMul, Nat.reduceSub]
      refine ⟨fun h0 => ?_, fun h0 => ?_⟩
      · rw [cnt_f (by rw [hp]; simpa using fun q => (i_nle q) h0)] at ih; exact ih _
      · rw [cnt_t (by rw [hp]; simpa using i_le h0)] at ih; exact ih _
  refine sX0_litSoFar_0 _ _ _ _ _ ?_
  simp (disch := omega) only [oIst, oPush, List.getElem?_cons_zero, List.getElem?_cons_succ, List.set_cons_zero, List.set_cons_succ, List.drop_succ_cons, List.drop_zero, List.take_succ_cons, List.take_zero, List.length_cons, List.length_nil, List.reverse_cons, List.reverse_nil, List.nil_append, List.cons_append, Option.toList_some, Option.toList_none, va_rf_s, true_and, and_true, true_implies, false_implies, not_true_eq_false, not_false_eq_true, Nat.reduceAdd, Nat.reduceLeDiff, Nat.le_add_left, Nat.zero_le, Nat.le_refl, znew, true_or, or_true, b01_t, b01_f, b01_ok, bool_ft, vp_b01, vp_b0, vp_b1, b01_eq0, b01_eq1, implies_true, nI_add, nI_clamp, zi_in, zi_le_t, zi_le_f, zi_lt_t, zi_lt_f, zi_eq_t, zi_eq_f, nI_leI, nI_ltI, nI_eq, z_in, pk_mul, zu_same, zu_rw, zu_ix, zi_ne0, zi_sub, zi_m1, Nat.add_sub_cancel, Nat.reduceMul, Nat.reduceSub]
  exact loop 0 (by omega) _
end CY
