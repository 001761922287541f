/-! the component: hours that would be, the brightest corner -/
theorem tw.sd {S : Nat → Nat → Int32} {w : Nat} {t : ZT} {sd : Int32} {T : Nat → Int32} (hT : tw S w t sd T) (v : Int32) : tw (zu S w 10 v) w t v T := by
  obtain ⟨h1, h2, h3, h4, h5, h6, h7, h8, h9, h10⟩ := hT
  refine ⟨fun i hi => ?_, fun i hi => ?_, fun i hi => ?_, fun i hi => ?_, fun i hi => ?_, ?_, ?_, fun hc => ?_, ?_, zu_same _ _ _ _⟩
  · rw [zu_rw _ _ (by omega)]; exact h1 _ hi
  · rw [zu_rw _ _ (by omega)]; exact h2 _ hi
  · rw [zu_rw _ _ (by omega)]; exact h3 _ hi
  · rw [zu_rw _ _ (by omega)]; exact h4 _ hi
  · rw [zu_rw _ _ (by omega), zu_rw _ _ (by omega)]; exact h5 _ hi
  · rw [zu_ix _ _ (by omega)]; exact h6
  · rw [zu_ix _ _ (by omega)]; exact h7
  · rw [zu_ix _ _ (by omega)]; exact h8 hc
  · rw [zu_ix _ _ (by omega)]; exact h9
section CO
variable {l : Launch} {E : zE} {z : Nat} {h : Nat → Option zSh} {S : Nat → Nat → Int32} {L : Nat → Nat → Int64} {c D ta : Nat} {t : ZT} {q0 T : Nat → Int32} {A : zTA} {B : Nat}
theorem zX0_darkens (hQ : cQ h S c z D ta t q0 A T) (hrB : rB T B) (hBn : B + 1000 < 2 ^ 29) (s : Int32) : zM l E (D + 6) YX0_darkens [.ref c, .int s] (z, h, S, L) 0 0 (fun r X => ∃ S', X = (z, h, S', L) ∧ cqF c S S' ∧ r = some (.int (darkensR t T s))) (fun _ _ => False) := by
  obtain ⟨hB, hTa, hX, hT, hI, hTI⟩ := id hQ
  obtain ⟨h7, h10, h6, h5⟩ := hX.b
  have hW := hB.tr
  have hk : okW (okR c z) (c + 26) := okR.w (by omega) (by omega)
  refine zM.go rfl rfl (Nat.le_of_ble_eq_true rfl) (ls := [some (.ref c), some (.int s), none]) rfl ?_
  intro V hVl hVE hVd hVc hVs hVQ hVX
  refine sX0_darkens_0 _ _ _ _ _ ?_
  simp (disch := omega) only [oAld, oCV, oIld, hB.k, List.getElem?_cons_zero, List.getElem?_cons_succ, List.set_cons_zero, List.set_cons_succ, List.drop_succ_cons, List.drop_zero, List.take_succ_cons, List.take_zero, List.length_cons, List.length_nil, List.reverse_cons, List.reverse_nil, List.nil_append, List.cons_append, Option.toList_some, Option.toList_none, va_rf_s, true_and, and_true, true_implies, false_implies, not_true_eq_false, not_false_eq_true, Nat.reduceAdd, Nat.reduceLeDiff, Nat.le_add_left, Nat.zero_le, Nat.le_refl, znew, true_or, or_true, b01_t, b01_f, b01_ok, bool_ft, vp_b01, vp_b0, vp_b1, b01_eq0, b01_eq1, implies_true, nI_add, nI_clamp, zi_in, zi_le_t, zi_le_f, zi_lt_t, zi_lt_f, zi_eq_t, zi_eq_f, nI_leI, nI_ltI, nI_eq, z_in, pk_mul, zu_same, zu_rw, zu_ix, zi_ne0, zi_sub, zi_m1, Nat.add_sub_cancel, Nat.reduceMul, Nat.reduceSub]
  refine zC.of0 (zX0_isStreet hQ _) (by omega) (Nat.zero_le _) (Nat.zero_le _) ?_
  rintro _ _ ⟨rfl, rfl⟩
  cases hok : okI s (tns t) with
  | false =>
    refine sX0_darkens_5 _ _ _ _ _ ?_
    simp (disch := omega) only [oAld, oCV, oGR, oIf, oPush, oRI, hB.k, hB.r8, hB.r7, hW.k, List.getElem?_cons_zero, List.getElem?_cons_succ, List.set_cons_zero, List.set_cons_succ, List.drop_succ_cons, List.drop_zero, List.take_succ_cons, List.take_zero, List.length_cons, List.length_nil, List.reverse_cons, List.reverse_nil, List.nil_append, List.cons_append, Option.toList_some, Option.toList_none, va_rf_s, true_and, and_true, true_implies, false_implies, not_true_eq_false, not_false_eq_true, Nat.reduceAdd, Nat.reduceLeDiff, Nat.le_add_left, Nat.zero_le, Nat.le_refl, znew, true_or, or_true, b01_t, b01_f, b01_ok, bool_ft, vp_b01, vp_b0, vp_b1, b01_eq0, b01_eq1, implies_true, nI_add, nI_clamp, zi_in, zi_le_t, zi_le_f, zi_lt_t, zi_lt_f, zi_eq_t, zi_eq_f, nI_leI, nI_ltI, nI_eq, z_in, pk_mul, zu_same, zu_rw, zu_ix, zi_ne0, zi_sub, zi_m1, Nat.add_sub_cancel, Nat.reduceMul, Nat.reduceSub]
    exact hVQ _ _ ⟨S, rfl, cqF.rf, by rw [darkensR, if_neg (by rw [hok]; decide)]⟩
  | true =>
    obtain ⟨j, hj, rfl⟩ := (okI_iff (by omega)).mp hok
    have loop : ∀ f y, y + f = 101 → ∀ S' R, cqF c S S' → tw S' (c + 26) t (tsd t) R → rI t R → rB R (B + y) → darkC t j f y R = darkC t j 101 0 T → zW V YX0_darkens 23 [some (.ref c), some (.int (nI j)), some (.int (nI y))] [] (z, h, S', L) 0 0 := by
      intro f
      induction f with
      | zero =>
        intro y hy S' R hF hT' hI' hrB' hd
        obtain rfl : y = 101 := by omega
        refine sX0_darkens_23 _ _ _ _ _ ?_
        simp (disch := omega) only [oAld, oCV, oGR, oIfc, oIld, oPush, oRI, hB.k, hB.r8, hTa, hW.k, List.getElem?_cons_zero, List.getElem?_cons_succ, List.set_cons_zero, List.set_cons_succ, List.drop_succ_cons, List.drop_zero, List.take_succ_cons, List.take_zero, List.length_cons, List.length_nil, List.reverse_cons, List.reverse_nil, List.nil_append, List.cons_append, Option.toList_some, Option.toList_none, va_rf_s, true_and, and_true, true_implies, false_implies, not_true_eq_false, not_false_eq_true, Nat.reduceAdd, Nat.reduceLeDiff, Nat.le_add_left, Nat.zero_le, Nat.le_refl, znew, true_or, or_true, b01_t, b01_f, b01_ok, bool_ft, vp_b01, vp_b0, vp_b1, b01_eq0, b01_eq1, implies_true, nI_add, nI_clamp, zi_in, zi_le_t, zi_le_f, zi_lt_t, zi_lt_f, zi_eq_t, zi_eq_f, nI_leI, nI_ltI, nI_eq, z_in, pk_mul, zu_same, zu_rw, zu_ix, zi_ne0, zi_sub, zi_m1, Nat.add_sub_cancel, Nat.reduceMul, Nat.reduceSub]
        exact hVQ _ _ ⟨S', rfl, hF, by rw [darkensR, if_pos hok, nI_clamp (by omega), ← hd]; rfl⟩
      | succ f ih =>
        intro y hy S' R hF hT' hI' hrB' hd
        have hX' := (hQ.fr hF).2.2.1
        refine sX0_darkens_23 _ _ _ _ _ ?_
        simp (disch := omega) only [oAld, oCV, oGR, oIfc, oIld, oPush, oRI, hB.k, hB.r8, hTa, hW.k, List.getElem?_cons_zero, List.getElem?_cons_succ, List.set_cons_zero, List.set_cons_succ, List.drop_succ_cons, List.drop_zero, List.take_succ_cons, List.take_zero, List.length_cons, List.length_nil, List.reverse_cons, List.reverse_nil, List.nil_append, List.cons_append, Option.toList_some, Option.toList_none, va_rf_s, true_and, and_true, true_implies, false_implies, not_true_eq_false, not_false_eq_true, Nat.reduceAdd, Nat.reduceLeDiff, Nat.le_add_left, Nat.zero_le, Nat.le_refl, znew, true_or, or_true, b01_t, b01_f, b01_ok, bool_ft, vp_b01, vp_b0, vp_b1, b01_eq0, b01_eq1, implies_true, nI_add, nI_clamp, zi_in, zi_le_t, zi_le_f, zi_lt_t, zi_lt_f, zi_eq_t, zi_eq_f, nI_leI, nI_ltI, nI_eq, z_in, pk_mul, zu_same, zu_rw, zu_ix, zi_ne0, zi_sub, zi_m1, Nat.add_sub_cancel, Nat.reduceMul, Nat.reduceSub]
        refine zC.of0 (zX5_needs hW hX' hT' hj) (by omega) (Nat.zero_le _) (Nat.zero_le _) ?_
        rintro _ _ ⟨rfl, rfl⟩
        refine sX0_darkens_41 _ _ _ _ _ ?_
        simp (disch := omega) only [oAld, oCV, oGR, oIf, oIld, oRI, hB.k, hB.r8, hTa, hB.r12, hW.k, List.getElem?_cons_zero, List.getElem?_cons_succ, List.set_cons_zero, List.set_cons_succ, List.drop_succ_cons, List.drop_zero, List.take_succ_cons, List.take_zero, List.length_cons, List.length_nil, List.reverse_cons, List.reverse_nil, List.nil_append, List.cons_append, Option.toList_some, Option.toList_none, va_rf_s, true_and, and_true, true_implies, false_implies, not_true_eq_false, not_false_eq_true, Nat.reduceAdd, Nat.reduceLeDiff, Nat.le_add_left, Nat.zero_le, Nat.le_refl, znew, true_or, or_true, b01_t, b01_f, b01_ok, bool_ft, vp_b01, vp_b0, vp_b1, b01_eq0, b01_eq1, implies_true, nI_add, nI_clamp, zi_in, zi_le_t, zi_le_f, zi_lt_t, zi_lt_f, zi_eq_t, zi_eq_f, nI_leI, nI_ltI, nI_eq, z_in, pk_mul, zu_same, zu_rw, zu_ix, zi_ne0, zi_sub, zi_m1, Nat.add_sub_cancel, Nat.reduceMul, Nat.reduceSub]
        rw [darkC] at hd
        refine ⟨fun h0 => ?_, fun h0 => ?_⟩
        · rw [if_neg (i_nle h0)] at hd
          refine zC.of0 (zX5_goesBy hW hX' hk hT' hI' hTI (Or.inr ⟨hB.si, rfl⟩)) (by omega) (Nat.zero_le _) (Nat.zero_le _) ?_
          rintro _ _ ⟨rfl, S2, rfl, hF2, hT2⟩
          obtain ⟨hI2, hrB2⟩ := rI_hour (st := nI 1) (sd := tsd t) h6 hI' hrB' (by omega)
          refine sX0_darkens_61 _ _ _ _ _ ?_
          simp (disch := omega) only [oInc, oNop, List.getElem?_cons_zero, List.getElem?_cons_succ, List.set_cons_zero, List.set_cons_succ, List.drop_succ_cons, List.drop_zero, List.take_succ_cons, List.take_zero, List.length_cons, List.length_nil, List.reverse_cons, List.reverse_nil, List.nil_append, List.cons_append, Option.toList_some, Option.toList_none, va_rf_s, true_and, and_true, true_implies, false_implies, not_true_eq_false, not_false_eq_true, Nat.reduceAdd, Nat.reduceLeDiff, Nat.le_add_left, Nat.zero_le, Nat.le_refl, znew, true_or, or_true, b01_t, b01_f, b01_ok, bool_ft, vp_b01, vp_b0, vp_b1, b01_eq0, b01_eq1, implies_true, nI_add, nI_clamp, zi_in, zi_le_t, zi_le_f, zi_lt_t, zi_lt_f, zi_eq_t, zi_eq_f, nI_leI, nI_ltI, nI_eq, z_in, pk_mul, zu_same, zu_rw, zu_ix, zi_ne0, zi_sub, zi_m1, Nat.add_sub_cancel, Nat.reduceMul, Nat.reduceSub]
          exact ih (y + 1) (by omega) S2 _ (hF.tr (cqF.t hF2)) hT2 hI2 hrB2 hd
        · rw [if_pos (i_lt h0)] at hd
          exact hVQ _ _ ⟨S', rfl, hF, by rw [darkensR, if_pos hok, nI_clamp (by omega), ← hd]⟩
    refine sX0_darkens_5 _ _ _ _ _ ?_
    simp (disch := omega) only [oAld, oCV, oGR, oIf, oPush, oRI, hB.k, hB.r8, hB.r7, hW.k, List.getElem?_cons_zero, List.getElem?_cons_succ, List.set_cons_zero, List.set_cons_succ, List.drop_succ_cons, List.drop_zero, List.take_succ_cons, List.take_zero, List.length_cons, List.length_nil, List.reverse_cons, List.reverse_nil, List.nil_append, List.cons_append, Option.toList_some, Option.toList_none, va_rf_s, true_and, and_true, true_implies, false_implies, not_true_eq_false, not_false_eq_true, Nat.reduceAdd, Nat.reduceLeDiff, Nat.le_add_left, Nat.zero_le, Nat.le_refl, znew, true_or, or_true, b01_t, b01_f, b01_ok, bool_ft, vp_b01, vp_b0, vp_b1, b01_eq0, b01_eq1, implies_true, nI_add, nI_clamp, zi_in, zi_le_t, zi_le_f, zi_lt_t, zi_lt_f, zi_eq_t, zi_eq_f, nI_leI, nI_ltI, nI_eq, z_in, pk_mul, zu_same, zu_rw, zu_ix, zi_ne0, zi_sub, zi_m1, Nat.add_sub_cancel, Nat.reduceMul, Nat.reduceSub]
    refine zC.of0 (zX5_takes hW hB.tn (Or.inl (by omega))) (by omega) (Nat.zero_le _) (Nat.zero_le _) ?_
    rintro _ _ ⟨rfl, S1, rfl, hF, hTT⟩
    refine sX0_darkens_21 _ _ _ _ _ ?_
    simp (disch := omega) only [oIst, oPush, List.getElem?_cons_zero, List.getElem?_cons_succ, List.set_cons_zero, List.set_cons_succ, List.drop_succ_cons, List.drop_zero, List.take_succ_cons, List.take_zero, List.length_cons, List.length_nil, List.reverse_cons, List.reverse_nil, List.nil_append, List.cons_append, Option.toList_some, Option.toList_none, va_rf_s, true_and, and_true, true_implies, false_implies, not_true_eq_false, not_false_eq_true, Nat.reduceAdd, Nat.reduceLeDiff, Nat.le_add_left, Nat.zero_le, Nat.le_refl, znew, true_or, or_true, b01_t, b01_f, b01_ok, bool_ft, vp_b01, vp_b0, vp_b1, b01_eq0, b01_eq1, implies_true, nI_add, nI_clamp, zi_in, zi_le_t, zi_le_f, zi_lt_t, zi_lt_f, zi_eq_t, zi_eq_f, nI_leI, nI_ltI, nI_eq, z_in, pk_mul, zu_same, zu_rw, zu_ix, zi_ne0, zi_sub, zi_m1, Nat.add_sub_cancel, Nat.reduceMul, Nat.reduceSub]
    exact loop 101 0 rfl S1 T (cqF.t hF) (hTT _ _ _ hT) hI hrB rfl
theorem zX0_glowIn (hQ : cQ h S c z D ta t q0 A T) (hrB : rB T B) (hBn : B + 1000 < 2 ^ 29) (y n : Int32) : zM l E (D + 7) YX0_glowIn [.ref c, .int y, .int n] (z, h, S, L) 0 0 (fun r X => ∃ S', X = (z, h, S', L) ∧ cqF c S S' ∧ r = some (.int (glowInR t T y n))) (fun _ _ => False) := by
  obtain ⟨hB, hTa, hX, hT, hI, hTI⟩ := id hQ
  obtain ⟨h7, h10, h6, h5⟩ := hX.b
  have hW := hB.tr
  refine zM.go rfl rfl (Nat.le_of_ble_eq_true rfl) (ls := [some (.ref c), some (.int y), some (.int n)]) rfl ?_
  intro V hVl hVE hVd hVc hVs hVQ hVX
  refine sX0_glowIn_0 _ _ _ _ _ ?_
  simp (disch := omega) only [oAld, oCV, oIld, hB.k, List.getElem?_cons_zero, List.getElem?_cons_succ, List.set_cons_zero, List.set_cons_succ, List.drop_succ_cons, List.drop_zero, List.take_succ_cons, List.take_zero, List.length_cons, List.length_nil, List.reverse_cons, List.reverse_nil, List.nil_append, List.cons_append, Option.toList_some, Option.toList_none, va_rf_s, true_and, and_true, true_implies, false_implies, not_true_eq_false, not_false_eq_true, Nat.reduceAdd, Nat.reduceLeDiff, Nat.le_add_left, Nat.zero_le, Nat.le_refl, znew, true_or, or_true, b01_t, b01_f, b01_ok, bool_ft, vp_b01, vp_b0, vp_b1, b01_eq0, b01_eq1, implies_true, nI_add, nI_clamp, zi_in, zi_le_t, zi_le_f, zi_lt_t, zi_lt_f, zi_eq_t, zi_eq_f, nI_leI, nI_ltI, nI_eq, z_in, pk_mul, zu_same, zu_rw, zu_ix, zi_ne0, zi_sub, zi_m1, Nat.add_sub_cancel, Nat.reduceMul, Nat.reduceSub]
  refine zC.of0 (zX0_isYoung hQ _) (by omega) (Nat.zero_le _) (Nat.zero_le _) ?_
  rintro _ _ ⟨rfl, rfl⟩
  cases hok : okI y (tny t) with
  | false =>
    refine sX0_glowIn_5 _ _ _ _ _ ?_
    simp (disch := omega) only [oCS, oIf, oIld, oPush, oRI, List.getElem?_cons_zero, List.getElem?_cons_succ, List.set_cons_zero, List.set_cons_succ, List.drop_succ_cons, List.drop_zero, List.take_succ_cons, List.take_zero, List.length_cons, List.length_nil, List.reverse_cons, List.reverse_nil, List.nil_append, List.cons_append, Option.toList_some, Option.toList_none, va_rf_s, true_and, and_true, true_implies, false_implies, not_true_eq_false, not_false_eq_true, Nat.reduceAdd, Nat.reduceLeDiff, Nat.le_add_left, Nat.zero_le, Nat.le_refl, znew, true_or, or_true, b01_t, b01_f, b01_ok, bool_ft, vp_b01, vp_b0, vp_b1, b01_eq0, b01_eq1, implies_true, nI_add, nI_clamp, zi_in, zi_le_t, zi_le_f, zi_lt_t, zi_lt_f, zi_eq_t, zi_eq_f, nI_leI, nI_ltI, nI_eq, z_in, pk_mul, zu_same, zu_rw, zu_ix, zi_ne0, zi_sub, zi_m1, Nat.add_sub_cancel, Nat.reduceMul, Nat.reduceSub]
    exact hVQ _ _ ⟨S, rfl, cqF.rf, by rw [glowInR, if_neg (fun q => by rw [hok] at q; exact absurd q.1 (by decide))]⟩
  | true =>
    refine sX0_glowIn_5 _ _ _ _ _ ?_
    simp (disch := omega) only [oCS, oIf, oIld, oPush, oRI, List.getElem?_cons_zero, List.getElem?_cons_succ, List.set_cons_zero, List.set_cons_succ, List.drop_succ_cons, List.drop_zero, List.take_succ_cons, List.take_zero, List.length_cons, List.length_nil, List.reverse_cons, List.reverse_nil, List.nil_append, List.cons_append, Option.toList_some, Option.toList_none, va_rf_s, true_and, and_true, true_implies, false_implies, not_true_eq_false, not_false_eq_true, Nat.reduceAdd, Nat.reduceLeDiff, Nat.le_add_left, Nat.zero_le, Nat.le_refl, znew, true_or, or_true, b01_t, b01_f, b01_ok, bool_ft, vp_b01, vp_b0, vp_b1, b01_eq0, b01_eq1, implies_true, nI_add, nI_clamp, zi_in, zi_le_t, zi_le_f, zi_lt_t, zi_lt_f, zi_eq_t, zi_eq_f, nI_leI, nI_ltI, nI_eq, z_in, pk_mul, zu_same, zu_rw, zu_ix, zi_ne0, zi_sub, zi_m1, Nat.add_sub_cancel, Nat.reduceMul, Nat.reduceSub]
    refine zC.of0 (zX0_isAhead _ _) (by omega) (Nat.zero_le _) (Nat.zero_le _) ?_
    rintro _ _ ⟨rfl, rfl⟩
    cases hn : okI n 73 with
    | false =>
      refine sX0_glowIn_12 _ _ _ _ _ ?_
      simp (disch := omega) only [oAld, oCV, oGR, oIf, oPush, oRI, hB.k, hB.r8, hB.r7, hW.k, List.getElem?_cons_zero, List.getElem?_cons_succ, List.set_cons_zero, List.set_cons_succ, List.drop_succ_cons, List.drop_zero, List.take_succ_cons, List.take_zero, List.length_cons, List.length_nil, List.reverse_cons, List.reverse_nil, List.nil_append, List.cons_append, Option.toList_some, Option.toList_none, va_rf_s, true_and, and_true, true_implies, false_implies, not_true_eq_false, not_false_eq_true, Nat.reduceAdd, Nat.reduceLeDiff, Nat.le_add_left, Nat.zero_le, Nat.le_refl, znew, true_or, or_true, b01_t, b01_f, b01_ok, bool_ft, vp_b01, vp_b0, vp_b1, b01_eq0, b01_eq1, implies_true, nI_add, nI_clamp, zi_in, zi_le_t, zi_le_f, zi_lt_t, zi_lt_f, zi_eq_t, zi_eq_f, nI_leI, nI_ltI, nI_eq, z_in, pk_mul, zu_same, zu_rw, zu_ix, zi_ne0, zi_sub, zi_m1, Nat.add_sub_cancel, Nat.reduceMul, Nat.reduceSub]
      exact hVQ _ _ ⟨S, rfl, cqF.rf, by rw [glowInR, if_neg (fun q => by rw [hn] at q; exact absurd q.2 (by decide))]⟩
    | true =>
      obtain ⟨j, hj, rfl⟩ := (okI_iff (by omega)).mp hok
      obtain ⟨m, hm, rfl⟩ := (okI_iff (by omega)).mp hn
      refine sX0_glowIn_12 _ _ _ _ _ ?_
      simp (disch := omega) only [oAld, oCV, oGR, oIf, oPush, oRI, hB.k, hB.r8, hB.r7, hW.k, List.getElem?_cons_zero, List.getElem?_cons_succ, List.set_cons_zero, List.set_cons_succ, List.drop_succ_cons, List.drop_zero, List.take_succ_cons, List.take_zero, List.length_cons, List.length_nil, List.reverse_cons, List.reverse_nil, List.nil_append, List.cons_append, Option.toList_some, Option.toList_none, va_rf_s, true_and, and_true, true_implies, false_implies, not_true_eq_false, not_false_eq_true, Nat.reduceAdd, Nat.reduceLeDiff, Nat.le_add_left, Nat.zero_le, Nat.le_refl, znew, true_or, or_true, b01_t, b01_f, b01_ok, bool_ft, vp_b01, vp_b0, vp_b1, b01_eq0, b01_eq1, implies_true, nI_add, nI_clamp, zi_in, zi_le_t, zi_le_f, zi_lt_t, zi_lt_f, zi_eq_t, zi_eq_f, nI_leI, nI_ltI, nI_eq, z_in, pk_mul, zu_same, zu_rw, zu_ix, zi_ne0, zi_sub, zi_m1, Nat.add_sub_cancel, Nat.reduceMul, Nat.reduceSub]
      refine zC.of0 (zX5_takes hW hB.tn (Or.inl (by omega))) (by omega) (Nat.zero_le _) (Nat.zero_le _) ?_
      rintro _ _ ⟨rfl, S1, rfl, hF, hTT⟩
      refine sX0_glowIn_28 _ _ _ _ _ ?_
      simp (disch := omega) only [oAld, oCV, oGR, oIld, hB.k, hB.r8, hB.r11, List.getElem?_cons_zero, List.getElem?_cons_succ, List.set_cons_zero, List.set_cons_succ, List.drop_succ_cons, List.drop_zero, List.take_succ_cons, List.take_zero, List.length_cons, List.length_nil, List.reverse_cons, List.reverse_nil, List.nil_append, List.cons_append, Option.toList_some, Option.toList_none, va_rf_s, true_and, and_true, true_implies, false_implies, not_true_eq_false, not_false_eq_true, Nat.reduceAdd, Nat.reduceLeDiff, Nat.le_add_left, Nat.zero_le, Nat.le_refl, znew, true_or, or_true, b01_t, b01_f, b01_ok, bool_ft, vp_b01, vp_b0, vp_b1, b01_eq0, b01_eq1, implies_true, nI_add, nI_clamp, zi_in, zi_le_t, zi_le_f, zi_lt_t, zi_lt_f, zi_eq_t, zi_eq_f, nI_leI, nI_ltI, nI_eq, z_in, pk_mul, zu_same, zu_rw, zu_ix, zi_ne0, zi_sub, zi_m1, Nat.add_sub_cancel, Nat.reduceMul, Nat.reduceSub]
      refine zC.of0 (zX0_runs hB hTa hTI hW (by omega) (by omega) (hQ.fr (cqF.t hF)).2.2.1 (hTT _ _ _ hT) hI hrB (show B + m < 2 ^ 29 by omega) (by omega) (Or.inl ⟨hB.dr, rfl⟩)) (by omega) (Nat.zero_le _) (Nat.zero_le _) ?_
      rintro _ _ ⟨rfl, S2, rfl, hF2, hT2⟩
      have e2 : S2 (c + 28) j = hoursT t (nI 0) (tsd t) m T (6 + j) := hT2.2.1 j (by omega)
      refine sX0_glowIn_41 _ _ _ _ _ ?_
      simp (disch := omega) only [oAld, oAld1, oGR, oIld, oRI, hB.k, hB.r8, hW.k, hW.r1, hW.t1, hW.n1, e2, List.getElem?_cons_zero, List.getElem?_cons_succ, List.set_cons_zero, List.set_cons_succ, List.drop_succ_cons, List.drop_zero, List.take_succ_cons, List.take_zero, List.length_cons, List.length_nil, List.reverse_cons, List.reverse_nil, List.nil_append, List.cons_append, Option.toList_some, Option.toList_none, va_rf_s, true_and, and_true, true_implies, false_implies, not_true_eq_false, not_false_eq_true, Nat.reduceAdd, Nat.reduceLeDiff, Nat.le_add_left, Nat.zero_le, Nat.le_refl, znew, true_or, or_true, b01_t, b01_f, b01_ok, bool_ft, vp_b01, vp_b0, vp_b1, b01_eq0, b01_eq1, implies_true, nI_add, nI_clamp, zi_in, zi_le_t, zi_le_f, zi_lt_t, zi_lt_f, zi_eq_t, zi_eq_f, nI_leI, nI_ltI, nI_eq, z_in, pk_mul, zu_same, zu_rw, zu_ix, zi_ne0, zi_sub, zi_m1, Nat.add_sub_cancel, Nat.reduceMul, Nat.reduceSub]
      exact hVQ _ _ ⟨S2, rfl, (cqF.t hF).tr (cqF.t hF2), by rw [glowInR, if_pos ⟨hok, hn⟩, nI_clamp (by omega), nI_clamp (by omega)]⟩
theorem zX0_then (hQ : cQ h S c z D ta t q0 A T) (hrB : rB T B) (hBn : B + 1000 < 2 ^ 29) (n what : Int32) : zM l E (D + 7) YX0_then [.ref c, .int n, .int what] (z, h, S, L) 0 0 (fun r X => ∃ S', X = (z, h, S', L) ∧ cqF c S S' ∧ r = some (.int (thenR t T n what))) (fun _ _ => False) := by
  obtain ⟨hB, hTa, hX, hT, hI, hTI⟩ := id hQ
  obtain ⟨h7, h10, h6, h5⟩ := hX.b
  have hW := hB.tr
  refine zM.go rfl rfl (Nat.le_of_ble_eq_true rfl) (ls := [some (.ref c), some (.int n), some (.int what)]) rfl ?_
  intro V hVl hVE hVd hVc hVs hVQ hVX
  refine sX0_then_0 _ _ _ _ _ ?_
  simp (disch := omega) only [oCS, oIld, List.getElem?_cons_zero, List.getElem?_cons_succ, List.set_cons_zero, List.set_cons_succ, List.drop_succ_cons, List.drop_zero, List.take_succ_cons, List.take_zero, List.length_cons, List.length_nil, List.reverse_cons, List.reverse_nil, List.nil_append, List.cons_append, Option.toList_some, Option.toList_none, va_rf_s, true_and, and_true, true_implies, false_implies, not_true_eq_false, not_false_eq_true, Nat.reduceAdd, Nat.reduceLeDiff, Nat.le_add_left, Nat.zero_le, Nat.le_refl, znew, true_or, or_true, b01_t, b01_f, b01_ok, bool_ft, vp_b01, vp_b0, vp_b1, b01_eq0, b01_eq1, implies_true, nI_add, nI_clamp, zi_in, zi_le_t, zi_le_f, zi_lt_t, zi_lt_f, zi_eq_t, zi_eq_f, nI_leI, nI_ltI, nI_eq, z_in, pk_mul, zu_same, zu_rw, zu_ix, zi_ne0, zi_sub, zi_m1, Nat.add_sub_cancel, Nat.reduceMul, Nat.reduceSub]
  refine zC.of0 (zX0_isAhead _ _) (by omega) (Nat.zero_le _) (Nat.zero_le _) ?_
  rintro _ _ ⟨rfl, rfl⟩
  cases hn : okI n 73 with
  | false =>
    refine sX0_then_4 _ _ _ _ _ ?_
    simp (disch := omega) only [oCS, oIf, oIld, oPush, oRI, List.getElem?_cons_zero, List.getElem?_cons_succ, List.set_cons_zero, List.set_cons_succ, List.drop_succ_cons, List.drop_zero, List.take_succ_cons, List.take_zero, List.length_cons, List.length_nil, List.reverse_cons, List.reverse_nil, List.nil_append, List.cons_append, Option.toList_some, Option.toList_none, va_rf_s, true_and, and_true, true_implies, false_implies, not_true_eq_false, not_false_eq_true, Nat.reduceAdd, Nat.reduceLeDiff, Nat.le_add_left, Nat.zero_le, Nat.le_refl, znew, true_or, or_true, b01_t, b01_f, b01_ok, bool_ft, vp_b01, vp_b0, vp_b1, b01_eq0, b01_eq1, implies_true, nI_add, nI_clamp, zi_in, zi_le_t, zi_le_f, zi_lt_t, zi_lt_f, zi_eq_t, zi_eq_f, nI_leI, nI_ltI, nI_eq, z_in, pk_mul, zu_same, zu_rw, zu_ix, zi_ne0, zi_sub, zi_m1, Nat.add_sub_cancel, Nat.reduceMul, Nat.reduceSub]
    exact hVQ _ _ ⟨S, rfl, cqF.rf, by rw [thenR, if_neg (fun q => by rw [hn] at q; exact absurd q.1 (by decide))]⟩
  | true =>
    obtain ⟨m, hm, rfl⟩ := (okI_iff (by omega)).mp hn
    refine sX0_then_4 _ _ _ _ _ ?_
    simp (disch := omega) only [oCS, oIf, oIld, oPush, oRI, List.getElem?_cons_zero, List.getElem?_cons_succ, List.set_cons_zero, List.set_cons_succ, List.drop_succ_cons, List.drop_zero, List.take_succ_cons, List.take_zero, List.length_cons, List.length_nil, List.reverse_cons, List.reverse_nil, List.nil_append, List.cons_append, Option.toList_some, Option.toList_none, va_rf_s, true_and, and_true, true_implies, false_implies, not_true_eq_false, not_false_eq_true, Nat.reduceAdd, Nat.reduceLeDiff, Nat.le_add_left, Nat.zero_le, Nat.le_refl, znew, true_or, or_true, b01_t, b01_f, b01_ok, bool_ft, vp_b01, vp_b0, vp_b1, b01_eq0, b01_eq1, implies_true, nI_add, nI_clamp, zi_in, zi_le_t, zi_le_f, zi_lt_t, zi_lt_f, zi_eq_t, zi_eq_f, nI_leI, nI_ltI, nI_eq, z_in, pk_mul, zu_same, zu_rw, zu_ix, zi_ne0, zi_sub, zi_m1, Nat.add_sub_cancel, Nat.reduceMul, Nat.reduceSub]
    refine zC.of0 (zX0_isIn _ _ _ _) (by omega) (Nat.zero_le _) (Nat.zero_le _) ?_
    rintro _ _ ⟨rfl, rfl⟩
    rw [okI_dec2 (by omega)]
    cases hw : okI what (1 + 1) with
    | false =>
      refine sX0_then_13 _ _ _ _ _ ?_
      simp (disch := omega) only [oAld, oCV, oGR, oIf, oPush, oRI, hB.k, hB.r8, hB.r7, hW.k, List.getElem?_cons_zero, List.getElem?_cons_succ, List.set_cons_zero, List.set_cons_succ, List.drop_succ_cons, List.drop_zero, List.take_succ_cons, List.take_zero, List.length_cons, List.length_nil, List.reverse_cons, List.reverse_nil, List.nil_append, List.cons_append, Option.toList_some, Option.toList_none, va_rf_s, true_and, and_true, true_implies, false_implies, not_true_eq_false, not_false_eq_true, Nat.reduceAdd, Nat.reduceLeDiff, Nat.le_add_left, Nat.zero_le, Nat.le_refl, znew, true_or, or_true, b01_t, b01_f, b01_ok, bool_ft, vp_b01, vp_b0, vp_b1, b01_eq0, b01_eq1, implies_true, nI_add, nI_clamp, zi_in, zi_le_t, zi_le_f, zi_lt_t, zi_lt_f, zi_eq_t, zi_eq_f, nI_leI, nI_ltI, nI_eq, z_in, pk_mul, zu_same, zu_rw, zu_ix, zi_ne0, zi_sub, zi_m1, Nat.add_sub_cancel, Nat.reduceMul, Nat.reduceSub]
      exact hVQ _ _ ⟨S, rfl, cqF.rf, by rw [thenR, if_neg (fun q => by rw [hw] at q; exact absurd q.2 (by decide))]⟩
    | true =>
      refine sX0_then_13 _ _ _ _ _ ?_
      simp (disch := omega) only [oAld, oCV, oGR, oIf, oPush, oRI, hB.k, hB.r8, hB.r7, hW.k, List.getElem?_cons_zero, List.getElem?_cons_succ, List.set_cons_zero, List.set_cons_succ, List.drop_succ_cons, List.drop_zero, List.take_succ_cons, List.take_zero, List.length_cons, List.length_nil, List.reverse_cons, List.reverse_nil, List.nil_append, List.cons_append, Option.toList_some, Option.toList_none, va_rf_s, true_and, and_true, true_implies, false_implies, not_true_eq_false, not_false_eq_true, Nat.reduceAdd, Nat.reduceLeDiff, Nat.le_add_left, Nat.zero_le, Nat.le_refl, znew, true_or, or_true, b01_t, b01_f, b01_ok, bool_ft, vp_b01, vp_b0, vp_b1, b01_eq0, b01_eq1, implies_true, nI_add, nI_clamp, zi_in, zi_le_t, zi_le_f, zi_lt_t, zi_lt_f, zi_eq_t, zi_eq_f, nI_leI, nI_ltI, nI_eq, z_in, pk_mul, zu_same, zu_rw, zu_ix, zi_ne0, zi_sub, zi_m1, Nat.add_sub_cancel, Nat.reduceMul, Nat.reduceSub]
      refine zC.of0 (zX5_takes hW hB.tn (Or.inl (by omega))) (by omega) (Nat.zero_le _) (Nat.zero_le _) ?_
      rintro _ _ ⟨rfl, S1, rfl, hF, hTT⟩
      refine sX0_then_29 _ _ _ _ _ ?_
      simp (disch := omega) only [oAld, oCV, oGR, oIld, hB.k, hB.r8, hB.r11, List.getElem?_cons_zero, List.getElem?_cons_succ, List.set_cons_zero, List.set_cons_succ, List.drop_succ_cons, List.drop_zero, List.take_succ_cons, List.take_zero, List.length_cons, List.length_nil, List.reverse_cons, List.reverse_nil, List.nil_append, List.cons_append, Option.toList_some, Option.toList_none, va_rf_s, true_and, and_true, true_implies, false_implies, not_true_eq_false, not_false_eq_true, Nat.reduceAdd, Nat.reduceLeDiff, Nat.le_add_left, Nat.zero_le, Nat.le_refl, znew, true_or, or_true, b01_t, b01_f, b01_ok, bool_ft, vp_b01, vp_b0, vp_b1, b01_eq0, b01_eq1, implies_true, nI_add, nI_clamp, zi_in, zi_le_t, zi_le_f, zi_lt_t, zi_lt_f, zi_eq_t, zi_eq_f, nI_leI, nI_ltI, nI_eq, z_in, pk_mul, zu_same, zu_rw, zu_ix, zi_ne0, zi_sub, zi_m1, Nat.add_sub_cancel, Nat.reduceMul, Nat.reduceSub]
      refine zC.of0 (zX0_runs hB hTa hTI hW (by omega) (by omega) (hQ.fr (cqF.t hF)).2.2.1 (hTT _ _ _ hT) hI hrB (show B + m < 2 ^ 29 by omega) (by omega) (Or.inl ⟨hB.dr, rfl⟩)) (by omega) (Nat.zero_le _) (Nat.zero_le _) ?_
      rintro _ _ ⟨rfl, S2, rfl, hF2, hT2⟩
      obtain ⟨hI2, -⟩ := rI_hours (st := nI 0) (sd := tsd t) h6 hI hrB m (by omega)
      have hF12 := (cqF.t hF).tr (cqF.t hF2)
      have e6 := hT2.2.2.2.2.2.1
      refine sX0_then_42 _ _ _ _ _ ?_
      simp (disch := omega) only [oAld, oCV, oGI, oGR, oIf, oIld, oRI, hB.k, hB.r8, hTa, hW.k, e6, List.getElem?_cons_zero, List.getElem?_cons_succ, List.set_cons_zero, List.set_cons_succ, List.drop_succ_cons, List.drop_zero, List.take_succ_cons, List.take_zero, List.length_cons, List.length_nil, List.reverse_cons, List.reverse_nil, List.nil_append, List.cons_append, Option.toList_some, Option.toList_none, va_rf_s, true_and, and_true, true_implies, false_implies, not_true_eq_false, not_false_eq_true, Nat.reduceAdd, Nat.reduceLeDiff, Nat.le_add_left, Nat.zero_le, Nat.le_refl, znew, true_or, or_true, b01_t, b01_f, b01_ok, bool_ft, vp_b01, vp_b0, vp_b1, b01_eq0, b01_eq1, implies_true, nI_add, nI_clamp, zi_in, zi_le_t, zi_le_f, zi_lt_t, zi_lt_f, zi_eq_t, zi_eq_f, nI_leI, nI_ltI, nI_eq, z_in, pk_mul, zu_same, zu_rw, zu_ix, zi_ne0, zi_sub, zi_m1, Nat.add_sub_cancel, Nat.reduceMul, Nat.reduceSub]
      refine ⟨fun h0 => ?_, fun h0 => ?_⟩
      · refine zC.of0 (zX5_lit hW (hQ.fr hF12).2.2.1 hT2 hI2 hTI) (by omega) (Nat.zero_le _) (Nat.zero_le _) ?_
        rintro _ _ ⟨rfl, rfl⟩
        refine sX0_then_57 _ _ _ _ _ ?_
        simp (disch := omega) only [oNop, oRI, List.getElem?_cons_zero, List.getElem?_cons_succ, List.set_cons_zero, List.set_cons_succ, List.drop_succ_cons, List.drop_zero, List.take_succ_cons, List.take_zero, List.length_cons, List.length_nil, List.reverse_cons, List.reverse_nil, List.nil_append, List.cons_append, Option.toList_some, Option.toList_none, va_rf_s, true_and, and_true, true_implies, false_implies, not_true_eq_false, not_false_eq_true, Nat.reduceAdd, Nat.reduceLeDiff, Nat.le_add_left, Nat.zero_le, Nat.le_refl, znew, true_or, or_true, b01_t, b01_f, b01_ok, bool_ft, vp_b01, vp_b0, vp_b1, b01_eq0, b01_eq1, implies_true, nI_add, nI_clamp, zi_in, zi_le_t, zi_le_f, zi_lt_t, zi_lt_f, zi_eq_t, zi_eq_f, nI_leI, nI_ltI, nI_eq, z_in, pk_mul, zu_same, zu_rw, zu_ix, zi_ne0, zi_sub, zi_m1, Nat.add_sub_cancel, Nat.reduceMul, Nat.reduceSub]
        exact hVQ _ _ ⟨S2, rfl, hF12, by rw [thenR, if_pos ⟨hn, hw⟩, if_pos h0, nI_clamp (by omega)]⟩
      · exact hVQ _ _ ⟨S2, rfl, hF12, by rw [thenR, if_pos ⟨hn, hw⟩, if_neg h0, nI_clamp (by omega)]⟩
theorem zX0_year (hQ : cQ h S c z D ta t q0 A T) (hrB : rB T B) (hBn : B + 1000 < 2 ^ 29) (s n many : Int32) : zM l E (D + 7) YX0_year [.ref c, .int s, .int n, .int many] (z, h, S, L) 0 0 (fun r X => ∃ S', X = (z, h, S', L) ∧ cqF c S S' ∧ r = some (.int (yearR t T s n many))) (fun _ _ => False) := by
  obtain ⟨hB, hTa, hX, hT, hI, hTI⟩ := id hQ
  obtain ⟨h7, h10, h6, h5⟩ := hX.b
  have hW := hB.tr
  refine zM.go rfl rfl (Nat.le_of_ble_eq_true rfl) (ls := [some (.ref c), some (.int s), some (.int n), some (.int many), none, none]) rfl ?_
  intro V hVl hVE hVd hVc hVs hVQ hVX
  refine sX0_year_0 _ _ _ _ _ ?_
  simp (disch := omega) only [oAld, oCV, oIld, hB.k, List.getElem?_cons_zero, List.getElem?_cons_succ, List.set_cons_zero, List.set_cons_succ, List.drop_succ_cons, List.drop_zero, List.take_succ_cons, List.take_zero, List.length_cons, List.length_nil, List.reverse_cons, List.reverse_nil, List.nil_append, List.cons_append, Option.toList_some, Option.toList_none, va_rf_s, true_and, and_true, true_implies, false_implies, not_true_eq_false, not_false_eq_true, Nat.reduceAdd, Nat.reduceLeDiff, Nat.le_add_left, Nat.zero_le, Nat.le_refl, znew, true_or, or_true, b01_t, b01_f, b01_ok, bool_ft, vp_b01, vp_b0, vp_b1, b01_eq0, b01_eq1, implies_true, nI_add, nI_clamp, zi_in, zi_le_t, zi_le_f, zi_lt_t, zi_lt_f, zi_eq_t, zi_eq_f, nI_leI, nI_ltI, nI_eq, z_in, pk_mul, zu_same, zu_rw, zu_ix, zi_ne0, zi_sub, zi_m1, Nat.add_sub_cancel, Nat.reduceMul, Nat.reduceSub]
  refine zC.of0 (zX0_isStreet hQ _) (by omega) (Nat.zero_le _) (Nat.zero_le _) ?_
  rintro _ _ ⟨rfl, rfl⟩
  cases hok : okI s (tns t) with
  | false =>
    refine sX0_year_5 _ _ _ _ _ ?_
    simp (disch := omega) only [oCS, oIf, oIld, oPush, oRI, List.getElem?_cons_zero, List.getElem?_cons_succ, List.set_cons_zero, List.set_cons_succ, List.drop_succ_cons, List.drop_zero, List.take_succ_cons, List.take_zero, List.length_cons, List.length_nil, List.reverse_cons, List.reverse_nil, List.nil_append, List.cons_append, Option.toList_some, Option.toList_none, va_rf_s, true_and, and_true, true_implies, false_implies, not_true_eq_false, not_false_eq_true, Nat.reduceAdd, Nat.reduceLeDiff, Nat.le_add_left, Nat.zero_le, Nat.le_refl, znew, true_or, or_true, b01_t, b01_f, b01_ok, bool_ft, vp_b01, vp_b0, vp_b1, b01_eq0, b01_eq1, implies_true, nI_add, nI_clamp, zi_in, zi_le_t, zi_le_f, zi_lt_t, zi_lt_f, zi_eq_t, zi_eq_f, nI_leI, nI_ltI, nI_eq, z_in, pk_mul, zu_same, zu_rw, zu_ix, zi_ne0, zi_sub, zi_m1, Nat.add_sub_cancel, Nat.reduceMul, Nat.reduceSub]
    exact hVQ _ _ ⟨S, rfl, cqF.rf, by rw [yearR, if_neg (fun q => by rw [hok] at q; exact absurd q.1 (by decide))]⟩
  | true =>
    refine sX0_year_5 _ _ _ _ _ ?_
    simp (disch := omega) only [oCS, oIf, oIld, oPush, oRI, List.getElem?_cons_zero, List.getElem?_cons_succ, List.set_cons_zero, List.set_cons_succ, List.drop_succ_cons, List.drop_zero, List.take_succ_cons, List.take_zero, List.length_cons, List.length_nil, List.reverse_cons, List.reverse_nil, List.nil_append, List.cons_append, Option.toList_some, Option.toList_none, va_rf_s, true_and, and_true, true_implies, false_implies, not_true_eq_false, not_false_eq_true, Nat.reduceAdd, Nat.reduceLeDiff, Nat.le_add_left, Nat.zero_le, Nat.le_refl, znew, true_or, or_true, b01_t, b01_f, b01_ok, bool_ft, vp_b01, vp_b0, vp_b1, b01_eq0, b01_eq1, implies_true, nI_add, nI_clamp, zi_in, zi_le_t, zi_le_f, zi_lt_t, zi_lt_f, zi_eq_t, zi_eq_f, nI_leI, nI_ltI, nI_eq, z_in, pk_mul, zu_same, zu_rw, zu_ix, zi_ne0, zi_sub, zi_m1, Nat.add_sub_cancel, Nat.reduceMul, Nat.reduceSub]
    refine zC.of0 (zX0_isAhead _ _) (by omega) (Nat.zero_le _) (Nat.zero_le _) ?_
    rintro _ _ ⟨rfl, rfl⟩
    cases hn : okI n 73 with
    | false =>
      refine sX0_year_12 _ _ _ _ _ ?_
      simp (disch := omega) only [oCS, oIf, oIld, oPush, oRI, List.getElem?_cons_zero, List.getElem?_cons_succ, List.set_cons_zero, List.set_cons_succ, List.drop_succ_cons, List.drop_zero, List.take_succ_cons, List.take_zero, List.length_cons, List.length_nil, List.reverse_cons, List.reverse_nil, List.nil_append, List.cons_append, Option.toList_some, Option.toList_none, va_rf_s, true_and, and_true, true_implies, false_implies, not_true_eq_false, not_false_eq_true, Nat.reduceAdd, Nat.reduceLeDiff, Nat.le_add_left, Nat.zero_le, Nat.le_refl, znew, true_or, or_true, b01_t, b01_f, b01_ok, bool_ft, vp_b01, vp_b0, vp_b1, b01_eq0, b01_eq1, implies_true, nI_add, nI_clamp, zi_in, zi_le_t, zi_le_f, zi_lt_t, zi_lt_f, zi_eq_t, zi_eq_f, nI_leI, nI_ltI, nI_eq, z_in, pk_mul, zu_same, zu_rw, zu_ix, zi_ne0, zi_sub, zi_m1, Nat.add_sub_cancel, Nat.reduceMul, Nat.reduceSub]
      exact hVQ _ _ ⟨S, rfl, cqF.rf, by rw [yearR, if_neg (fun q => by rw [hn] at q; exact absurd q.2.1 (by decide))]⟩
    | true =>
      obtain ⟨j, hj, rfl⟩ := (okI_iff (by omega)).mp hok
      obtain ⟨m, hm, rfl⟩ := (okI_iff (by omega)).mp hn
      refine sX0_year_12 _ _ _ _ _ ?_
      simp (disch := omega) only [oCS, oIf, oIld, oPush, oRI, List.getElem?_cons_zero, List.getElem?_cons_succ, List.set_cons_zero, List.set_cons_succ, List.drop_succ_cons, List.drop_zero, List.take_succ_cons, List.take_zero, List.length_cons, List.length_nil, List.reverse_cons, List.reverse_nil, List.nil_append, List.cons_append, Option.toList_some, Option.toList_none, va_rf_s, true_and, and_true, true_implies, false_implies, not_true_eq_false, not_false_eq_true, Nat.reduceAdd, Nat.reduceLeDiff, Nat.le_add_left, Nat.zero_le, Nat.le_refl, znew, true_or, or_true, b01_t, b01_f, b01_ok, bool_ft, vp_b01, vp_b0, vp_b1, b01_eq0, b01_eq1, implies_true, nI_add, nI_clamp, zi_in, zi_le_t, zi_le_f, zi_lt_t, zi_lt_f, zi_eq_t, zi_eq_f, nI_leI, nI_ltI, nI_eq, z_in, pk_mul, zu_same, zu_rw, zu_ix, zi_ne0, zi_sub, zi_m1, Nat.add_sub_cancel, Nat.reduceMul, Nat.reduceSub]
      refine zC.of0 (zX0_isIn _ _ _ _) (by omega) (Nat.zero_le _) (Nat.zero_le _) ?_
      rintro _ _ ⟨rfl, rfl⟩
      by_cases hc : nI 1 ≤ many ∧ many ≤ nI 20
      · rw [decide_eq_true hc]
        have hk : okI many (20 + 1) = true := by
          rw [← okI_dec2 (by omega), decide_eq_true_iff]
          refine ⟨?_, hc.2⟩
          have := hc.1
          rw [Int32.le_iff_toInt_le] at this ⊢
          exact Int.le_trans (by decide) this
        obtain ⟨k, hk20, rfl⟩ := (okI_iff (by omega)).mp hk
        have loop : ∀ y, y ≤ k → ∀ S', cqF c S S' → zW V YX0_year 33 [some (.ref c), some (.int (nI j)), some (.int (nI m)), some (.int (nI k)), some (.int (nI (yearC t T j m y))), some (.int (nI y))] [] (z, h, S', L) 0 0 := by
          refine z_down ?_ (fun y hy ih => ?_)
          · intro S' hF
            refine sX0_year_33 _ _ _ _ _ ?_
            simp (disch := omega) only [oAld, oCV, oGR, oIfc, oIld, oRI, hB.k, hB.r8, hB.r7, hW.k, List.getElem?_cons_zero, List.getElem?_cons_succ, List.set_cons_zero, List.set_cons_succ, List.drop_succ_cons, List.drop_zero, List.take_succ_cons, List.take_zero, List.length_cons, List.length_nil, List.reverse_cons, List.reverse_nil, List.nil_append, List.cons_append, Option.toList_some, Option.toList_none, va_rf_s, true_and, and_true, true_implies, false_implies, not_true_eq_false, not_false_eq_true, Nat.reduceAdd, Nat.reduceLeDiff, Nat.le_add_left, Nat.zero_le, Nat.le_refl, znew, true_or, or_true, b01_t, b01_f, b01_ok, bool_ft, vp_b01, vp_b0, vp_b1, b01_eq0, b01_eq1, implies_true, nI_add, nI_clamp, zi_in, zi_le_t, zi_le_f, zi_lt_t, zi_lt_f, zi_eq_t, zi_eq_f, nI_leI, nI_ltI, nI_eq, z_in, pk_mul, zu_same, zu_rw, zu_ix, zi_ne0, zi_sub, zi_m1, Nat.add_sub_cancel, Nat.reduceMul, Nat.reduceSub]
            refine hVQ _ _ ⟨S', rfl, hF, ?_⟩
            rw [yearR, if_pos ⟨hok, hn, hc⟩, nI_clamp (by omega), nI_clamp (by omega), nI_clamp (by omega)]
          · intro S' hF
            have hQ' := hQ.fr hF
            refine sX0_year_33 _ _ _ _ _ ?_
            simp (disch := omega) only [oAld, oCV, oGR, oIfc, oIld, oRI, hB.k, hB.r8, hB.r7, hW.k, List.getElem?_cons_zero, List.getElem?_cons_succ, List.set_cons_zero, List.set_cons_succ, List.drop_succ_cons, List.drop_zero, List.take_succ_cons, List.take_zero, List.length_cons, List.length_nil, List.reverse_cons, List.reverse_nil, List.nil_append, List.cons_append, Option.toList_some, Option.toList_none, va_rf_s, true_and, and_true, true_implies, false_implies, not_true_eq_false, not_false_eq_true, Nat.reduceAdd, Nat.reduceLeDiff, Nat.le_add_left, Nat.zero_le, Nat.le_refl, znew, true_or, or_true, b01_t, b01_f, b01_ok, bool_ft, vp_b01, vp_b0, vp_b1, b01_eq0, b01_eq1, implies_true, nI_add, nI_clamp, zi_in, zi_le_t, zi_le_f, zi_lt_t, zi_lt_f, zi_eq_t, zi_eq_f, nI_leI, nI_ltI, nI_eq, z_in, pk_mul, zu_same, zu_rw, zu_ix, zi_ne0, zi_sub, zi_m1, Nat.add_sub_cancel, Nat.reduceMul, Nat.reduceSub]
            refine zC.of0 (zX5_takes hW hB.tn (Or.inl (by omega))) (by omega) (Nat.zero_le _) (Nat.zero_le _) ?_
            rintro _ _ ⟨rfl, S1, rfl, hF1, hTT⟩
            have hFa := hF.tr (cqF.t hF1)
            have eg := (hQ.fr hFa).2.2.1.g.2.2
            have hT1 := (hTT _ _ _ hQ'.2.2.2.1).sd (tsd t + nI y)
            have hFb : cqF c S (zu S1 (c + 26) 10 (tsd t + nI y)) := hFa.tr (cqF.t (fun a ha => zu_rw _ _ (by omega)))
            refine sX0_year_50 _ _ _ _ _ ?_
            simp (disch := omega) only [oAld, oBin, oCV, oGI, oGR, oIld, oPI, hB.k, hB.r8, hTa, hX.k, hW.k, hB.r11, eg, List.getElem?_cons_zero, List.getElem?_cons_succ, List.set_cons_zero, List.set_cons_succ, List.drop_succ_cons, List.drop_zero, List.take_succ_cons, List.take_zero, List.length_cons, List.length_nil, List.reverse_cons, List.reverse_nil, List.nil_append, List.cons_append, Option.toList_some, Option.toList_none, va_rf_s, true_and, and_true, true_implies, false_implies, not_true_eq_false, not_false_eq_true, Nat.reduceAdd, Nat.reduceLeDiff, Nat.le_add_left, Nat.zero_le, Nat.le_refl, znew, true_or, or_true, b01_t, b01_f, b01_ok, bool_ft, vp_b01, vp_b0, vp_b1, b01_eq0, b01_eq1, implies_true, nI_add, nI_clamp, zi_in, zi_le_t, zi_le_f, zi_lt_t, zi_lt_f, zi_eq_t, zi_eq_f, nI_leI, nI_ltI, nI_eq, z_in, pk_mul, zu_same, zu_rw, zu_ix, zi_ne0, zi_sub, zi_m1, Nat.add_sub_cancel, Nat.reduceMul, Nat.reduceSub]
            refine zC.of0 (zX0_runs hB hTa hTI hW (by omega) (by omega) (hQ.fr hFb).2.2.1 hT1 hI hrB (show B + m < 2 ^ 29 by omega) (by omega) (Or.inl ⟨hB.dr, rfl⟩)) (by omega) (Nat.zero_le _) (Nat.zero_le _) ?_
            rintro _ _ ⟨rfl, S2, rfl, hF2, hT2⟩
            have hFc := hFb.tr (cqF.t hF2)
            refine sX0_year_80 _ _ _ _ _ ?_
            simp (disch := omega) only [oAld, oCV, oGR, oIld, hB.k, hB.r8, hTa, hW.k, List.getElem?_cons_zero, List.getElem?_cons_succ, List.set_cons_zero, List.set_cons_succ, List.drop_succ_cons, List.drop_zero, List.take_succ_cons, List.take_zero, List.length_cons, List.length_nil, List.reverse_cons, List.reverse_nil, List.nil_append, List.cons_append, Option.toList_some, Option.toList_none, va_rf_s, true_and, and_true, true_implies, false_implies, not_true_eq_false, not_false_eq_true, Nat.reduceAdd, Nat.reduceLeDiff, Nat.le_add_left, Nat.zero_le, Nat.le_refl, znew, true_or, or_true, b01_t, b01_f, b01_ok, bool_ft, vp_b01, vp_b0, vp_b1, b01_eq0, b01_eq1, implies_true, nI_add, nI_clamp, zi_in, zi_le_t, zi_le_f, zi_lt_t, zi_lt_f, zi_eq_t, zi_eq_f, nI_leI, nI_ltI, nI_eq, z_in, pk_mul, zu_same, zu_rw, zu_ix, zi_ne0, zi_sub, zi_m1, Nat.add_sub_cancel, Nat.reduceMul, Nat.reduceSub]
            refine zC.of0 (zX5_needs hW (hQ.fr hFc).2.2.1 hT2 hj) (by omega) (Nat.zero_le _) (Nat.zero_le _) ?_
            rintro _ _ ⟨rfl, rfl⟩
            have := ih S2 hFc
            by_cases h0 : needR t (hoursT t (nI 0) (tsd t + nI y) m T) j = nI 0
            · rw [yearC, if_pos h0] at this
              rw [h0]
              refine sX0_year_94 _ _ _ _ _ ?_
              simp (disch := omega) only [oBin, oIf, oInc, oIst, oNop, oPush, List.getElem?_cons_zero, List.getElem?_cons_succ, List.set_cons_zero, List.set_cons_succ, List.drop_succ_cons, List.drop_zero, List.take_succ_cons, List.take_zero, List.length_cons, List.length_nil, List.reverse_cons, List.reverse_nil, List.nil_append, List.cons_append, Option.toList_some, Option.toList_none, va_rf_s, true_and, and_true, true_implies, false_implies, not_true_eq_false, not_false_eq_true, Nat.reduceAdd, Nat.reduceLeDiff, Nat.le_add_left, Nat.zero_le, Nat.le_refl, znew, true_or, or_true, b01_t, b01_f, b01_ok, bool_ft, vp_b01, vp_b0, vp_b1, b01_eq0, b01_eq1, implies_true, nI_add, nI_clamp, zi_in, zi_le_t, zi_le_f, zi_lt_t, zi_lt_f, zi_eq_t, zi_eq_f, nI_leI, nI_ltI, nI_eq, z_in, pk_mul, zu_same, zu_rw, zu_ix, zi_ne0, zi_sub, zi_m1, Nat.add_sub_cancel, Nat.reduceMul, Nat.reduceSub]
              exact this
            · have h0' := eq_false h0
              rw [yearC, if_neg h0] at this
              refine sX0_year_94 _ _ _ _ _ ?_
              simp (disch := omega) only [oBin, oIf, oInc, oIst, oNop, oPush, h0', i_add0, List.getElem?_cons_zero, List.getElem?_cons_succ, List.set_cons_zero, List.set_cons_succ, List.drop_succ_cons, List.drop_zero, List.take_succ_cons, List.take_zero, List.length_cons, List.length_nil, List.reverse_cons, List.reverse_nil, List.nil_append, List.cons_append, Option.toList_some, Option.toList_none, va_rf_s, true_and, and_true, true_implies, false_implies, not_true_eq_false, not_false_eq_true, Nat.reduceAdd, Nat.reduceLeDiff, Nat.le_add_left, Nat.zero_le, Nat.le_refl, znew, true_or, or_true, b01_t, b01_f, b01_ok, bool_ft, vp_b01, vp_b0, vp_b1, b01_eq0, b01_eq1, implies_true, nI_add, nI_clamp, zi_in, zi_le_t, zi_le_f, zi_lt_t, zi_lt_f, zi_eq_t, zi_eq_f, nI_leI, nI_ltI, nI_eq, z_in, pk_mul, zu_same, zu_rw, zu_ix, zi_ne0, zi_sub, zi_m1, Nat.add_sub_cancel, Nat.reduceMul, Nat.reduceSub]
              exact this
        refine sX0_year_22 _ _ _ _ _ ?_
        simp (disch := omega) only [oIf, oIst, oPush, oRI, List.getElem?_cons_zero, List.getElem?_cons_succ, List.set_cons_zero, List.set_cons_succ, List.drop_succ_cons, List.drop_zero, List.take_succ_cons, List.take_zero, List.length_cons, List.length_nil, List.reverse_cons, List.reverse_nil, List.nil_append, List.cons_append, Option.toList_some, Option.toList_none, va_rf_s, true_and, and_true, true_implies, false_implies, not_true_eq_false, not_false_eq_true, Nat.reduceAdd, Nat.reduceLeDiff, Nat.le_add_left, Nat.zero_le, Nat.le_refl, znew, true_or, or_true, b01_t, b01_f, b01_ok, bool_ft, vp_b01, vp_b0, vp_b1, b01_eq0, b01_eq1, implies_true, nI_add, nI_clamp, zi_in, zi_le_t, zi_le_f, zi_lt_t, zi_lt_f, zi_eq_t, zi_eq_f, nI_leI, nI_ltI, nI_eq, z_in, pk_mul, zu_same, zu_rw, zu_ix, zi_ne0, zi_sub, zi_m1, Nat.add_sub_cancel, Nat.reduceMul, Nat.reduceSub]
        exact loop 0 (by omega) S cqF.rf
      · rw [decide_eq_false hc]
        refine sX0_year_22 _ _ _ _ _ ?_
        simp (disch := omega) only [oIf, oIst, oPush, oRI, List.getElem?_cons_zero, List.getElem?_cons_succ, List.set_cons_zero, List.set_cons_succ, List.drop_succ_cons, List.drop_zero, List.take_succ_cons, List.take_zero, List.length_cons, List.length_nil, List.reverse_cons, List.reverse_nil, List.nil_append, List.cons_append, Option.toList_some, Option.toList_none, va_rf_s, true_and, and_true, true_implies, false_implies, not_true_eq_false, not_false_eq_true, Nat.reduceAdd, Nat.reduceLeDiff, Nat.le_add_left, Nat.zero_le, Nat.le_refl, znew, true_or, or_true, b01_t, b01_f, b01_ok, bool_ft, vp_b01, vp_b0, vp_b1, b01_eq0, b01_eq1, implies_true, nI_add, nI_clamp, zi_in, zi_le_t, zi_le_f, zi_lt_t, zi_lt_f, zi_eq_t, zi_eq_f, nI_leI, nI_ltI, nI_eq, z_in, pk_mul, zu_same, zu_rw, zu_ix, zi_ne0, zi_sub, zi_m1, Nat.add_sub_cancel, Nat.reduceMul, Nat.reduceSub]
        exact hVQ _ _ ⟨S, rfl, cqF.rf, by rw [yearR, if_neg (fun q => hc q.2.2)]⟩
theorem zX0_brightest (hQ : cQ h S c z D ta t q0 A T) (what : Int32) : zM l E 2 YX0_brightest [.ref c, .int what] (z, h, S, L) 0 0 (fun r X => r = some (.int (brightR t T what)) ∧ X = (z, h, S, L)) (fun _ _ => False) := by
  obtain ⟨hB, hTa, hX, hT, hI, hTI⟩ := id hQ
  obtain ⟨h7, h10, h6, h5⟩ := hX.b
  have hW := hB.tn
  refine zM.go rfl rfl (Nat.le_of_ble_eq_true rfl) (ls := [some (.ref c), some (.int what), none, none]) rfl ?_
  intro V hVl hVE hVd hVc hVs hVQ hVX
  refine sX0_brightest_0 _ _ _ _ _ ?_
  simp (disch := omega) only [oCS, oIld, oPush, List.getElem?_cons_zero, List.getElem?_cons_succ, List.set_cons_zero, List.set_cons_succ, List.drop_succ_cons, List.drop_zero, List.take_succ_cons, List.take_zero, List.length_cons, List.length_nil, List.reverse_cons, List.reverse_nil, List.nil_append, List.cons_append, Option.toList_some, Option.toList_none, va_rf_s, true_and, and_true, true_implies, false_implies, not_true_eq_false, not_false_eq_true, Nat.reduceAdd, Nat.reduceLeDiff, Nat.le_add_left, Nat.zero_le, Nat.le_refl, znew, true_or, or_true, b01_t, b01_f, b01_ok, bool_ft, vp_b01, vp_b0, vp_b1, b01_eq0, b01_eq1, implies_true, nI_add, nI_clamp, zi_in, zi_le_t, zi_le_f, zi_lt_t, zi_lt_f, zi_eq_t, zi_eq_f, nI_leI, nI_ltI, nI_eq, z_in, pk_mul, zu_same, zu_rw, zu_ix, zi_ne0, zi_sub, zi_m1, Nat.add_sub_cancel, Nat.reduceMul, Nat.reduceSub]
  refine zC.of0 (zX0_isIn _ _ _ _) (by omega) (Nat.zero_le _) (Nat.zero_le _) ?_
  rintro _ _ ⟨rfl, rfl⟩
  rw [okI_dec2 (by omega)]
  cases hw : okI what (1 + 1) with
  | false =>
    refine sX0_brightest_6 _ _ _ _ _ ?_
    simp (disch := omega) only [oIf, oIst, oPush, oRI, List.getElem?_cons_zero, List.getElem?_cons_succ, List.set_cons_zero, List.set_cons_succ, List.drop_succ_cons, List.drop_zero, List.take_succ_cons, List.take_zero, List.length_cons, List.length_nil, List.reverse_cons, List.reverse_nil, List.nil_append, List.cons_append, Option.toList_some, Option.toList_none, va_rf_s, true_and, and_true, true_implies, false_implies, not_true_eq_false, not_false_eq_true, Nat.reduceAdd, Nat.reduceLeDiff, Nat.le_add_left, Nat.zero_le, Nat.le_refl, znew, true_or, or_true, b01_t, b01_f, b01_ok, bool_ft, vp_b01, vp_b0, vp_b1, b01_eq0, b01_eq1, implies_true, nI_add, nI_clamp, zi_in, zi_le_t, zi_le_f, zi_lt_t, zi_lt_f, zi_eq_t, zi_eq_f, nI_leI, nI_ltI, nI_eq, z_in, pk_mul, zu_same, zu_rw, zu_ix, zi_ne0, zi_sub, zi_m1, Nat.add_sub_cancel, Nat.reduceMul, Nat.reduceSub]
    exact hVQ _ _ ⟨by rw [brightR, if_neg (by rw [hw]; decide)], rfl⟩
  | true =>
    generalize hf : (fun v => lightF (tny t) T (nI v)) = f
    have hf' : ∀ v, lightF (tny t) T (nI v) = f v := fun v => by rw [← hf]
    have loop : ∀ y, y ≤ tnc t → zW V YX0_brightest 16 [some (.ref c), some (.int what), some (.int (oN (amax f y))), some (.int (nI y))] [] (z, h, S, L) 0 0 := by
      refine z_down ?_ (fun y hy ih => ?_)
      · refine sX0_brightest_16 _ _ _ _ _ ?_
        simp (disch := omega) only [oAld, oCV, oIld, hB.k, List.getElem?_cons_zero, List.getElem?_cons_succ, List.set_cons_zero, List.set_cons_succ, List.drop_succ_cons, List.drop_zero, List.take_succ_cons, List.take_zero, List.length_cons, List.length_nil, List.reverse_cons, List.reverse_nil, List.nil_append, List.cons_append, Option.toList_some, Option.toList_none, va_rf_s, true_and, and_true, true_implies, false_implies, not_true_eq_false, not_false_eq_true, Nat.reduceAdd, Nat.reduceLeDiff, Nat.le_add_left, Nat.zero_le, Nat.le_refl, znew, true_or, or_true, b01_t, b01_f, b01_ok, bool_ft, vp_b01, vp_b0, vp_b1, b01_eq0, b01_eq1, implies_true, nI_add, nI_clamp, zi_in, zi_le_t, zi_le_f, zi_lt_t, zi_lt_f, zi_eq_t, zi_eq_f, nI_leI, nI_ltI, nI_eq, z_in, pk_mul, zu_same, zu_rw, zu_ix, zi_ne0, zi_sub, zi_m1, Nat.add_sub_cancel, Nat.reduceMul, Nat.reduceSub]
        refine zC.of0 (zX0_corners hQ) (by omega) (Nat.zero_le _) (Nat.zero_le _) ?_
        rintro _ _ ⟨rfl, rfl⟩
        cases ha : amax f (tnc t) with
        | none =>
          rw [show oN none = -2 from rfl]
          refine sX0_brightest_21 _ _ _ _ _ ?_
          simp (disch := omega) only [oAld, oCV, oGR, oIf, oIfc, oIld, oInc, oIst, oNop, hB.k, hB.r7, hW.k, m2lt, List.getElem?_cons_zero, List.getElem?_cons_succ, List.set_cons_zero, List.set_cons_succ, List.drop_succ_cons, List.drop_zero, List.take_succ_cons, List.take_zero, List.length_cons, List.length_nil, List.reverse_cons, List.reverse_nil, List.nil_append, List.cons_append, Option.toList_some, Option.toList_none, va_rf_s, true_and, and_true, true_implies, false_implies, not_true_eq_false, not_false_eq_true, Nat.reduceAdd, Nat.reduceLeDiff, Nat.le_add_left, Nat.zero_le, Nat.le_refl, znew, true_or, or_true, b01_t, b01_f, b01_ok, bool_ft, vp_b01, vp_b0, vp_b1, b01_eq0, b01_eq1, implies_true, nI_add, nI_clamp, zi_in, zi_le_t, zi_le_f, zi_lt_t, zi_lt_f, zi_eq_t, zi_eq_f, nI_leI, nI_ltI, nI_eq, z_in, pk_mul, zu_same, zu_rw, zu_ix, zi_ne0, zi_sub, zi_m1, Nat.add_sub_cancel, Nat.reduceMul, Nat.reduceSub]
          refine sX0_brightest_75 _ _ _ _ _ ?_
          simp (disch := omega) only [oRI, List.getElem?_cons_zero, List.getElem?_cons_succ, List.set_cons_zero, List.set_cons_succ, List.drop_succ_cons, List.drop_zero, List.take_succ_cons, List.take_zero, List.length_cons, List.length_nil, List.reverse_cons, List.reverse_nil, List.nil_append, List.cons_append, Option.toList_some, Option.toList_none, va_rf_s, true_and, and_true, true_implies, false_implies, not_true_eq_false, not_false_eq_true, Nat.reduceAdd, Nat.reduceLeDiff, Nat.le_add_left, Nat.zero_le, Nat.le_refl, znew, true_or, or_true, b01_t, b01_f, b01_ok, bool_ft, vp_b01, vp_b0, vp_b1, b01_eq0, b01_eq1, implies_true, nI_add, nI_clamp, zi_in, zi_le_t, zi_le_f, zi_lt_t, zi_lt_f, zi_eq_t, zi_eq_f, nI_leI, nI_ltI, nI_eq, z_in, pk_mul, zu_same, zu_rw, zu_ix, zi_ne0, zi_sub, zi_m1, Nat.add_sub_cancel, Nat.reduceMul, Nat.reduceSub]
          exact hVQ _ _ ⟨by rw [brightR, if_pos hw, hf, ha], rfl⟩
        | some b =>
          have hb := amax_lt ha
          rw [show oN (some b) = nI b from rfl]
          refine sX0_brightest_21 _ _ _ _ _ ?_
          simp (disch := omega) only [oAld, oCV, oGR, oIf, oIfc, oIld, oInc, oIst, oNop, hB.k, hB.r7, hW.k, List.getElem?_cons_zero, List.getElem?_cons_succ, List.set_cons_zero, List.set_cons_succ, List.drop_succ_cons, List.drop_zero, List.take_succ_cons, List.take_zero, List.length_cons, List.length_nil, List.reverse_cons, List.reverse_nil, List.nil_append, List.cons_append, Option.toList_some, Option.toList_none, va_rf_s, true_and, and_true, true_implies, false_implies, not_true_eq_false, not_false_eq_true, Nat.reduceAdd, Nat.reduceLeDiff, Nat.le_add_left, Nat.zero_le, Nat.le_refl, znew, true_or, or_true, b01_t, b01_f, b01_ok, bool_ft, vp_b01, vp_b0, vp_b1, b01_eq0, b01_eq1, implies_true, nI_add, nI_clamp, zi_in, zi_le_t, zi_le_f, zi_lt_t, zi_lt_f, zi_eq_t, zi_eq_f, nI_leI, nI_ltI, nI_eq, z_in, pk_mul, zu_same, zu_rw, zu_ix, zi_ne0, zi_sub, zi_m1, Nat.add_sub_cancel, Nat.reduceMul, Nat.reduceSub]
          refine ⟨fun h0 => ?_, fun h0 => ?_⟩
          · refine sX0_brightest_75 _ _ _ _ _ ?_
            simp (disch := omega) only [oRI, List.getElem?_cons_zero, List.getElem?_cons_succ, List.set_cons_zero, List.set_cons_succ, List.drop_succ_cons, List.drop_zero, List.take_succ_cons, List.take_zero, List.length_cons, List.length_nil, List.reverse_cons, List.reverse_nil, List.nil_append, List.cons_append, Option.toList_some, Option.toList_none, va_rf_s, true_and, and_true, true_implies, false_implies, not_true_eq_false, not_false_eq_true, Nat.reduceAdd, Nat.reduceLeDiff, Nat.le_add_left, Nat.zero_le, Nat.le_refl, znew, true_or, or_true, b01_t, b01_f, b01_ok, bool_ft, vp_b01, vp_b0, vp_b1, b01_eq0, b01_eq1, implies_true, nI_add, nI_clamp, zi_in, zi_le_t, zi_le_f, zi_lt_t, zi_lt_f, zi_eq_t, zi_eq_f, nI_leI, nI_ltI, nI_eq, z_in, pk_mul, zu_same, zu_rw, zu_ix, zi_ne0, zi_sub, zi_m1, Nat.add_sub_cancel, Nat.reduceMul, Nat.reduceSub]
            exact hVQ _ _ ⟨by rw [brightR, if_pos hw, hf, ha]; simp only []; rw [if_pos h0], rfl⟩
          · refine zC.of0 (zX5_light hW hT h6 (nI_nm1 (by omega))) (by omega) (Nat.zero_le _) (Nat.zero_le _) ?_
            rintro _ _ ⟨rfl, rfl⟩
            refine sX0_brightest_75 _ _ _ _ _ ?_
            simp (disch := omega) only [oRI, List.getElem?_cons_zero, List.getElem?_cons_succ, List.set_cons_zero, List.set_cons_succ, List.drop_succ_cons, List.drop_zero, List.take_succ_cons, List.take_zero, List.length_cons, List.length_nil, List.reverse_cons, List.reverse_nil, List.nil_append, List.cons_append, Option.toList_some, Option.toList_none, va_rf_s, true_and, and_true, true_implies, false_implies, not_true_eq_false, not_false_eq_true, Nat.reduceAdd, Nat.reduceLeDiff, Nat.le_add_left, Nat.zero_le, Nat.le_refl, znew, true_or, or_true, b01_t, b01_f, b01_ok, bool_ft, vp_b01, vp_b0, vp_b1, b01_eq0, b01_eq1, implies_true, nI_add, nI_clamp, zi_in, zi_le_t, zi_le_f, zi_lt_t, zi_lt_f, zi_eq_t, zi_eq_f, nI_leI, nI_ltI, nI_eq, z_in, pk_mul, zu_same, zu_rw, zu_ix, zi_ne0, zi_sub, zi_m1, Nat.add_sub_cancel, Nat.reduceMul, Nat.reduceSub]
            exact hVQ _ _ ⟨by rw [brightR, if_pos hw, hf, ha]; simp only []; rw [if_neg h0], rfl⟩
      · refine sX0_brightest_16 _ _ _ _ _ ?_
        simp (disch := omega) only [oAld, oCV, oIld, hB.k, List.getElem?_cons_zero, List.getElem?_cons_succ, List.set_cons_zero, List.set_cons_succ, List.drop_succ_cons, List.drop_zero, List.take_succ_cons, List.take_zero, List.length_cons, List.length_nil, List.reverse_cons, List.reverse_nil, List.nil_append, List.cons_append, Option.toList_some, Option.toList_none, va_rf_s, true_and, and_true, true_implies, false_implies, not_true_eq_false, not_false_eq_true, Nat.reduceAdd, Nat.reduceLeDiff, Nat.le_add_left, Nat.zero_le, Nat.le_refl, znew, true_or, or_true, b01_t, b01_f, b01_ok, bool_ft, vp_b01, vp_b0, vp_b1, b01_eq0, b01_eq1, implies_true, nI_add, nI_clamp, zi_in, zi_le_t, zi_le_f, zi_lt_t, zi_lt_f, zi_eq_t, zi_eq_f, nI_leI, nI_ltI, nI_eq, z_in, pk_mul, zu_same, zu_rw, zu_ix, zi_ne0, zi_sub, zi_m1, Nat.add_sub_cancel, Nat.reduceMul, Nat.reduceSub]
        refine zC.of0 (zX0_corners hQ) (by omega) (Nat.zero_le _) (Nat.zero_le _) ?_
        rintro _ _ ⟨rfl, rfl⟩
        cases ha : amax f y with
        | none =>
          rw [amax_n ha] at ih
          rw [show oN none = -2 from rfl]
          refine sX0_brightest_21 _ _ _ _ _ ?_
          simp (disch := omega) only [oAld, oCV, oGR, oIf, oIfc, oIld, oInc, oIst, oNop, hB.k, hB.r7, hW.k, m2lt, List.getElem?_cons_zero, List.getElem?_cons_succ, List.set_cons_zero, List.set_cons_succ, List.drop_succ_cons, List.drop_zero, List.take_succ_cons, List.take_zero, List.length_cons, List.length_nil, List.reverse_cons, List.reverse_nil, List.nil_append, List.cons_append, Option.toList_some, Option.toList_none, va_rf_s, true_and, and_true, true_implies, false_implies, not_true_eq_false, not_false_eq_true, Nat.reduceAdd, Nat.reduceLeDiff, Nat.le_add_left, Nat.zero_le, Nat.le_refl, znew, true_or, or_true, b01_t, b01_f, b01_ok, bool_ft, vp_b01, vp_b0, vp_b1, b01_eq0, b01_eq1, implies_true, nI_add, nI_clamp, zi_in, zi_le_t, zi_le_f, zi_lt_t, zi_lt_f, zi_eq_t, zi_eq_f, nI_leI, nI_ltI, nI_eq, z_in, pk_mul, zu_same, zu_rw, zu_ix, zi_ne0, zi_sub, zi_m1, Nat.add_sub_cancel, Nat.reduceMul, Nat.reduceSub]
          exact ih
        | some b =>
          have hb := amax_lt ha
          rw [show oN (some b) = nI b from rfl]
          refine sX0_brightest_21 _ _ _ _ _ ?_
          simp (disch := omega) only [oAld, oCV, oGR, oIf, oIfc, oIld, oInc, oIst, oNop, hB.k, hB.r7, hW.k, List.getElem?_cons_zero, List.getElem?_cons_succ, List.set_cons_zero, List.set_cons_succ, List.drop_succ_cons, List.drop_zero, List.take_succ_cons, List.take_zero, List.length_cons, List.length_nil, List.reverse_cons, List.reverse_nil, List.nil_append, List.cons_append, Option.toList_some, Option.toList_none, va_rf_s, true_and, and_true, true_implies, false_implies, not_true_eq_false, not_false_eq_true, Nat.reduceAdd, Nat.reduceLeDiff, Nat.le_add_left, Nat.zero_le, Nat.le_refl, znew, true_or, or_true, b01_t, b01_f, b01_ok, bool_ft, vp_b01, vp_b0, vp_b1, b01_eq0, b01_eq1, implies_true, nI_add, nI_clamp, zi_in, zi_le_t, zi_le_f, zi_lt_t, zi_lt_f, zi_eq_t, zi_eq_f, nI_leI, nI_ltI, nI_eq, z_in, pk_mul, zu_same, zu_rw, zu_ix, zi_ne0, zi_sub, zi_m1, Nat.add_sub_cancel, Nat.reduceMul, Nat.reduceSub]
          refine zC.of0 (zX5_light hW hT h6 (nI_nm1 (by omega))) (by omega) (Nat.zero_le _) (Nat.zero_le _) ?_
          rintro _ _ ⟨rfl, rfl⟩
          rw [hf']
          refine sX0_brightest_36 _ _ _ _ _ ?_
          simp (disch := omega) only [oAld, oCV, oGR, oIld, hB.k, hB.r7, hW.k, List.getElem?_cons_zero, List.getElem?_cons_succ, List.set_cons_zero, List.set_cons_succ, List.drop_succ_cons, List.drop_zero, List.take_succ_cons, List.take_zero, List.length_cons, List.length_nil, List.reverse_cons, List.reverse_nil, List.nil_append, List.cons_append, Option.toList_some, Option.toList_none, va_rf_s, true_and, and_true, true_implies, false_implies, not_true_eq_false, not_false_eq_true, Nat.reduceAdd, Nat.reduceLeDiff, Nat.le_add_left, Nat.zero_le, Nat.le_refl, znew, true_or, or_true, b01_t, b01_f, b01_ok, bool_ft, vp_b01, vp_b0, vp_b1, b01_eq0, b01_eq1, implies_true, nI_add, nI_clamp, zi_in, zi_le_t, zi_le_f, zi_lt_t, zi_lt_f, zi_eq_t, zi_eq_f, nI_leI, nI_ltI, nI_eq, z_in, pk_mul, zu_same, zu_rw, zu_ix, zi_ne0, zi_sub, zi_m1, Nat.add_sub_cancel, Nat.reduceMul, Nat.reduceSub]
          refine zC.of0 (zX5_light hW hT h6 (nI_nm1 (by omega))) (by omega) (Nat.zero_le _) (Nat.zero_le _) ?_
          rintro _ _ ⟨rfl, rfl⟩
          rw [hf']
          refine sX0_brightest_44 _ _ _ _ _ ?_
          simp (disch := omega) only [oIfc, oIld, oInc, oIst, oNop, List.getElem?_cons_zero, List.getElem?_cons_succ, List.set_cons_zero, List.set_cons_succ, List.drop_succ_cons, List.drop_zero, List.take_succ_cons, List.take_zero, List.length_cons, List.length_nil, List.reverse_cons, List.reverse_nil, List.nil_append, List.cons_append, Option.toList_some, Option.toList_none, va_rf_s, true_and, and_true, true_implies, false_implies, not_true_eq_false, not_false_eq_true, Nat.reduceAdd, Nat.reduceLeDiff, Nat.le_add_left, Nat.zero_le, Nat.le_refl, znew, true_or, or_true, b01_t, b01_f, b01_ok, bool_ft, vp_b01, vp_b0, vp_b1, b01_eq0, b01_eq1, implies_true, nI_add, nI_clamp, zi_in, zi_le_t, zi_le_f, zi_lt_t, zi_lt_f, zi_eq_t, zi_eq_f, nI_leI, nI_ltI, nI_eq, z_in, pk_mul, zu_same, zu_rw, zu_ix, zi_ne0, zi_sub, zi_m1, Nat.add_sub_cancel, Nat.reduceMul, Nat.reduceSub]
          refine ⟨fun h0 => ?_, fun h0 => ?_⟩
          · rw [amax_f ha (i_nle h0)] at ih; exact ih
          · rw [amax_t ha (i_lt h0)] at ih; exact ih
    refine sX0_brightest_6 _ _ _ _ _ ?_
    simp (disch := omega) only [oIf, oIst, oPush, oRI, List.getElem?_cons_zero, List.getElem?_cons_succ, List.set_cons_zero, List.set_cons_succ, List.drop_succ_cons, List.drop_zero, List.take_succ_cons, List.take_zero, List.length_cons, List.length_nil, List.reverse_cons, List.reverse_nil, List.nil_append, List.cons_append, Option.toList_some, Option.toList_none, va_rf_s, true_and, and_true, true_implies, false_implies, not_true_eq_false, not_false_eq_true, Nat.reduceAdd, Nat.reduceLeDiff, Nat.le_add_left, Nat.zero_le, Nat.le_refl, znew, true_or, or_true, b01_t, b01_f, b01_ok, bool_ft, vp_b01, vp_b0, vp_b1, b01_eq0, b01_eq1, implies_true, nI_add, nI_clamp, zi_in, zi_le_t, zi_le_f, zi_lt_t, zi_lt_f, zi_eq_t, zi_eq_f, nI_leI, nI_ltI, nI_eq, z_in, pk_mul, zu_same, zu_rw, zu_ix, zi_ne0, zi_sub, zi_m1, Nat.add_sub_cancel, Nat.reduceMul, Nat.reduceSub]
    exact loop 0 (by omega)
end CO
