/-! the component: where to gather -/
def gaM (t : ZT) (T : Nat → Int32) (at' : Nat → Nat) (c : Nat) : Nat → Nat
  | 0 => 0
  | y + 1 => if T (12 + y) = nI 0 then gaM t T at' c y + fqN (farM t (nI 0) (nI 0) c (at' y)) else gaM t T at' c y
theorem gaM_r {t : ZT} {T : Nat → Int32} {at' : Nat → Nat} {c : Nat} (hst : stB t) (h10 : tns t ≤ 10) : ∀ y, gaM t T at' c y ≤ 1000000 * y ∧ ((gaN t T at' c y ≤ 70 * y ∧ gaM t T at' c y = gaN t T at' c y) ∨ (1000 ≤ gaN t T at' c y ∧ 1000000 ≤ gaM t T at' c y))
  | 0 => ⟨Nat.zero_le _, Or.inl ⟨Nat.zero_le _, rfl⟩⟩
  | y + 1 => by
    obtain ⟨h1, h2⟩ := gaM_r (T := T) (at' := at') (c := c) hst h10 y
    have hb := farM_B hst h10 (free := nI 0) (shut := nI 0) (f := c) (at' y)
    rw [gaM, gaN]
    by_cases h0 : T (12 + y) = nI 0
    · rw [if_pos h0, if_pos h0]
      rcases hb with hb | hb
      · have e : fqN (farM t (nI 0) (nI 0) c (at' y)) = farM t (nI 0) (nI 0) c (at' y) := if_neg (by omega)
        rw [e]
        refine ⟨by omega, ?_⟩
        rcases h2 with h2 | h2
        · exact Or.inl ⟨by omega, by omega⟩
        · exact Or.inr ⟨by omega, by omega⟩
      · have e : fqN (farM t (nI 0) (nI 0) c (at' y)) = 1000000 := if_pos hb
        rw [e, hb]
        exact ⟨by omega, Or.inr ⟨by omega, by omega⟩⟩
    · rw [if_neg h0, if_neg h0]
      refine ⟨by omega, ?_⟩
      rcases h2 with h2 | h2
      · exact Or.inl ⟨by omega, h2.2⟩
      · exact Or.inr h2
def an3 (a : zAn) : Nat := match a with
  | none => 1000000
  | some q => q.2
theorem gaO_v {t : ZT} {T : Nat → Int32} {at' : Nat → Nat} : ∀ {n k v}, gaO t T at' n = some (k, v) → v < 1000
  | 0, k, v, h => by cases h
  | n + 1, k, v, h => by
    rw [gaO] at h
    have hB := (gaO_B (t := t) (T := T) (at' := at') (n := n)).1
    split at h
    · simp at h; omega
    · exact gaO_v h
theorem gaO_lt {t : ZT} {T : Nat → Int32} {at' : Nat → Nat} (hst : stB t) (h10 : tns t ≤ 10) (h6 : tny t ≤ 6) (n : Nat) : (gaM t T at' n (tny t) < an3 (gaO t T at' n)) = (gaN t T at' n (tny t) < an2 (gaO t T at' n)) := by
  obtain ⟨h1, h2⟩ := gaM_r (T := T) (at' := at') (c := n) hst h10 (tny t)
  cases ha : gaO t T at' n with
  | none =>
    show (gaM t T at' n (tny t) < 1000000) = (gaN t T at' n (tny t) < 1000)
    apply propext
    omega
  | some q =>
    have := gaO_v (k := q.1) (v := q.2) ha
    show (gaM t T at' n (tny t) < q.2) = (gaN t T at' n (tny t) < q.2)
    apply propext
    omega
section CV
variable {l : Launch} {E : zE} {z : Nat} {h : Nat → Option zSh} {S : Nat → Nat → Int32} {L : Nat → Nat → Int64} {c D ta : Nat} {t : ZT} {q0 T : Nat → Int32} {A : zTA}
theorem zX0_gather (hQ : cQ h S c z D ta t q0 A T) {at' : Nat → Nat} (hC : rowC t T at') (what : Int32) : zM l E 4 YX0_gather [.ref c, .int what] (z, h, S, L) 0 0 (fun r X => ∃ S', X = (z, h, S', L) ∧ cqF c S S' ∧ r = some (.int (gatherR t T at' what))) (fun _ _ => False) := by
  obtain ⟨hB, hTa, hX, hT, hI, hTI⟩ := id hQ
  obtain ⟨h7, h10, h6, h5⟩ := hX.b
  have hst := hX.sb
  have hW := hB.tn
  refine zM.go rfl rfl (Nat.le_of_ble_eq_true rfl) (ls := [some (.ref c), some (.int what), none, none, none, none, none]) rfl ?_
  intro V hVl hVE hVd hVc hVs hVQ hVX
  refine sX0_gather_0 _ _ _ _ _ ?_
  simp (disch := omega) only [oCS, oIld, oPush, List.getElem?_cons_zero, List.getElem?_cons_succ, List.set_cons_zero, List.set_cons_succ, List.drop_succ_cons, List.drop_zero, List.take_succ_cons, List.take_zero, List.length_cons, List.length_nil, List.reverse_cons, List.reverse_nil, List.nil_append, List.cons_append, Option.toList_some, Option.toList_none, va_rf_s, true_and, and_true, true_implies, false_implies, not_true_eq_false, not_false_eq_true, Nat.reduceAdd, Nat.reduceLeDiff, Nat.le_add_left, Nat.zero_le, Nat.le_refl, znew, true_or, or_true, b01_t, b01_f, b01_ok, bool_ft, vp_b01, vp_b0, vp_b1, b01_eq0, b01_eq1, implies_true, nI_add, nI_clamp, zi_in, zi_le_t, zi_le_f, zi_lt_t, zi_lt_f, zi_eq_t, zi_eq_f, nI_leI, nI_ltI, nI_eq, z_in, pk_mul, zu_same, zu_rw, zu_ix, zi_ne0, zi_sub, zi_m1, Nat.add_sub_cancel, Nat.reduceMul, Nat.reduceSub]
  refine zC.of0 (zX0_isIn _ _ _ _) (by omega) (Nat.zero_le _) (Nat.zero_le _) ?_
  rintro _ _ ⟨rfl, rfl⟩
  rw [okI_dec2 (by omega)]
  cases hw : okI what (1 + 1) with
  | false =>
    refine sX0_gather_6 _ _ _ _ _ ?_
    simp (disch := omega) only [oIf, oIst, oPush, oRI, List.getElem?_cons_zero, List.getElem?_cons_succ, List.set_cons_zero, List.set_cons_succ, List.drop_succ_cons, List.drop_zero, List.take_succ_cons, List.take_zero, List.length_cons, List.length_nil, List.reverse_cons, List.reverse_nil, List.nil_append, List.cons_append, Option.toList_some, Option.toList_none, va_rf_s, true_and, and_true, true_implies, false_implies, not_true_eq_false, not_false_eq_true, Nat.reduceAdd, Nat.reduceLeDiff, Nat.le_add_left, Nat.zero_le, Nat.le_refl, znew, true_or, or_true, b01_t, b01_f, b01_ok, bool_ft, vp_b01, vp_b0, vp_b1, b01_eq0, b01_eq1, implies_true, nI_add, nI_clamp, zi_in, zi_le_t, zi_le_f, zi_lt_t, zi_lt_f, zi_eq_t, zi_eq_f, nI_leI, nI_ltI, nI_eq, z_in, pk_mul, zu_same, zu_rw, zu_ix, zi_ne0, zi_sub, zi_m1, Nat.add_sub_cancel, Nat.reduceMul, Nat.reduceSub]
    exact hVQ _ _ ⟨S, rfl, cqF.rf, by rw [gatherR, if_neg (by rw [hw]; decide)]⟩
  | true =>
    rw [gatherR, if_pos hw] at hVQ
    have loopY : ∀ cn, cn < tnc t → (∀ S' x5 x6, cqF c S S' → zW V YX0_gather 21 [some (.ref c), some (.int what), some (.int (an1 (gaO t T at' (cn + 1)))), some (.int (nI (an3 (gaO t T at' (cn + 1))))), some (.int (nI (cn + 1))), x5, x6] [] (z, h, S', L) 0 0) →
        ∀ y, y ≤ tny t → ∀ S', cqF c S S' → (∀ j, j < tnc t → S' (c + 73) j = nI (fqN (farM t (nI 0) (nI 0) cn j))) → zW V YX0_gather 43 [some (.ref c), some (.int what), some (.int (an1 (gaO t T at' cn))), some (.int (nI (an3 (gaO t T at' cn)))), some (.int (nI cn)), some (.int (nI (gaM t T at' cn y))), some (.int (nI y))] [] (z, h, S', L) 0 0 := by
      intro cn hcn hn
      refine z_down ?_ (fun y hy ih => ?_)
      · intro S' hF hG
        have hl := gaO_lt (T := T) (at' := at') hst h10 h6 cn
        obtain ⟨hm1, hm2⟩ := gaM_r (T := T) (at' := at') (c := cn) hst h10 (tny t)
        have hB2 := (gaO_B (t := t) (T := T) (at' := at') (n := cn)).1
        have ha3 : an3 (gaO t T at' cn) ≤ 1000000 := by
          cases ha : gaO t T at' cn with
          | none => exact Nat.le_refl _
          | some q => have := gaO_v (k := q.1) (v := q.2) ha; show q.2 ≤ _; omega
        have hn := hn S'
        rw [gaO] at hn
        refine sX0_gather_43 _ _ _ _ _ ?_
        simp (disch := omega) only [oAld, oCV, oIld, hB.k, List.getElem?_cons_zero, List.getElem?_cons_succ, List.set_cons_zero, List.set_cons_succ, List.drop_succ_cons, List.drop_zero, List.take_succ_cons, List.take_zero, List.length_cons, List.length_nil, List.reverse_cons, List.reverse_nil, List.nil_append, List.cons_append, Option.toList_some, Option.toList_none, va_rf_s, true_and, and_true, true_implies, false_implies, not_true_eq_false, not_false_eq_true, Nat.reduceAdd, Nat.reduceLeDiff, Nat.le_add_left, Nat.zero_le, Nat.le_refl, znew, true_or, or_true, b01_t, b01_f, b01_ok, bool_ft, vp_b01, vp_b0, vp_b1, b01_eq0, b01_eq1, implies_true, nI_add, nI_clamp, zi_in, zi_le_t, zi_le_f, zi_lt_t, zi_lt_f, zi_eq_t, zi_eq_f, nI_leI, nI_ltI, nI_eq, z_in, pk_mul, zu_same, zu_rw, zu_ix, zi_ne0, zi_sub, zi_m1, Nat.add_sub_cancel, Nat.reduceMul, Nat.reduceSub]
        refine zC.of0 (zX0_youngs (hQ.fr hF)) (by omega) (Nat.zero_le _) (Nat.zero_le _) ?_
        rintro _ _ ⟨rfl, rfl⟩
        by_cases hlt : gaN t T at' cn (tny t) < an2 (gaO t T at' cn)
        · have hlt' : gaM t T at' cn (tny t) < an3 (gaO t T at' cn) := by rw [hl]; exact hlt
          have e : gaM t T at' cn (tny t) = gaN t T at' cn (tny t) := by omega
          rw [if_pos hlt] at hn
          rw [e] at hlt' ⊢
          refine sX0_gather_49 _ _ _ _ _ ?_
          simp (disch := omega) only [oAld, oCV, oGR, oIfc, oIld, oInc, oIst, oNop, hB.k, hB.r7, hW.k, List.getElem?_cons_zero, List.getElem?_cons_succ, List.set_cons_zero, List.set_cons_succ, List.drop_succ_cons, List.drop_zero, List.take_succ_cons, List.take_zero, List.length_cons, List.length_nil, List.reverse_cons, List.reverse_nil, List.nil_append, List.cons_append, Option.toList_some, Option.toList_none, va_rf_s, true_and, and_true, true_implies, false_implies, not_true_eq_false, not_false_eq_true, Nat.reduceAdd, Nat.reduceLeDiff, Nat.le_add_left, Nat.zero_le, Nat.le_refl, znew, true_or, or_true, b01_t, b01_f, b01_ok, bool_ft, vp_b01, vp_b0, vp_b1, b01_eq0, b01_eq1, implies_true, nI_add, nI_clamp, zi_in, zi_le_t, zi_le_f, zi_lt_t, zi_lt_f, zi_eq_t, zi_eq_f, nI_leI, nI_ltI, nI_eq, z_in, pk_mul, zu_same, zu_rw, zu_ix, zi_ne0, zi_sub, zi_m1, Nat.add_sub_cancel, Nat.reduceMul, Nat.reduceSub]
          exact hn _ _ hF
        · have hlt' : ¬ gaM t T at' cn (tny t) < an3 (gaO t T at' cn) := by rw [hl]; exact hlt
          rw [if_neg hlt] at hn
          refine sX0_gather_49 _ _ _ _ _ ?_
          simp (disch := omega) only [oAld, oCV, oGR, oIfc, oIld, oInc, oIst, oNop, hB.k, hB.r7, hW.k, List.getElem?_cons_zero, List.getElem?_cons_succ, List.set_cons_zero, List.set_cons_succ, List.drop_succ_cons, List.drop_zero, List.take_succ_cons, List.take_zero, List.length_cons, List.length_nil, List.reverse_cons, List.reverse_nil, List.nil_append, List.cons_append, Option.toList_some, Option.toList_none, va_rf_s, true_and, and_true, true_implies, false_implies, not_true_eq_false, not_false_eq_true, Nat.reduceAdd, Nat.reduceLeDiff, Nat.le_add_left, Nat.zero_le, Nat.le_refl, znew, true_or, or_true, b01_t, b01_f, b01_ok, bool_ft, vp_b01, vp_b0, vp_b1, b01_eq0, b01_eq1, implies_true, nI_add, nI_clamp, zi_in, zi_le_t, zi_le_f, zi_lt_t, zi_lt_f, zi_eq_t, zi_eq_f, nI_leI, nI_ltI, nI_eq, z_in, pk_mul, zu_same, zu_rw, zu_ix, zi_ne0, zi_sub, zi_m1, Nat.add_sub_cancel, Nat.reduceMul, Nat.reduceSub]
          exact hn _ _ hF
      · intro S' hF hG
        have hQ' := hQ.fr hF
        obtain ⟨e1, e2⟩ := hC y hy
        have e1' : S' (c + 17) y = nI (at' y) := by have := hQ'.2.2.2.1.1 y (by omega); rw [if_pos hy, e1] at this; exact this
        have e3 := hG _ e2
        have ih := ih S' hF hG
        rw [gaM] at ih
        refine sX0_gather_43 _ _ _ _ _ ?_
        simp (disch := omega) only [oAld, oCV, oIld, hB.k, List.getElem?_cons_zero, List.getElem?_cons_succ, List.set_cons_zero, List.set_cons_succ, List.drop_succ_cons, List.drop_zero, List.take_succ_cons, List.take_zero, List.length_cons, List.length_nil, List.reverse_cons, List.reverse_nil, List.nil_append, List.cons_append, Option.toList_some, Option.toList_none, va_rf_s, true_and, and_true, true_implies, false_implies, not_true_eq_false, not_false_eq_true, Nat.reduceAdd, Nat.reduceLeDiff, Nat.le_add_left, Nat.zero_le, Nat.le_refl, znew, true_or, or_true, b01_t, b01_f, b01_ok, bool_ft, vp_b01, vp_b0, vp_b1, b01_eq0, b01_eq1, implies_true, nI_add, nI_clamp, zi_in, zi_le_t, zi_le_f, zi_lt_t, zi_lt_f, zi_eq_t, zi_eq_f, nI_leI, nI_ltI, nI_eq, z_in, pk_mul, zu_same, zu_rw, zu_ix, zi_ne0, zi_sub, zi_m1, Nat.add_sub_cancel, Nat.reduceMul, Nat.reduceSub]
        refine zC.of0 (zX0_youngs hQ') (by omega) (Nat.zero_le _) (Nat.zero_le _) ?_
        rintro _ _ ⟨rfl, rfl⟩
        refine sX0_gather_49 _ _ _ _ _ ?_
        simp (disch := omega) only [oAld, oCV, oGR, oIfc, oIld, oInc, oIst, oNop, hB.k, hB.r7, hW.k, List.getElem?_cons_zero, List.getElem?_cons_succ, List.set_cons_zero, List.set_cons_succ, List.drop_succ_cons, List.drop_zero, List.take_succ_cons, List.take_zero, List.length_cons, List.length_nil, List.reverse_cons, List.reverse_nil, List.nil_append, List.cons_append, Option.toList_some, Option.toList_none, va_rf_s, true_and, and_true, true_implies, false_implies, not_true_eq_false, not_false_eq_true, Nat.reduceAdd, Nat.reduceLeDiff, Nat.le_add_left, Nat.zero_le, Nat.le_refl, znew, true_or, or_true, b01_t, b01_f, b01_ok, bool_ft, vp_b01, vp_b0, vp_b1, b01_eq0, b01_eq1, implies_true, nI_add, nI_clamp, zi_in, zi_le_t, zi_le_f, zi_lt_t, zi_lt_f, zi_eq_t, zi_eq_f, nI_leI, nI_ltI, nI_eq, z_in, pk_mul, zu_same, zu_rw, zu_ix, zi_ne0, zi_sub, zi_m1, Nat.add_sub_cancel, Nat.reduceMul, Nat.reduceSub]
        refine zC.of0 (zX0_home hQ' hy) (by omega) (Nat.zero_le _) (Nat.zero_le _) ?_
        rintro _ _ ⟨rfl, rfl⟩
        by_cases h0 : T (12 + y) = nI 0
        · rw [if_pos h0] at ih
          rw [if_pos h0]
          refine sX0_gather_63 _ _ _ _ _ ?_
          simp (disch := omega) only [oAld, oAld1, oBin, oGR, oIf, oIld, oInc, oIst, oNop, oPush, hB.k, hB.r17, hB.t17, hB.n17, hB.r7, hW.k, hW.r0, hW.t0, hW.n0, e1', e3, List.getElem?_cons_zero, List.getElem?_cons_succ, List.set_cons_zero, List.set_cons_succ, List.drop_succ_cons, List.drop_zero, List.take_succ_cons, List.take_zero, List.length_cons, List.length_nil, List.reverse_cons, List.reverse_nil, List.nil_append, List.cons_append, Option.toList_some, Option.toList_none, va_rf_s, true_and, and_true, true_implies, false_implies, not_true_eq_false, not_false_eq_true, Nat.reduceAdd, Nat.reduceLeDiff, Nat.le_add_left, Nat.zero_le, Nat.le_refl, znew, true_or, or_true, b01_t, b01_f, b01_ok, bool_ft, vp_b01, vp_b0, vp_b1, b01_eq0, b01_eq1, implies_true, nI_add, nI_clamp, zi_in, zi_le_t, zi_le_f, zi_lt_t, zi_lt_f, zi_eq_t, zi_eq_f, nI_leI, nI_ltI, nI_eq, z_in, pk_mul, zu_same, zu_rw, zu_ix, zi_ne0, zi_sub, zi_m1, Nat.add_sub_cancel, Nat.reduceMul, Nat.reduceSub]
          exact ih
        · rw [if_neg h0] at ih
          rw [if_neg h0]
          refine sX0_gather_63 _ _ _ _ _ ?_
          simp (disch := omega) only [oAld, oAld1, oBin, oGR, oIf, oIld, oInc, oIst, oNop, oPush, hB.k, hB.r17, hB.t17, hB.n17, hB.r7, hW.k, hW.r0, hW.t0, hW.n0, List.getElem?_cons_zero, List.getElem?_cons_succ, List.set_cons_zero, List.set_cons_succ, List.drop_succ_cons, List.drop_zero, List.take_succ_cons, List.take_zero, List.length_cons, List.length_nil, List.reverse_cons, List.reverse_nil, List.nil_append, List.cons_append, Option.toList_some, Option.toList_none, va_rf_s, true_and, and_true, true_implies, false_implies, not_true_eq_false, not_false_eq_true, Nat.reduceAdd, Nat.reduceLeDiff, Nat.le_add_left, Nat.zero_le, Nat.le_refl, znew, true_or, or_true, b01_t, b01_f, b01_ok, bool_ft, vp_b01, vp_b0, vp_b1, b01_eq0, b01_eq1, implies_true, nI_add, nI_clamp, zi_in, zi_le_t, zi_le_f, zi_lt_t, zi_lt_f, zi_eq_t, zi_eq_f, nI_leI, nI_ltI, nI_eq, z_in, pk_mul, zu_same, zu_rw, zu_ix, zi_ne0, zi_sub, zi_m1, Nat.add_sub_cancel, Nat.reduceMul, Nat.reduceSub]
          exact ih
    have loopC : ∀ cn, cn ≤ tnc t → ∀ S' x5 x6, cqF c S S' → zW V YX0_gather 21 [some (.ref c), some (.int what), some (.int (an1 (gaO t T at' cn))), some (.int (nI (an3 (gaO t T at' cn)))), some (.int (nI cn)), x5, x6] [] (z, h, S', L) 0 0 := by
      refine z_down ?_ (fun cn hcn ih => ?_)
      · intro S' x5 x6 hF
        refine sX0_gather_21 _ _ _ _ _ ?_
        simp (disch := omega) only [oAld, oCV, oIld, hB.k, List.getElem?_cons_zero, List.getElem?_cons_succ, List.set_cons_zero, List.set_cons_succ, List.drop_succ_cons, List.drop_zero, List.take_succ_cons, List.take_zero, List.length_cons, List.length_nil, List.reverse_cons, List.reverse_nil, List.nil_append, List.cons_append, Option.toList_some, Option.toList_none, va_rf_s, true_and, and_true, true_implies, false_implies, not_true_eq_false, not_false_eq_true, Nat.reduceAdd, Nat.reduceLeDiff, Nat.le_add_left, Nat.zero_le, Nat.le_refl, znew, true_or, or_true, b01_t, b01_f, b01_ok, bool_ft, vp_b01, vp_b0, vp_b1, b01_eq0, b01_eq1, implies_true, nI_add, nI_clamp, zi_in, zi_le_t, zi_le_f, zi_lt_t, zi_lt_f, zi_eq_t, zi_eq_f, nI_leI, nI_ltI, nI_eq, z_in, pk_mul, zu_same, zu_rw, zu_ix, zi_ne0, zi_sub, zi_m1, Nat.add_sub_cancel, Nat.reduceMul, Nat.reduceSub]
        refine zC.of0 (zX0_corners (hQ.fr hF)) (by omega) (Nat.zero_le _) (Nat.zero_le _) ?_
        rintro _ _ ⟨rfl, rfl⟩
        cases ha : gaO t T at' (tnc t) with
        | none =>
          rw [ha] at hVQ
          rw [show an1 none = -2 from rfl]
          refine sX0_gather_27 _ _ _ _ _ ?_
          simp (disch := omega) only [oAld, oCV, oIf, oIfc, oIld, oIst, oNop, oPush, oRI, hB.k, m2lt, List.getElem?_cons_zero, List.getElem?_cons_succ, List.set_cons_zero, List.set_cons_succ, List.drop_succ_cons, List.drop_zero, List.take_succ_cons, List.take_zero, List.length_cons, List.length_nil, List.reverse_cons, List.reverse_nil, List.nil_append, List.cons_append, Option.toList_some, Option.toList_none, va_rf_s, true_and, and_true, true_implies, false_implies, not_true_eq_false, not_false_eq_true, Nat.reduceAdd, Nat.reduceLeDiff, Nat.le_add_left, Nat.zero_le, Nat.le_refl, znew, true_or, or_true, b01_t, b01_f, b01_ok, bool_ft, vp_b01, vp_b0, vp_b1, b01_eq0, b01_eq1, implies_true, nI_add, nI_clamp, zi_in, zi_le_t, zi_le_f, zi_lt_t, zi_lt_f, zi_eq_t, zi_eq_f, nI_leI, nI_ltI, nI_eq, z_in, pk_mul, zu_same, zu_rw, zu_ix, zi_ne0, zi_sub, zi_m1, Nat.add_sub_cancel, Nat.reduceMul, Nat.reduceSub]
          exact hVQ _ _ ⟨S', rfl, hF, rfl⟩
        | some q =>
          rw [ha] at hVQ
          have hq := (gaO_B (t := t) (T := T) (at' := at') (n := tnc t)).2 q.1 q.2 ha
          rw [show an1 (some q) = nI q.1 from rfl, show an3 (some q) = q.2 from rfl]
          refine sX0_gather_27 _ _ _ _ _ ?_
          simp (disch := omega) only [oAld, oCV, oIf, oIfc, oIld, oIst, oNop, oPush, oRI, hB.k, List.getElem?_cons_zero, List.getElem?_cons_succ, List.set_cons_zero, List.set_cons_succ, List.drop_succ_cons, List.drop_zero, List.take_succ_cons, List.take_zero, List.length_cons, List.length_nil, List.reverse_cons, List.reverse_nil, List.nil_append, List.cons_append, Option.toList_some, Option.toList_none, va_rf_s, true_and, and_true, true_implies, false_implies, not_true_eq_false, not_false_eq_true, Nat.reduceAdd, Nat.reduceLeDiff, Nat.le_add_left, Nat.zero_le, Nat.le_refl, znew, true_or, or_true, b01_t, b01_f, b01_ok, bool_ft, vp_b01, vp_b0, vp_b1, b01_eq0, b01_eq1, implies_true, nI_add, nI_clamp, zi_in, zi_le_t, zi_le_f, zi_lt_t, zi_lt_f, zi_eq_t, zi_eq_f, nI_leI, nI_ltI, nI_eq, z_in, pk_mul, zu_same, zu_rw, zu_ix, zi_ne0, zi_sub, zi_m1, Nat.add_sub_cancel, Nat.reduceMul, Nat.reduceSub]
          refine ⟨fun h0 => hVQ _ _ ⟨S', rfl, hF, ?_⟩, fun h0 => hVQ _ _ ⟨S', rfl, hF, ?_⟩⟩
          · simp only []; rw [if_pos h0]
          · simp only []; rw [if_neg h0]
      · intro S' x5 x6 hF
        refine sX0_gather_21 _ _ _ _ _ ?_
        simp (disch := omega) only [oAld, oCV, oIld, hB.k, List.getElem?_cons_zero, List.getElem?_cons_succ, List.set_cons_zero, List.set_cons_succ, List.drop_succ_cons, List.drop_zero, List.take_succ_cons, List.take_zero, List.length_cons, List.length_nil, List.reverse_cons, List.reverse_nil, List.nil_append, List.cons_append, Option.toList_some, Option.toList_none, va_rf_s, true_and, and_true, true_implies, false_implies, not_true_eq_false, not_false_eq_true, Nat.reduceAdd, Nat.reduceLeDiff, Nat.le_add_left, Nat.zero_le, Nat.le_refl, znew, true_or, or_true, b01_t, b01_f, b01_ok, bool_ft, vp_b01, vp_b0, vp_b1, b01_eq0, b01_eq1, implies_true, nI_add, nI_clamp, zi_in, zi_le_t, zi_le_f, zi_lt_t, zi_lt_f, zi_eq_t, zi_eq_f, nI_leI, nI_ltI, nI_eq, z_in, pk_mul, zu_same, zu_rw, zu_ix, zi_ne0, zi_sub, zi_m1, Nat.add_sub_cancel, Nat.reduceMul, Nat.reduceSub]
        refine zC.of0 (zX0_corners (hQ.fr hF)) (by omega) (Nat.zero_le _) (Nat.zero_le _) ?_
        rintro _ _ ⟨rfl, rfl⟩
        refine sX0_gather_27 _ _ _ _ _ ?_
        simp (disch := omega) only [oAld, oCV, oIf, oIfc, oIld, oIst, oNop, oPush, oRI, hB.k, List.getElem?_cons_zero, List.getElem?_cons_succ, List.set_cons_zero, List.set_cons_succ, List.drop_succ_cons, List.drop_zero, List.take_succ_cons, List.take_zero, List.length_cons, List.length_nil, List.reverse_cons, List.reverse_nil, List.nil_append, List.cons_append, Option.toList_some, Option.toList_none, va_rf_s, true_and, and_true, true_implies, false_implies, not_true_eq_false, not_false_eq_true, Nat.reduceAdd, Nat.reduceLeDiff, Nat.le_add_left, Nat.zero_le, Nat.le_refl, znew, true_or, or_true, b01_t, b01_f, b01_ok, bool_ft, vp_b01, vp_b0, vp_b1, b01_eq0, b01_eq1, implies_true, nI_add, nI_clamp, zi_in, zi_le_t, zi_le_f, zi_lt_t, zi_lt_f, zi_eq_t, zi_eq_f, nI_leI, nI_ltI, nI_eq, z_in, pk_mul, zu_same, zu_rw, zu_ix, zi_ne0, zi_sub, zi_m1, Nat.add_sub_cancel, Nat.reduceMul, Nat.reduceSub]
        refine zC.of0 (zX0_laysFar (hQ.fr hF) hcn (nI 0)) (by omega) (Nat.zero_le _) (Nat.zero_le _) ?_
        rintro _ _ ⟨rfl, S1, rfl, hF1, hG⟩
        refine sX0_gather_40 _ _ _ _ _ ?_
        simp (disch := omega) only [oIst, oPush, List.getElem?_cons_zero, List.getElem?_cons_succ, List.set_cons_zero, List.set_cons_succ, List.drop_succ_cons, List.drop_zero, List.take_succ_cons, List.take_zero, List.length_cons, List.length_nil, List.reverse_cons, List.reverse_nil, List.nil_append, List.cons_append, Option.toList_some, Option.toList_none, va_rf_s, true_and, and_true, true_implies, false_implies, not_true_eq_false, not_false_eq_true, Nat.reduceAdd, Nat.reduceLeDiff, Nat.le_add_left, Nat.zero_le, Nat.le_refl, znew, true_or, or_true, b01_t, b01_f, b01_ok, bool_ft, vp_b01, vp_b0, vp_b1, b01_eq0, b01_eq1, implies_true, nI_add, nI_clamp, zi_in, zi_le_t, zi_le_f, zi_lt_t, zi_lt_f, zi_eq_t, zi_eq_f, nI_leI, nI_ltI, nI_eq, z_in, pk_mul, zu_same, zu_rw, zu_ix, zi_ne0, zi_sub, zi_m1, Nat.add_sub_cancel, Nat.reduceMul, Nat.reduceSub]
        exact loopY cn hcn ih 0 (by omega) S1 (hF.tr (cqF.far hF1)) hG
    refine sX0_gather_6 _ _ _ _ _ ?_
    simp (disch := omega) only [oIf, oIst, oPush, oRI, mill, List.getElem?_cons_zero, List.getElem?_cons_succ, List.set_cons_zero, List.set_cons_succ, List.drop_succ_cons, List.drop_zero, List.take_succ_cons, List.take_zero, List.length_cons, List.length_nil, List.reverse_cons, List.reverse_nil, List.nil_append, List.cons_append, Option.toList_some, Option.toList_none, va_rf_s, true_and, and_true, true_implies, false_implies, not_true_eq_false, not_false_eq_true, Nat.reduceAdd, Nat.reduceLeDiff, Nat.le_add_left, Nat.zero_le, Nat.le_refl, znew, true_or, or_true, b01_t, b01_f, b01_ok, bool_ft, vp_b01, vp_b0, vp_b1, b01_eq0, b01_eq1, implies_true, nI_add, nI_clamp, zi_in, zi_le_t, zi_le_f, zi_lt_t, zi_lt_f, zi_eq_t, zi_eq_f, nI_leI, nI_ltI, nI_eq, z_in, pk_mul, zu_same, zu_rw, zu_ix, zi_ne0, zi_sub, zi_m1, Nat.add_sub_cancel, Nat.reduceMul, Nat.reduceSub]
    exact loopC 0 (by omega) S _ _ cqF.rf
end CV
