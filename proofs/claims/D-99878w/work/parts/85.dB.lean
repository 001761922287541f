/-! the component: laysFrom -/
section DB
variable {l : Launch} {E : zE} {z : Nat} {h : Nat → Option zSh} {S S0 : Nat → Nat → Int32} {L : Nat → Nat → Int64} {c D ta : Nat} {t : ZT} {q0 T : Nat → Int32} {A : zTA}
theorem asn_hi {k j : Nat} (hj : tny t ≤ j) : asn t T k j = T j := by rw [asn, if_neg (fun q => by omega)]
theorem ly_row {k k' : Nat} (hs : lyS c t T S0 S (tny t) k k') {j : Nat} (hj : j < tny t) : S (c + 27) j = asn t T k j := by
  obtain ⟨-, -, h1, h2, -⟩ := hs
  cases ho : outF T j with
  | false => rw [h1 j hj ho, asn, if_neg (fun q => by rw [ho] at q; exact absurd q.2 (by decide))]
  | true => rw [h2 j hj ho, asn, if_pos ⟨hj, ho⟩]
theorem ly_la {k k' : Nat} (h6 : tny t ≤ 6) (hs : lyS c t T S0 S (tny t) k k') {q : Nat} (hq : q < tnc t) : S (c + 72) q = lightF (tny t) (asn t T k) (nI q) := by
  have e := hs.2.2.2.2.1 q hq
  rw [e, ← la_full (T := T) (fun j hj => asn_hi (by omega))]
  refine sumI_ext (fun j hj => ?_)
  have : laB T (S (c + 27)) (tny t) q j = laB T (asn t T k) (tny t) q j := by unfold laB; rw [ly_row hs hj]
  show (if laB T (S (c + 27)) (tny t) q j = true then T (6 + j) else nI 0) = _
  rw [this]
theorem zX0_leaf (hQ0 : cQ h S0 c z D ta t q0 A T) {p : Nat} (hs : lyS c t T S0 S (tny t) p p) : zM l E 4 YX0_laysFrom [.ref c, .int (nI (tny t))] (z, h, S, L) 0 0 (fun r X => r = none ∧ ∃ S', X = (z, h, S', L) ∧ lyS c t T S0 S' (tny t) p (p + 1) ∧ S' (c + 27) = S (c + 27)) (fun _ _ => False) := by
  obtain ⟨hB, hTa, hX, hT, hI, hTI⟩ := id hQ0
  obtain ⟨h7, h10, h6, h5⟩ := hX.b
  have hW := hB.tr
  have hQ := hQ0.fr hs.1
  refine zM.go rfl rfl (Nat.le_of_ble_eq_true rfl) (ls := [some (.ref c), some (.int (nI (tny t))), none, none]) rfl ?_
  intro V hVl hVE hVd hVc hVs hVQ hVX
  refine sX0_laysFrom_0 _ _ _ _ _ ?_
  simp (disch := omega) only [oAld, oCV, oIld, hB.k, List.getElem?_cons_zero, List.getElem?_cons_succ, List.set_cons_zero, List.set_cons_succ, List.drop_succ_cons, List.drop_zero, List.take_succ_cons, List.take_zero, List.length_cons, List.length_nil, List.reverse_cons, List.reverse_nil, List.nil_append, List.cons_append, Option.toList_some, Option.toList_none, va_rf_s, true_and, and_true, true_implies, false_implies, not_true_eq_false, not_false_eq_true, Nat.reduceAdd, Nat.reduceLeDiff, Nat.le_add_left, Nat.zero_le, Nat.le_refl, znew, true_or, or_true, b01_t, b01_f, b01_ok, bool_ft, vp_b01, vp_b0, vp_b1, b01_eq0, b01_eq1, implies_true, nI_add, nI_clamp, zi_in, zi_le_t, zi_le_f, zi_lt_t, zi_lt_f, zi_eq_t, zi_eq_f, nI_leI, nI_ltI, nI_eq, z_in, pk_mul, zu_same, zu_rw, zu_ix, zi_ne0, zi_sub, zi_m1, Nat.add_sub_cancel, Nat.reduceMul, Nat.reduceSub]
  refine zC.of0 (zX0_youngs hQ) (by omega) (Nat.zero_le _) (Nat.zero_le _) ?_
  rintro _ _ ⟨rfl, rfl⟩
  refine sX0_laysFrom_5 _ _ _ _ _ ?_
  simp (disch := omega) only [oAld, oCV, oGR, oIfc, oIld, hB.k, hB.r7, hW.k, List.getElem?_cons_zero, List.getElem?_cons_succ, List.set_cons_zero, List.set_cons_succ, List.drop_succ_cons, List.drop_zero, List.take_succ_cons, List.take_zero, List.length_cons, List.length_nil, List.reverse_cons, List.reverse_nil, List.nil_append, List.cons_append, Option.toList_some, Option.toList_none, va_rf_s, true_and, and_true, true_implies, false_implies, not_true_eq_false, not_false_eq_true, Nat.reduceAdd, Nat.reduceLeDiff, Nat.le_add_left, Nat.zero_le, Nat.le_refl, znew, true_or, or_true, b01_t, b01_f, b01_ok, bool_ft, vp_b01, vp_b0, vp_b1, b01_eq0, b01_eq1, implies_true, nI_add, nI_clamp, zi_in, zi_le_t, zi_le_f, zi_lt_t, zi_lt_f, zi_eq_t, zi_eq_f, nI_leI, nI_ltI, nI_eq, z_in, pk_mul, zu_same, zu_rw, zu_ix, zi_ne0, zi_sub, zi_m1, Nat.add_sub_cancel, Nat.reduceMul, Nat.reduceSub]
  refine zC.of0 (zX0_litSoFar hQ (la := fun q => lightF (tny t) (asn t T p) (nI q)) (fun j hj => ly_la h6 hs hj)) (by omega) (Nat.zero_le _) (Nat.zero_le _) ?_
  rintro _ _ ⟨rfl, rfl⟩
  rw [← nwy_cnt h10]
  have e15 := hs.2.2.2.2.2.1
  refine sX0_laysFrom_12 _ _ _ _ _ ?_
  simp (disch := omega) only [oAld, oGI, oIfc, oIld, oIst, oPI, oPush, oRV, hB.k, e15, List.getElem?_cons_zero, List.getElem?_cons_succ, List.set_cons_zero, List.set_cons_succ, List.drop_succ_cons, List.drop_zero, List.take_succ_cons, List.take_zero, List.length_cons, List.length_nil, List.reverse_cons, List.reverse_nil, List.nil_append, List.cons_append, Option.toList_some, Option.toList_none, va_rf_s, true_and, and_true, true_implies, false_implies, not_true_eq_false, not_false_eq_true, Nat.reduceAdd, Nat.reduceLeDiff, Nat.le_add_left, Nat.zero_le, Nat.le_refl, znew, true_or, or_true, b01_t, b01_f, b01_ok, bool_ft, vp_b01, vp_b0, vp_b1, b01_eq0, b01_eq1, implies_true, nI_add, nI_clamp, zi_in, zi_le_t, zi_le_f, zi_lt_t, zi_lt_f, zi_eq_t, zi_eq_f, nI_leI, nI_ltI, nI_eq, z_in, pk_mul, zu_same, zu_rw, zu_ix, zi_ne0, zi_sub, zi_m1, Nat.add_sub_cancel, Nat.reduceMul, Nat.reduceSub]
  refine ⟨fun h0 => ?_, fun h0 => ?_⟩
  · have loop : ∀ y, y ≤ 6 → ∀ S', (∀ a, a ≠ c → a ≠ c + 71 → S' a = S a) → (∀ j, j ≠ 15 → S' c j = S c j) → S' c 15 = nwy t T p → (∀ j, j < y → S' (c + 71) j = S (c + 27) j) → zW V YX0_laysFrom 29 [some (.ref c), some (.int (nI (tny t))), some (.int (nwy t T p)), some (.int (nI y))] [] (z, h, S', L) 0 0 := by
      refine z_down ?_ (fun y hy ih => ?_)
      · intro S' f1 f2 f3 f4
        refine sX0_laysFrom_29 _ _ _ _ _ ?_
        simp (disch := omega) only [oAld, oAld1, oAst1, oGR, oIfc, oIld, oInc, oNop, oPush, oRV, hB.k, hB.r14, hB.t14, hB.n14, hB.r8, hW.k, hW.r0, hW.t0, hW.n0, List.getElem?_cons_zero, List.getElem?_cons_succ, List.set_cons_zero, List.set_cons_succ, List.drop_succ_cons, List.drop_zero, List.take_succ_cons, List.take_zero, List.length_cons, List.length_nil, List.reverse_cons, List.reverse_nil, List.nil_append, List.cons_append, Option.toList_some, Option.toList_none, va_rf_s, true_and, and_true, true_implies, false_implies, not_true_eq_false, not_false_eq_true, Nat.reduceAdd, Nat.reduceLeDiff, Nat.le_add_left, Nat.zero_le, Nat.le_refl, znew, true_or, or_true, b01_t, b01_f, b01_ok, bool_ft, vp_b01, vp_b0, vp_b1, b01_eq0, b01_eq1, implies_true, nI_add, nI_clamp, zi_in, zi_le_t, zi_le_f, zi_lt_t, zi_lt_f, zi_eq_t, zi_eq_f, nI_leI, nI_ltI, nI_eq, z_in, pk_mul, zu_same, zu_rw, zu_ix, zi_ne0, zi_sub, zi_m1, Nat.add_sub_cancel, Nat.reduceMul, Nat.reduceSub]
        obtain ⟨a1, a2, a3, a4, a5, a6, a7⟩ := hs
        have e27 : S' (c + 27) = S (c + 27) := f1 _ (by omega) (by omega)
        refine hVQ _ _ ⟨rfl, S', rfl, ⟨a1.tr ⟨fun a h1 h2 h3 => f1 a h1 (by omega), f2⟩, fun a h1 h2 h3 h4 => (f1 a h1 h3).trans (a2 a h1 h2 h3 h4), by rw [e27]; exact a3, by rw [e27]; exact a4, ?_, ?_, fun _ j hj ho => ?_⟩, e27⟩
        · rw [e27, f1 _ (by omega) (by omega)]; exact a5
        · rw [f3, bsW_t h0]
        · have : ¬ T (12 + j) = nI 1 := fun q => by unfold outF at ho; rw [q] at ho; exact absurd ho (by decide)
          rw [f4 j (by omega), bsW_t h0, a4 j hj ho]
          show _ = standF T (asn t T p) j
          rw [standF, if_neg this, asn, if_pos ⟨hj, ho⟩]
      · intro S' f1 f2 f3 f4
        have e27 : S' (c + 27) = S (c + 27) := f1 _ (by omega) (by omega)
        have e27' : S' (c + 26 + 1) y = S (c + 27) y := by rw [← e27]
        refine sX0_laysFrom_29 _ _ _ _ _ ?_
        simp (disch := omega) only [oAld, oAld1, oAst1, oGR, oIfc, oIld, oInc, oNop, oPush, oRV, hB.k, hB.r14, hB.t14, hB.n14, hB.r8, hW.k, hW.r0, hW.t0, hW.n0, e27', List.getElem?_cons_zero, List.getElem?_cons_succ, List.set_cons_zero, List.set_cons_succ, List.drop_succ_cons, List.drop_zero, List.take_succ_cons, List.take_zero, List.length_cons, List.length_nil, List.reverse_cons, List.reverse_nil, List.nil_append, List.cons_append, Option.toList_some, Option.toList_none, va_rf_s, true_and, and_true, true_implies, false_implies, not_true_eq_false, not_false_eq_true, Nat.reduceAdd, Nat.reduceLeDiff, Nat.le_add_left, Nat.zero_le, Nat.le_refl, znew, true_or, or_true, b01_t, b01_f, b01_ok, bool_ft, vp_b01, vp_b0, vp_b1, b01_eq0, b01_eq1, implies_true, nI_add, nI_clamp, zi_in, zi_le_t, zi_le_f, zi_lt_t, zi_lt_f, zi_eq_t, zi_eq_f, nI_leI, nI_ltI, nI_eq, z_in, pk_mul, zu_same, zu_rw, zu_ix, zi_ne0, zi_sub, zi_m1, Nat.add_sub_cancel, Nat.reduceMul, Nat.reduceSub]
        refine ih _ (fun a h1 h2 => by rw [zu_rw _ _ h2]; exact f1 a h1 h2) (fun j hj => by rw [zu_rw _ _ (by omega)]; exact f2 j hj) (by rw [zu_rw _ _ (by omega)]; exact f3) (fun j hj => ?_)
        by_cases e : j = y
        · subst e; rw [zu_same]
        · rw [zu_ix _ _ e]; exact f4 j (by omega)
    exact loop 0 (by omega) _ (fun a h1 h2 => zu_rw _ _ h1) (fun j hj => zu_ix _ _ hj) (zu_same _ _ _ _) (fun j hj => absurd hj (by omega))
  · obtain ⟨a1, a2, a3, a4, a5, a6, a7⟩ := id hs
    refine hVQ _ _ ⟨rfl, S, rfl, ⟨a1, a2, a3, a4, a5, by rw [bsW_f h0]; exact a6, fun _ j hj ho => ?_⟩, rfl⟩
    by_cases hp : 0 < p
    · rw [bsW_f h0]; exact a7 hp j hj ho
    · obtain rfl : p = 0 := by omega
      exact absurd bsW_first h0
end DB
