/-! reading: one thing told, the whole -/
section NH
variable {l : Launch} {E : zE} {b z : Nat} {h : Nat → Option zSh} {S : Nat → Nat → Int32} {L : Nat → Nat → Int64} {A : List zTk} {sd : Nat} {x : zTx}
theorem pStr_at {q q' : zCu} {x' : zTx} (h : pStr A x q = .ok (x', q')) : q.1 ≤ q'.1 := by
  obtain ⟨⟨c1, q1⟩, h1, h⟩ := pB_inv h
  obtain ⟨⟨c2, q2⟩, h2, h⟩ := pB_inv h
  obtain ⟨⟨n, q3⟩, h3, h⟩ := pB_inv h
  obtain ⟨q4, h4, h⟩ := pB_inv h
  cases h
  have e1 := (pKn_inv h1).2.2.2
  have e2 := (pKn_inv h2).2.2.2
  have e3 := (pNum_inv h3).1
  obtain ⟨-, e4, -⟩ := pMust_inv h4
  have e2' : q2.1 = q1.1 + 1 := e2
  have e3' : q3.1 = q2.1 + 1 := e3
  rw [e4]; show q.1 ≤ q3.1 + 1
  omega
theorem pName_at {has : List Nat → Bool} {q q' : zCu} (h : pName A has q = .ok q') : q'.1 = q.1 + 1 := by
  obtain ⟨q1, h1, h⟩ := pB_inv h
  obtain ⟨-, e1, -⟩ := pMust_inv h1
  cases h
  rw [e1]
theorem pYou_at {q q' : zCu} {x' : zTx} (h : pYou A x q = .ok (x', q')) : q.1 ≤ q'.1 := by
  obtain ⟨q1, h1, h⟩ := pB_inv h
  obtain ⟨⟨n2, q2⟩, h2, h⟩ := pB_inv h
  obtain ⟨⟨n3, q3⟩, h3, h⟩ := pB_inv h
  obtain ⟨⟨c4, q4⟩, h4, h⟩ := pB_inv h
  obtain ⟨q5, h5, h⟩ := pB_inv h
  cases h
  have e1 := pName_at h1
  have e2 : q2.1 = q1.1 + 1 := (pNum_inv h2).1
  have e3 : q3.1 = q2.1 + 1 := (pNum_inv h3).1
  have e4 : q4.1 = q3.1 + 1 := (pKn_inv h4).2.2.2
  obtain ⟨-, e5, -⟩ := pMust_inv h5
  rw [e5]; show q.1 ≤ q4.1 + 1
  omega
theorem to_street {V : zV} (hVl : V.1 = l) (hVE : V.2.1 = E) (hVd : V.2.2.1 = 6) (hM : isM h b) (hA : tkW A) {q : zCu} (hP : mPx b S L A sd (x, q)) (hk : tkK A q.1 = 21) (hVQ : ∀ r X, tOut b z h S L A sd (pStm A (x, q)) r X → V.2.2.2.2.2.1 r X) :
    zW V YX10_tellOne 131 [some (.ref b), none] [] (z, h, S, L) 0 0 := by
  obtain ⟨hC, hB, h12, nb, nc, hL, hnb, hnc⟩ := id hP
  have hB : mB b S L sd x := hB
  have hL : mLw b S sd x nb nc := hL
  have hnb : 4 * nb ≤ q.1 := hnb
  have hnc : nc ≤ q.1 := hnc
  have hC : mC b S L A (.ok q) := hC
  obtain ⟨⟨h19, hsd⟩, ⟨h10, hc7⟩, ⟨h11, hs10⟩, -⟩ := hB.cnt
  have hk' : tkK A (x, q).2.1 = 21 := hk
  have e0 : pStm A (x, q) = pB (pOpen A (xS x).length 10 q) (pStr A x) := by unfold pStm; rw [hk']; rfl
  rw [e0] at hVQ
  have hq0 : tkK A q.1 ≠ 0 := by omega
  refine sX10_tellOne_131 _ _ _ _ _ ?_
  simp (disch := omega) only [oAld, oAld1, oCV, oGI, oGR, oPush, hM.1, hM.r24, hM.t24, hM.n24, h19, h11, List.getElem?_cons_zero, List.getElem?_cons_succ, List.set_cons_zero, List.set_cons_succ, List.drop_succ_cons, List.drop_zero, List.take_succ_cons, List.take_zero, List.length_cons, List.length_nil, List.reverse_cons, List.reverse_nil, List.nil_append, List.cons_append, Option.toList_some, Option.toList_none, va_rf_s, true_and, and_true, true_implies, false_implies, not_true_eq_false, not_false_eq_true, Nat.reduceAdd, Nat.reduceLeDiff, Nat.le_add_left, Nat.zero_le, Nat.le_refl, znew, true_or, or_true, b01_t, b01_f, b01_ok, bool_ft, vp_b01, vp_b0, vp_b1, b01_eq0, b01_eq1, implies_true, nI_add, nI_clamp, zi_in, zi_le_t, zi_le_f, zi_lt_t, zi_lt_f, zi_eq_t, zi_eq_f, nI_leI, nI_ltI, nI_eq, z_in, pk_mul, zu_same, zu_rw, zu_ix, zi_ne0, zi_sub, zi_m1, Nat.add_sub_cancel, Nat.reduceMul, Nat.reduceSub]
  refine zC.of0 (zX10_roomFor hM hA hC (fun q' e => by cases e; exact hq0) (by omega) (by omega)) (by omega) (Nat.zero_le _) (Nat.zero_le _) ?_
  rintro _ _ ⟨rfl, S1, rfl, hf1, hC1⟩
  have hC1' : mC b S1 L A (pOpen A (xS x).length 10 q) := hC1
  have hF1 : mF b sd S S1 := mF.of hf1 rfl rfl
  cases hop : pOpen A (xS x).length 10 q with
  | error e =>
    rw [hop] at hC1' hVQ
    obtain ⟨n, h13, hn, hn5⟩ := mC.bad (e := e) hC1'
    refine sX10_tellOne_146 _ _ _ _ _ ?_
    simp (disch := omega) only [oAld, oCV, oGI, oIf, hM.1, h13, List.getElem?_cons_zero, List.getElem?_cons_succ, List.set_cons_zero, List.set_cons_succ, List.drop_succ_cons, List.drop_zero, List.take_succ_cons, List.take_zero, List.length_cons, List.length_nil, List.reverse_cons, List.reverse_nil, List.nil_append, List.cons_append, Option.toList_some, Option.toList_none, va_rf_s, true_and, and_true, true_implies, false_implies, not_true_eq_false, not_false_eq_true, Nat.reduceAdd, Nat.reduceLeDiff, Nat.le_add_left, Nat.zero_le, Nat.le_refl, znew, true_or, or_true, b01_t, b01_f, b01_ok, bool_ft, vp_b01, vp_b0, vp_b1, b01_eq0, b01_eq1, implies_true, nI_add, nI_clamp, zi_in, zi_le_t, zi_le_f, zi_lt_t, zi_lt_f, zi_eq_t, zi_eq_f, nI_leI, nI_ltI, nI_eq, z_in, pk_mul, zu_same, zu_rw, zu_ix, zi_ne0, zi_sub, zi_m1, Nat.add_sub_cancel, Nat.reduceMul, Nat.reduceSub]
    refine sX10_tellOne_389 _ _ _ _ _ ?_
    simp (disch := omega) only [oRV, List.getElem?_cons_zero, List.getElem?_cons_succ, List.set_cons_zero, List.set_cons_succ, List.drop_succ_cons, List.drop_zero, List.take_succ_cons, List.take_zero, List.length_cons, List.length_nil, List.reverse_cons, List.reverse_nil, List.nil_append, List.cons_append, Option.toList_some, Option.toList_none, va_rf_s, true_and, and_true, true_implies, false_implies, not_true_eq_false, not_false_eq_true, Nat.reduceAdd, Nat.reduceLeDiff, Nat.le_add_left, Nat.zero_le, Nat.le_refl, znew, true_or, or_true, b01_t, b01_f, b01_ok, bool_ft, vp_b01, vp_b0, vp_b1, b01_eq0, b01_eq1, implies_true, nI_add, nI_clamp, zi_in, zi_le_t, zi_le_f, zi_lt_t, zi_lt_f, zi_eq_t, zi_eq_f, nI_leI, nI_ltI, nI_eq, z_in, pk_mul, zu_same, zu_rw, zu_ix, zi_ne0, zi_sub, zi_m1, Nat.add_sub_cancel, Nat.reduceMul, Nat.reduceSub]
    exact hVQ _ _ ⟨rfl, S1, L, rfl, hF1, fun _ _ => rfl, hC1', fun x' q' e => by cases e⟩
  | ok q1 =>
    rw [hop] at hC1' hVQ
    rw [pB_ok] at hVQ
    obtain ⟨hne, hq1⟩ := pOpen_ok hop
    have hq11 : q1.1 = q.1 + 1 := by rw [hq1]
    have h13 := mC.good (q := q1) hC1'
    have hB1 := hB.fr hf1 rfl rfl rfl
    refine sX10_tellOne_146 _ _ _ _ _ ?_
    simp (disch := omega) only [oAld, oCV, oGI, oIf, hM.1, h13, List.getElem?_cons_zero, List.getElem?_cons_succ, List.set_cons_zero, List.set_cons_succ, List.drop_succ_cons, List.drop_zero, List.take_succ_cons, List.take_zero, List.length_cons, List.length_nil, List.reverse_cons, List.reverse_nil, List.nil_append, List.cons_append, Option.toList_some, Option.toList_none, va_rf_s, true_and, and_true, true_implies, false_implies, not_true_eq_false, not_false_eq_true, Nat.reduceAdd, Nat.reduceLeDiff, Nat.le_add_left, Nat.zero_le, Nat.le_refl, znew, true_or, or_true, b01_t, b01_f, b01_ok, bool_ft, vp_b01, vp_b0, vp_b1, b01_eq0, b01_eq1, implies_true, nI_add, nI_clamp, zi_in, zi_le_t, zi_le_f, zi_lt_t, zi_lt_f, zi_eq_t, zi_eq_f, nI_leI, nI_ltI, nI_eq, z_in, pk_mul, zu_same, zu_rw, zu_ix, zi_ne0, zi_sub, zi_m1, Nat.add_sub_cancel, Nat.reduceMul, Nat.reduceSub]
    refine zC.of0 (zX10_tellStreet hM hA hC1' hB1 (by omega)) (by omega) (Nat.zero_le _) (Nat.zero_le _) ?_
    rintro _ _ ⟨rfl, S2, rfl, hF2, hf2, hC2, hB2⟩
    refine sX10_tellOne_157 _ _ _ _ _ ?_
    simp (disch := omega) only [oNop, List.getElem?_cons_zero, List.getElem?_cons_succ, List.set_cons_zero, List.set_cons_succ, List.drop_succ_cons, List.drop_zero, List.take_succ_cons, List.take_zero, List.length_cons, List.length_nil, List.reverse_cons, List.reverse_nil, List.nil_append, List.cons_append, Option.toList_some, Option.toList_none, va_rf_s, true_and, and_true, true_implies, false_implies, not_true_eq_false, not_false_eq_true, Nat.reduceAdd, Nat.reduceLeDiff, Nat.le_add_left, Nat.zero_le, Nat.le_refl, znew, true_or, or_true, b01_t, b01_f, b01_ok, bool_ft, vp_b01, vp_b0, vp_b1, b01_eq0, b01_eq1, implies_true, nI_add, nI_clamp, zi_in, zi_le_t, zi_le_f, zi_lt_t, zi_lt_f, zi_eq_t, zi_eq_f, nI_leI, nI_ltI, nI_eq, z_in, pk_mul, zu_same, zu_rw, zu_ix, zi_ne0, zi_sub, zi_m1, Nat.add_sub_cancel, Nat.reduceMul, Nat.reduceSub]
    refine sX10_tellOne_389 _ _ _ _ _ ?_
    simp (disch := omega) only [oRV, List.getElem?_cons_zero, List.getElem?_cons_succ, List.set_cons_zero, List.set_cons_succ, List.drop_succ_cons, List.drop_zero, List.take_succ_cons, List.take_zero, List.length_cons, List.length_nil, List.reverse_cons, List.reverse_nil, List.nil_append, List.cons_append, Option.toList_some, Option.toList_none, va_rf_s, true_and, and_true, true_implies, false_implies, not_true_eq_false, not_false_eq_true, Nat.reduceAdd, Nat.reduceLeDiff, Nat.le_add_left, Nat.zero_le, Nat.le_refl, znew, true_or, or_true, b01_t, b01_f, b01_ok, bool_ft, vp_b01, vp_b0, vp_b1, b01_eq0, b01_eq1, implies_true, nI_add, nI_clamp, zi_in, zi_le_t, zi_le_f, zi_lt_t, zi_lt_f, zi_eq_t, zi_eq_f, nI_leI, nI_ltI, nI_eq, z_in, pk_mul, zu_same, zu_rw, zu_ix, zi_ne0, zi_sub, zi_m1, Nat.add_sub_cancel, Nat.reduceMul, Nat.reduceSub]
    refine hVQ _ _ ⟨rfl, S2, L, rfl, hF1.tr hF2, fun _ _ => rfl, hC2, fun x' q' e => ?_⟩
    have hm := pStr_at e
    have hxA : xA x' = xA x := by
      obtain ⟨r1, h1, e⟩ := pB_inv e
      obtain ⟨r2, h2, e⟩ := pB_inv e
      obtain ⟨r3, h3, e⟩ := pB_inv e
      obtain ⟨q4, h4, e⟩ := pB_inv e
      cases e; rfl
    have hL2 := (hL.fr hf1 rfl rfl rfl).fr hf2 rfl rfl rfl
    have hL3 : mLw b S2 sd x' nb nc := by
      unfold mLw; rw [hxA]; exact hL2
    rw [e] at hC2
    exact ⟨hC2, hB2 x' q' e, by rw [hf2.f rfl, hf1.f rfl]; exact h12, nb, nc, hL3, by show 4 * nb ≤ q'.1; omega, by show nc ≤ q'.1; omega⟩
theorem to_young {V : zV} (hVl : V.1 = l) (hVE : V.2.1 = E) (hVd : V.2.2.1 = 6) (hM : isM h b) (hA : tkW A) {q : zCu} (hP : mPx b S L A sd (x, q)) (hk : tkK A q.1 = 22) (hVQ : ∀ r X, tOut b z h S L A sd (pStm A (x, q)) r X → V.2.2.2.2.2.1 r X) :
    zW V YX10_tellOne 160 [some (.ref b), none] [] (z, h, S, L) 0 0 := by
  obtain ⟨hC, hB, h12, nb, nc, hL, hnb, hnc⟩ := id hP
  have hB : mB b S L sd x := hB
  have hL : mLw b S sd x nb nc := hL
  have hnb : 4 * nb ≤ q.1 := hnb
  have hnc : nc ≤ q.1 := hnc
  have hC : mC b S L A (.ok q) := hC
  obtain ⟨⟨h19, hsd⟩, ⟨h10, hc7⟩, ⟨h11, hs10⟩, ⟨h15, hy6⟩, -⟩ := hB.cnt
  have hk' : tkK A (x, q).2.1 = 22 := hk
  have e0 : pStm A (x, q) = pB (pOpen A (xY x).length 6 q) (pYou A x) := by unfold pStm; rw [hk']; rfl
  rw [e0] at hVQ
  have hq0 : tkK A q.1 ≠ 0 := by omega
  refine sX10_tellOne_160 _ _ _ _ _ ?_
  simp (disch := omega) only [oAld, oAld1, oCV, oGI, oGR, oPush, hM.1, hM.r28, hM.t28, hM.n28, h19, h15, List.getElem?_cons_zero, List.getElem?_cons_succ, List.set_cons_zero, List.set_cons_succ, List.drop_succ_cons, List.drop_zero, List.take_succ_cons, List.take_zero, List.length_cons, List.length_nil, List.reverse_cons, List.reverse_nil, List.nil_append, List.cons_append, Option.toList_some, Option.toList_none, va_rf_s, true_and, and_true, true_implies, false_implies, not_true_eq_false, not_false_eq_true, Nat.reduceAdd, Nat.reduceLeDiff, Nat.le_add_left, Nat.zero_le, Nat.le_refl, znew, true_or, or_true, b01_t, b01_f, b01_ok, bool_ft, vp_b01, vp_b0, vp_b1, b01_eq0, b01_eq1, implies_true, nI_add, nI_clamp, zi_in, zi_le_t, zi_le_f, zi_lt_t, zi_lt_f, zi_eq_t, zi_eq_f, nI_leI, nI_ltI, nI_eq, z_in, pk_mul, zu_same, zu_rw, zu_ix, zi_ne0, zi_sub, zi_m1, Nat.add_sub_cancel, Nat.reduceMul, Nat.reduceSub]
  refine zC.of0 (zX10_roomFor hM hA hC (fun q' e => by cases e; exact hq0) (by omega) (by omega)) (by omega) (Nat.zero_le _) (Nat.zero_le _) ?_
  rintro _ _ ⟨rfl, S1, rfl, hf1, hC1⟩
  have hC1' : mC b S1 L A (pOpen A (xY x).length 6 q) := hC1
  have hF1 : mF b sd S S1 := mF.of hf1 rfl rfl
  cases hop : pOpen A (xY x).length 6 q with
  | error e =>
    rw [hop] at hC1' hVQ
    obtain ⟨n, h13, hn, hn5⟩ := mC.bad (e := e) hC1'
    refine sX10_tellOne_175 _ _ _ _ _ ?_
    simp (disch := omega) only [oAld, oCV, oGI, oIf, hM.1, h13, List.getElem?_cons_zero, List.getElem?_cons_succ, List.set_cons_zero, List.set_cons_succ, List.drop_succ_cons, List.drop_zero, List.take_succ_cons, List.take_zero, List.length_cons, List.length_nil, List.reverse_cons, List.reverse_nil, List.nil_append, List.cons_append, Option.toList_some, Option.toList_none, va_rf_s, true_and, and_true, true_implies, false_implies, not_true_eq_false, not_false_eq_true, Nat.reduceAdd, Nat.reduceLeDiff, Nat.le_add_left, Nat.zero_le, Nat.le_refl, znew, true_or, or_true, b01_t, b01_f, b01_ok, bool_ft, vp_b01, vp_b0, vp_b1, b01_eq0, b01_eq1, implies_true, nI_add, nI_clamp, zi_in, zi_le_t, zi_le_f, zi_lt_t, zi_lt_f, zi_eq_t, zi_eq_f, nI_leI, nI_ltI, nI_eq, z_in, pk_mul, zu_same, zu_rw, zu_ix, zi_ne0, zi_sub, zi_m1, Nat.add_sub_cancel, Nat.reduceMul, Nat.reduceSub]
    refine sX10_tellOne_389 _ _ _ _ _ ?_
    simp (disch := omega) only [oRV, List.getElem?_cons_zero, List.getElem?_cons_succ, List.set_cons_zero, List.set_cons_succ, List.drop_succ_cons, List.drop_zero, List.take_succ_cons, List.take_zero, List.length_cons, List.length_nil, List.reverse_cons, List.reverse_nil, List.nil_append, List.cons_append, Option.toList_some, Option.toList_none, va_rf_s, true_and, and_true, true_implies, false_implies, not_true_eq_false, not_false_eq_true, Nat.reduceAdd, Nat.reduceLeDiff, Nat.le_add_left, Nat.zero_le, Nat.le_refl, znew, true_or, or_true, b01_t, b01_f, b01_ok, bool_ft, vp_b01, vp_b0, vp_b1, b01_eq0, b01_eq1, implies_true, nI_add, nI_clamp, zi_in, zi_le_t, zi_le_f, zi_lt_t, zi_lt_f, zi_eq_t, zi_eq_f, nI_leI, nI_ltI, nI_eq, z_in, pk_mul, zu_same, zu_rw, zu_ix, zi_ne0, zi_sub, zi_m1, Nat.add_sub_cancel, Nat.reduceMul, Nat.reduceSub]
    exact hVQ _ _ ⟨rfl, S1, L, rfl, hF1, fun _ _ => rfl, hC1', fun x' q' e => by cases e⟩
  | ok q1 =>
    rw [hop] at hC1' hVQ
    rw [pB_ok] at hVQ
    obtain ⟨hne, hq1⟩ := pOpen_ok hop
    have hq11 : q1.1 = q.1 + 1 := by rw [hq1]
    have h13 := mC.good (q := q1) hC1'
    have hB1 := hB.fr hf1 rfl rfl rfl
    refine sX10_tellOne_175 _ _ _ _ _ ?_
    simp (disch := omega) only [oAld, oCV, oGI, oIf, hM.1, h13, List.getElem?_cons_zero, List.getElem?_cons_succ, List.set_cons_zero, List.set_cons_succ, List.drop_succ_cons, List.drop_zero, List.take_succ_cons, List.take_zero, List.length_cons, List.length_nil, List.reverse_cons, List.reverse_nil, List.nil_append, List.cons_append, Option.toList_some, Option.toList_none, va_rf_s, true_and, and_true, true_implies, false_implies, not_true_eq_false, not_false_eq_true, Nat.reduceAdd, Nat.reduceLeDiff, Nat.le_add_left, Nat.zero_le, Nat.le_refl, znew, true_or, or_true, b01_t, b01_f, b01_ok, bool_ft, vp_b01, vp_b0, vp_b1, b01_eq0, b01_eq1, implies_true, nI_add, nI_clamp, zi_in, zi_le_t, zi_le_f, zi_lt_t, zi_lt_f, zi_eq_t, zi_eq_f, nI_leI, nI_ltI, nI_eq, z_in, pk_mul, zu_same, zu_rw, zu_ix, zi_ne0, zi_sub, zi_m1, Nat.add_sub_cancel, Nat.reduceMul, Nat.reduceSub]
    refine zC.of0 (zX10_tellYoung hM hA hC1' hB1 (by omega)) (by omega) (Nat.zero_le _) (Nat.zero_le _) ?_
    rintro _ _ ⟨rfl, S2, L2, rfl, hF2, hf2, hL2', hC2, hB2⟩
    refine sX10_tellOne_186 _ _ _ _ _ ?_
    simp (disch := omega) only [oNop, List.getElem?_cons_zero, List.getElem?_cons_succ, List.set_cons_zero, List.set_cons_succ, List.drop_succ_cons, List.drop_zero, List.take_succ_cons, List.take_zero, List.length_cons, List.length_nil, List.reverse_cons, List.reverse_nil, List.nil_append, List.cons_append, Option.toList_some, Option.toList_none, va_rf_s, true_and, and_true, true_implies, false_implies, not_true_eq_false, not_false_eq_true, Nat.reduceAdd, Nat.reduceLeDiff, Nat.le_add_left, Nat.zero_le, Nat.le_refl, znew, true_or, or_true, b01_t, b01_f, b01_ok, bool_ft, vp_b01, vp_b0, vp_b1, b01_eq0, b01_eq1, implies_true, nI_add, nI_clamp, zi_in, zi_le_t, zi_le_f, zi_lt_t, zi_lt_f, zi_eq_t, zi_eq_f, nI_leI, nI_ltI, nI_eq, z_in, pk_mul, zu_same, zu_rw, zu_ix, zi_ne0, zi_sub, zi_m1, Nat.add_sub_cancel, Nat.reduceMul, Nat.reduceSub]
    refine sX10_tellOne_389 _ _ _ _ _ ?_
    simp (disch := omega) only [oRV, List.getElem?_cons_zero, List.getElem?_cons_succ, List.set_cons_zero, List.set_cons_succ, List.drop_succ_cons, List.drop_zero, List.take_succ_cons, List.take_zero, List.length_cons, List.length_nil, List.reverse_cons, List.reverse_nil, List.nil_append, List.cons_append, Option.toList_some, Option.toList_none, va_rf_s, true_and, and_true, true_implies, false_implies, not_true_eq_false, not_false_eq_true, Nat.reduceAdd, Nat.reduceLeDiff, Nat.le_add_left, Nat.zero_le, Nat.le_refl, znew, true_or, or_true, b01_t, b01_f, b01_ok, bool_ft, vp_b01, vp_b0, vp_b1, b01_eq0, b01_eq1, implies_true, nI_add, nI_clamp, zi_in, zi_le_t, zi_le_f, zi_lt_t, zi_lt_f, zi_eq_t, zi_eq_f, nI_leI, nI_ltI, nI_eq, z_in, pk_mul, zu_same, zu_rw, zu_ix, zi_ne0, zi_sub, zi_m1, Nat.add_sub_cancel, Nat.reduceMul, Nat.reduceSub]
    refine hVQ _ _ ⟨rfl, S2, L2, rfl, hF1.tr hF2, hL2', hC2, fun x' q' e => ?_⟩
    have hm := pYou_at e
    have hxA : xA x' = xA x := by
      obtain ⟨r1, h1, e⟩ := pB_inv e
      obtain ⟨r2, h2, e⟩ := pB_inv e
      obtain ⟨r3, h3, e⟩ := pB_inv e
      obtain ⟨r4, h4, e⟩ := pB_inv e
      obtain ⟨q5, h5, e⟩ := pB_inv e
      cases e; rfl
    have hL2 := (hL.fr hf1 rfl rfl rfl).fr hf2 rfl rfl rfl
    have hL3 : mLw b S2 sd x' nb nc := by
      unfold mLw; rw [hxA]; exact hL2
    rw [e] at hC2
    exact ⟨hC2, hB2 x' q' e, by rw [hf2.f rfl, hf1.f rfl]; exact h12, nb, nc, hL3, by show 4 * nb ≤ q'.1; omega, by show nc ≤ q'.1; omega⟩
/-- one of lighter, draught, seed is set -/
theorem mB.setG {g : Int32 × Nat × Nat} {S' : Nat → Nat → Int32} {F D : List Nat} (h : mB b S L sd x) (hf : zfr D F b S S') (hD : D.all (fun x => [21, 22, 23].contains x) = true) (h19 : F.all (fun x => !(x == 19)) = true) (h20 : F.all (fun x => !(x == 20)) = true) (hg : S' (b + 21) sd = g.1 ∧ S' (b + 22) sd = nI g.2.1 ∧ S' (b + 23) sd = nI g.2.2) : mB b S' L sd (setG x g) := by
  have e : ∀ o, 9 ≤ o → o ≤ 20 → S' (b + o) = S (b + o) := fun o h1 h2 => hf.1 (b + o) (by omega) (fun x hx => by have := List.all_eq_true.mp hD x hx; simp at this; omega)
  obtain ⟨⟨a1, a2, a3, a4, a5⟩, hSS, hYY, hWW, -, N, hN, hNl, hNh, hNk⟩ := h
  refine ⟨⟨⟨by rw [hf.f h19]; exact a1.1, a1.2⟩, ⟨by rw [e 10 (by omega) (by omega)]; exact a2.1, a2.2⟩, ⟨by rw [e 11 (by omega) (by omega)]; exact a3.1, a3.2⟩, ⟨by rw [e 15 (by omega) (by omega)]; exact a4.1, a4.2⟩, ⟨by rw [e 19 (by omega) (by omega)]; exact a5.1, a5.2⟩⟩, ?_, ?_, ?_, hg, N, ?_, hNl, hNh, hNk⟩
  · intro s hs
    rw [e 12 (by omega) (by omega), e 13 (by omega) (by omega), e 14 (by omega) (by omega)]; exact hSS s hs
  · intro y hy
    rw [e 16 (by omega) (by omega), e 17 (by omega) (by omega), e 18 (by omega) (by omega)]; exact hYY y hy
  · intro w hw
    rw [e 20 (by omega) (by omega)]; exact hWW w hw
  · unfold mNm
    rw [e 9 (by omega) (by omega), hf.f h20]; exact hN
theorem to_light {V : zV} (hVl : V.1 = l) (hVE : V.2.1 = E) (hVd : V.2.2.1 = 6) (hM : isM h b) (hA : tkW A) {q : zCu} (hP : mPx b S L A sd (x, q)) (hk : tkK A q.1 = 24) (hVQ : ∀ r X, tOut b z h S L A sd (pStm A (x, q)) r X → V.2.2.2.2.2.1 r X) :
    zW V YX10_tellOne 274 [some (.ref b), none] [] (z, h, S, L) 0 0 := by
  obtain ⟨hC, hB, h12, nb, nc, hL, hnb, hnc⟩ := id hP
  have hB : mB b S L sd x := hB
  have hL : mLw b S sd x nb nc := hL
  have hnb : 4 * nb ≤ q.1 := hnb
  have hnc : nc ≤ q.1 := hnc
  have hC : mC b S L A (.ok q) := hC
  obtain ⟨⟨h19, hsd⟩, -⟩ := hB.cnt
  obtain ⟨-, -, -, -, hGG, N, hN, hNl, hNh, hNk⟩ := id hB
  have hk' : tkK A (x, q).2.1 = 24 := hk
  have e0 : pStm A (x, q) = pB (pGo A q) (pLig A x) := by unfold pStm; rw [hk']; rfl
  rw [e0] at hVQ
  refine sX10_tellOne_274 _ _ _ _ _ ?_
  simp (disch := omega) only [oAld, oCV, hM.1, List.getElem?_cons_zero, List.getElem?_cons_succ, List.set_cons_zero, List.set_cons_succ, List.drop_succ_cons, List.drop_zero, List.take_succ_cons, List.take_zero, List.length_cons, List.length_nil, List.reverse_cons, List.reverse_nil, List.nil_append, List.cons_append, Option.toList_some, Option.toList_none, va_rf_s, true_and, and_true, true_implies, false_implies, not_true_eq_false, not_false_eq_true, Nat.reduceAdd, Nat.reduceLeDiff, Nat.le_add_left, Nat.zero_le, Nat.le_refl, znew, true_or, or_true, b01_t, b01_f, b01_ok, bool_ft, vp_b01, vp_b0, vp_b1, b01_eq0, b01_eq1, implies_true, nI_add, nI_clamp, zi_in, zi_le_t, zi_le_f, zi_lt_t, zi_lt_f, zi_eq_t, zi_eq_f, nI_leI, nI_ltI, nI_eq, z_in, pk_mul, zu_same, zu_rw, zu_ix, zi_ne0, zi_sub, zi_m1, Nat.add_sub_cancel, Nat.reduceMul, Nat.reduceSub]
  refine zC.of0 (zX10_goesOn hM hA hC (fun q' e => by cases e; omega)) (by omega) (Nat.zero_le _) (Nat.zero_le _) ?_
  rintro _ _ ⟨rfl, S1, rfl, hf1, hC1⟩
  rw [pB_ok] at hC1
  have h19a : S1 b 19 = nI sd := by rw [hf1.f rfl]; exact h19
  refine sX10_tellOne_278 _ _ _ _ _ ?_
  simp (disch := omega) only [oAld, oCV, oGI, oGR, hM.1, hM.r34, hM.t34, hM.n34, h19a, List.getElem?_cons_zero, List.getElem?_cons_succ, List.set_cons_zero, List.set_cons_succ, List.drop_succ_cons, List.drop_zero, List.take_succ_cons, List.take_zero, List.length_cons, List.length_nil, List.reverse_cons, List.reverse_nil, List.nil_append, List.cons_append, Option.toList_some, Option.toList_none, va_rf_s, true_and, and_true, true_implies, false_implies, not_true_eq_false, not_false_eq_true, Nat.reduceAdd, Nat.reduceLeDiff, Nat.le_add_left, Nat.zero_le, Nat.le_refl, znew, true_or, or_true, b01_t, b01_f, b01_ok, bool_ft, vp_b01, vp_b0, vp_b1, b01_eq0, b01_eq1, implies_true, nI_add, nI_clamp, zi_in, zi_le_t, zi_le_f, zi_lt_t, zi_lt_f, zi_eq_t, zi_eq_f, nI_leI, nI_ltI, nI_eq, z_in, pk_mul, zu_same, zu_rw, zu_ix, zi_ne0, zi_sub, zi_m1, Nat.add_sub_cancel, Nat.reduceMul, Nat.reduceSub]
  refine zC.of0 (zX10_known hM hA hC1 (hN.fr hf1 rfl rfl) hNk) (by omega) (Nat.zero_le _) (Nat.zero_le _) ?_
  rintro _ _ ⟨S2, v, rfl, rfl, hf2, hC2, hv⟩
  refine sX10_tellOne_290 _ _ _ _ _ ?_
  simp (disch := omega) only [oAld, oAst1, oCV, oPush, hM.1, hM.t34, hM.n34, List.getElem?_cons_zero, List.getElem?_cons_succ, List.set_cons_zero, List.set_cons_succ, List.drop_succ_cons, List.drop_zero, List.take_succ_cons, List.take_zero, List.length_cons, List.length_nil, List.reverse_cons, List.reverse_nil, List.nil_append, List.cons_append, Option.toList_some, Option.toList_none, va_rf_s, true_and, and_true, true_implies, false_implies, not_true_eq_false, not_false_eq_true, Nat.reduceAdd, Nat.reduceLeDiff, Nat.le_add_left, Nat.zero_le, Nat.le_refl, znew, true_or, or_true, b01_t, b01_f, b01_ok, bool_ft, vp_b01, vp_b0, vp_b1, b01_eq0, b01_eq1, implies_true, nI_add, nI_clamp, zi_in, zi_le_t, zi_le_f, zi_lt_t, zi_lt_f, zi_eq_t, zi_eq_f, nI_leI, nI_ltI, nI_eq, z_in, pk_mul, zu_same, zu_rw, zu_ix, zi_ne0, zi_sub, zi_m1, Nat.add_sub_cancel, Nat.reduceMul, Nat.reduceSub]
  have hC2' := hC2.row (o := 21) (k := sd) (v := v) (by omega)
  refine zC.of0 (zX10_must hM hA hC2' (by omega) (by omega)) (by omega) (Nat.zero_le _) (Nat.zero_le _) ?_
  rintro _ _ ⟨rfl, S3, rfl, hf3, hC3⟩
  refine sX10_tellOne_296 _ _ _ _ _ ?_
  simp (disch := omega) only [oNop, List.getElem?_cons_zero, List.getElem?_cons_succ, List.set_cons_zero, List.set_cons_succ, List.drop_succ_cons, List.drop_zero, List.take_succ_cons, List.take_zero, List.length_cons, List.length_nil, List.reverse_cons, List.reverse_nil, List.nil_append, List.cons_append, Option.toList_some, Option.toList_none, va_rf_s, true_and, and_true, true_implies, false_implies, not_true_eq_false, not_false_eq_true, Nat.reduceAdd, Nat.reduceLeDiff, Nat.le_add_left, Nat.zero_le, Nat.le_refl, znew, true_or, or_true, b01_t, b01_f, b01_ok, bool_ft, vp_b01, vp_b0, vp_b1, b01_eq0, b01_eq1, implies_true, nI_add, nI_clamp, zi_in, zi_le_t, zi_le_f, zi_lt_t, zi_lt_f, zi_eq_t, zi_eq_f, nI_leI, nI_ltI, nI_eq, z_in, pk_mul, zu_same, zu_rw, zu_ix, zi_ne0, zi_sub, zi_m1, Nat.add_sub_cancel, Nat.reduceMul, Nat.reduceSub]
  refine sX10_tellOne_389 _ _ _ _ _ ?_
  simp (disch := omega) only [oRV, List.getElem?_cons_zero, List.getElem?_cons_succ, List.set_cons_zero, List.set_cons_succ, List.drop_succ_cons, List.drop_zero, List.take_succ_cons, List.take_zero, List.length_cons, List.length_nil, List.reverse_cons, List.reverse_nil, List.nil_append, List.cons_append, Option.toList_some, Option.toList_none, va_rf_s, true_and, and_true, true_implies, false_implies, not_true_eq_false, not_false_eq_true, Nat.reduceAdd, Nat.reduceLeDiff, Nat.le_add_left, Nat.zero_le, Nat.le_refl, znew, true_or, or_true, b01_t, b01_f, b01_ok, bool_ft, vp_b01, vp_b0, vp_b1, b01_eq0, b01_eq1, implies_true, nI_add, nI_clamp, zi_in, zi_le_t, zi_le_f, zi_lt_t, zi_lt_f, zi_eq_t, zi_eq_f, nI_leI, nI_ltI, nI_eq, z_in, pk_mul, zu_same, zu_rw, zu_ix, zi_ne0, zi_sub, zi_m1, Nat.add_sub_cancel, Nat.reduceMul, Nat.reduceSub]
  rw [pB_pV, pB_as] at hC3
  have hf12 : zfr [] [11, 13, 14, 15, 16] b S S2 := hf1.tr hf2 rfl rfl rfl rfl
  have hF3 : mF b sd S S3 := (((mF.of hf12 rfl rfl).row hsd 1 rfl (by decide) (by omega) (by omega))).go hf3 rfl rfl
  have hfa : zfr [21] [11, 13, 14, 15, 16] b S S3 := ((hf12.tr zfr.rf rfl rfl (D' := []) (F' := []) (D2 := [21]) (F2 := [11, 13, 14, 15, 16]) rfl rfl).row (by decide) (by decide)).tr hf3 rfl rfl rfl rfl
  have eq1 : pV (pB (pGo A q) (pLig A x)) = pB (pGo A q) (fun a => pB (pKn A (xKn x) a) (fun r => pMust A 4 r.2)) := by
    cases pGo A q with
    | error e => rfl
    | ok q1 =>
      rw [pB_ok, pB_ok]
      unfold pLig
      cases pKn A (xKn x) q1 with
      | error e => rfl
      | ok r =>
        rw [pB_ok, pB_ok]
        cases pMust A 4 r.2 <;> rfl
  refine hVQ _ _ ⟨rfl, S3, L, rfl, hF3, fun _ _ => rfl, by rw [eq1]; exact hC3, fun x' q' e => ?_⟩
  rw [← eq1, e] at hC3
  obtain ⟨q1, hg, e⟩ := pB_inv e
  obtain ⟨⟨c, q2⟩, hkn, e⟩ := pB_inv e
  obtain ⟨q3, hm, e⟩ := pB_inv e
  cases e
  have hv' : v = oM c := hv c q2 (by rw [hg]; exact hkn)
  have e1 : q1.1 = q.1 + 1 := by rw [(pGo_inv hg).1]
  have e2 : q2.1 = q1.1 + 1 := (pKn_inv hkn).2.2.2
  obtain ⟨-, e3, -⟩ := pMust_inv hm
  have e3' : q'.1 = q2.1 + 1 := by rw [e3]
  refine ⟨hC3, hB.setG hfa rfl rfl rfl ⟨?_, ?_, ?_⟩, by rw [hfa.f rfl]; exact h12, nb, nc, hL.fr hfa rfl rfl rfl, by show 4 * nb ≤ q'.1; omega, by show nc ≤ q'.1; omega⟩
  · rw [hf3.at (o := 21) rfl rfl, zu_same, hv']
  · rw [hfa.at (o := 22) rfl rfl]; exact hGG.2.1
  · rw [hfa.at (o := 23) rfl rfl]; exact hGG.2.2
end NH
