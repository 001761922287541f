/-! the component's parser: lighter, draught, seed, laws; one thing told; a text is read -/
section FL
variable {V : zV} {l : Launch} {E : zE} {z : Nat} {h : Nat → Option zSh} {S : Nat → Nat → Int32} {L : Nat → Nat → Int64} {c : Nat} {P : List Int32} {A : List zTk} {N : Nat} {q : zCu} {ta dE : Nat} {eA : Nat → Nat} {B : Nat → Nat → Nat} {x : zTx} {T : zPR zPX} {w : Int32}
theorem td_light (hV : tdV V h S L E c N ta dE q T) (hT : T = pB (pGo A q) (qLig A x)) (hx : tdX E c z h S P A N ta dE eA B x) (hI : pI c S N q 0) (hnx : q.1 + 1 < N) : zW V YX3_told 400 [some (.ref (c + 9)), some (.int w), none, none] [] (z, h, S, L) 0 0 := by
  obtain ⟨⟨hVE, hVd⟩, ⟨hVc, hVs⟩, -⟩ := id hV
  obtain ⟨⟨hc, he, hd⟩, hX, hta, hct, hp, hb⟩ := hx
  have hB := hX.1
  have hq4 := hI.2.2.2.2.1.1
  obtain ⟨tt, ⟨r0, -⟩, -⟩ := hp.lt
  have htz : ta + 6 ≤ z := hp.2.2.2.2.1
  have hcz := hX.2.1
  refine sX3_told_400 _ _ _ _ _ ?_
  simp (disch := omega) only [oAld, oCV, hB.pk, List.getElem?_cons_zero, List.getElem?_cons_succ, List.set_cons_zero, List.set_cons_succ, List.drop_succ_cons, List.drop_zero, List.take_succ_cons, List.take_zero, List.length_cons, List.length_nil, List.reverse_cons, List.reverse_nil, List.nil_append, List.cons_append, Option.toList_some, Option.toList_none, va_rf_s, true_and, and_true, true_implies, false_implies, not_true_eq_false, not_false_eq_true, Nat.reduceAdd, Nat.reduceLeDiff, Nat.le_add_left, Nat.zero_le, Nat.le_refl, znew, true_or, or_true, b01_t, b01_f, b01_ok, bool_ft, vp_b01, vp_b0, vp_b1, b01_eq0, b01_eq1, implies_true, nI_add, nI_clamp, zi_in, zi_le_t, zi_le_f, zi_lt_t, zi_lt_f, zi_eq_t, zi_eq_f, nI_leI, nI_ltI, nI_eq, z_in, pk_mul, zu_same, zu_rw, zu_ix, zi_ne0, zi_sub, zi_m1, Nat.add_sub_cancel, Nat.reduceMul, Nat.reduceSub]
  refine zC.of (zX3_pass hX hI hnx) (by omega) (by omega) (by omega) ?_ ?_
  · rintro _ _ ⟨rfl, q1, S1, e1, rfl, f1, p1⟩
    obtain ⟨eq1, h4⟩ := cGo_ok e1
    have hq1 : q1.1 = q.1 + 1 := by rw [eq1]
    have hT1 : T = qLig A x q1 := by rw [hT, e1]; rfl
    have hq14 : q1.1 ≤ 400 := p1.2.2.2.2.1.1
    have hm1 : q1.1 + 1 ≤ mx T := by
      rw [hT1]
      exact mx1 (by omega) (fun r1 e1 => by have := (kn_ok (v := r1.1) (q2 := r1.2) e1).1; show q1.1 + 1 ≤ r1.2.1; omega)
    have hX1 := hX.fs f1
    have hp1 : txP z h S1 ta dE eA B x := hp.g hct (pG.s (L := L) f1)
    refine sX3_told_404 _ _ _ _ _ ?_
    simp (disch := omega) only [oAld, oCV, oGR, hB.pk, hta, tt, r0, List.getElem?_cons_zero, List.getElem?_cons_succ, List.set_cons_zero, List.set_cons_succ, List.drop_succ_cons, List.drop_zero, List.take_succ_cons, List.take_zero, List.length_cons, List.length_nil, List.reverse_cons, List.reverse_nil, List.nil_append, List.cons_append, Option.toList_some, Option.toList_none, va_rf_s, true_and, and_true, true_implies, false_implies, not_true_eq_false, not_false_eq_true, Nat.reduceAdd, Nat.reduceLeDiff, Nat.le_add_left, Nat.zero_le, Nat.le_refl, znew, true_or, or_true, b01_t, b01_f, b01_ok, bool_ft, vp_b01, vp_b0, vp_b1, b01_eq0, b01_eq1, implies_true, nI_add, nI_clamp, zi_in, zi_le_t, zi_le_f, zi_lt_t, zi_lt_f, zi_eq_t, zi_eq_f, nI_leI, nI_ltI, nI_eq, z_in, pk_mul, zu_same, zu_rw, zu_ix, zi_ne0, zi_sub, zi_m1, Nat.add_sub_cancel, Nat.reduceMul, Nat.reduceSub]
    refine zC.of (zX3_known (by rw [hVE]; exact hc) (by rw [hVE]; exact he) hX1 p1 hct hp1) (by omega) (by omega) (by omega) ?_ ?_
    · rintro _ _ ⟨v, q2, h3, S3, L3, e2, rfl, rfl, g3, p3, hq2⟩
      have hT2 : T = .ok (setG x (oM v, (xG x).2), q2) := by rw [hT1]; unfold qLig; rw [e2]; rfl
      have g3' := (pG.s (L := L) (h := h) (z := z) f1).tr g3
      have hp3 : txP (z + 4) h3 S3 ta dE eA B x := hp.g hct g3'
      have tt3 := hp3.1.1
      have hg := hp3.2.2.2.1
      refine sX3_told_419 _ _ _ _ _ ?_
      simp (disch := omega) only [oNop, oPI, oRV, tt3, List.getElem?_cons_zero, List.getElem?_cons_succ, List.set_cons_zero, List.set_cons_succ, List.drop_succ_cons, List.drop_zero, List.take_succ_cons, List.take_zero, List.length_cons, List.length_nil, List.reverse_cons, List.reverse_nil, List.nil_append, List.cons_append, Option.toList_some, Option.toList_none, va_rf_s, true_and, and_true, true_implies, false_implies, not_true_eq_false, not_false_eq_true, Nat.reduceAdd, Nat.reduceLeDiff, Nat.le_add_left, Nat.zero_le, Nat.le_refl, znew, true_or, or_true, b01_t, b01_f, b01_ok, bool_ft, vp_b01, vp_b0, vp_b1, b01_eq0, b01_eq1, implies_true, nI_add, nI_clamp, zi_in, zi_le_t, zi_le_f, zi_lt_t, zi_lt_f, zi_eq_t, zi_eq_f, nI_leI, nI_ltI, nI_eq, z_in, pk_mul, zu_same, zu_rw, zu_ix, zi_ne0, zi_sub, zi_m1, Nat.add_sub_cancel, Nat.reduceMul, Nat.reduceSub]
      refine hV.fin hT2 (by omega) (by omega) ((g3'.lo (ta := ta) (by omega)).up (fun _ _ => rfl) (fun b hb => zu_rw _ _ (by have hb' : b < ta := hb; omega))) (p3.r (zu_rw _ _ (by omega))) (hp3.setG (fun a ha => zu_rw _ _ ha) ⟨zu_same _ _ _ _, by rw [zu_ix _ _ (by omega)]; exact hg.2.1, by rw [zu_ix _ _ (by omega)]; exact hg.2.2⟩) hb
    · rintro _ _ ⟨e, z3, h3, S3, L3, e2, rfl, rfl, g3, f4⟩
      exact hV.err _ (by rw [hT1]; unfold qLig; rw [e2]; rfl) (by omega) (by omega) (((pG.s f1).tr g3).lo (by omega)) f4
  · rintro _ _ ⟨e, S1, e1, rfl, rfl, f1, f4⟩
    exact hV.err _ (by rw [hT, e1]; rfl) (by omega) (by omega) ((pG.s f1).lo (by omega)) f4
theorem td_draught (hV : tdV V h S L E c N ta dE q T) (hT : T = pB (pGo A q) (qDra A x)) (hx : tdX E c z h S P A N ta dE eA B x) (hI : pI c S N q 0) (hnx : q.1 + 1 < N) : zW V YX3_told 425 [some (.ref (c + 9)), some (.int w), none, none] [] (z, h, S, L) 0 0 := by
  obtain ⟨⟨hVE, hVd⟩, ⟨hVc, hVs⟩, -⟩ := id hV
  obtain ⟨⟨hc, he, hd⟩, hX, hta, hct, hp, hb⟩ := hx
  have hB := hX.1
  have hq4 := hI.2.2.2.2.1.1
  have tt := hp.1.1
  have htz : ta + 6 ≤ z := hp.2.2.2.2.1
  refine sX3_told_425 _ _ _ _ _ ?_
  simp (disch := omega) only [oAld, oCV, hB.pk, List.getElem?_cons_zero, List.getElem?_cons_succ, List.set_cons_zero, List.set_cons_succ, List.drop_succ_cons, List.drop_zero, List.take_succ_cons, List.take_zero, List.length_cons, List.length_nil, List.reverse_cons, List.reverse_nil, List.nil_append, List.cons_append, Option.toList_some, Option.toList_none, va_rf_s, true_and, and_true, true_implies, false_implies, not_true_eq_false, not_false_eq_true, Nat.reduceAdd, Nat.reduceLeDiff, Nat.le_add_left, Nat.zero_le, Nat.le_refl, znew, true_or, or_true, b01_t, b01_f, b01_ok, bool_ft, vp_b01, vp_b0, vp_b1, b01_eq0, b01_eq1, implies_true, nI_add, nI_clamp, zi_in, zi_le_t, zi_le_f, zi_lt_t, zi_lt_f, zi_eq_t, zi_eq_f, nI_leI, nI_ltI, nI_eq, z_in, pk_mul, zu_same, zu_rw, zu_ix, zi_ne0, zi_sub, zi_m1, Nat.add_sub_cancel, Nat.reduceMul, Nat.reduceSub]
  refine zC.of (zX3_pass hX hI hnx) (by omega) (by omega) (by omega) ?_ ?_
  · rintro _ _ ⟨rfl, q1, S1, e1, rfl, f1, p1⟩
    obtain ⟨eq1, h4⟩ := cGo_ok e1
    have hq1 : q1.1 = q.1 + 1 := by rw [eq1]
    have hT1 : T = qDra A x q1 := by rw [hT, e1]; rfl
    have hq14 : q1.1 ≤ 400 := p1.2.2.2.2.1.1
    have hX1 := hX.fs f1
    refine sX3_told_429 _ _ _ _ _ ?_
    simp (disch := omega) only [oAld, oCV, oGR, oPush, hB.pk, hta, List.getElem?_cons_zero, List.getElem?_cons_succ, List.set_cons_zero, List.set_cons_succ, List.drop_succ_cons, List.drop_zero, List.take_succ_cons, List.take_zero, List.length_cons, List.length_nil, List.reverse_cons, List.reverse_nil, List.nil_append, List.cons_append, Option.toList_some, Option.toList_none, va_rf_s, true_and, and_true, true_implies, false_implies, not_true_eq_false, not_false_eq_true, Nat.reduceAdd, Nat.reduceLeDiff, Nat.le_add_left, Nat.zero_le, Nat.le_refl, znew, true_or, or_true, b01_t, b01_f, b01_ok, bool_ft, vp_b01, vp_b0, vp_b1, b01_eq0, b01_eq1, implies_true, nI_add, nI_clamp, zi_in, zi_le_t, zi_le_f, zi_lt_t, zi_lt_f, zi_eq_t, zi_eq_f, nI_leI, nI_ltI, nI_eq, z_in, pk_mul, zu_same, zu_rw, zu_ix, zi_ne0, zi_sub, zi_m1, Nat.add_sub_cancel, Nat.reduceMul, Nat.reduceSub]
    refine zC.of (zX3_number hX1 p1 (lo := 0) (hi := 100) (by omega) (by omega)) (by omega) (by omega) (by omega) ?_ ?_
    · rintro _ _ ⟨v, q2, S3, e2, rfl, rfl, f3, p3⟩
      have hq2 := (num_ok e2).1
      have hT2 : T = .ok (setG x ((xG x).1, v, (xG x).2.2), q2) := by rw [hT1]; unfold qDra; rw [e2]; rfl
      have g3' : pG c (z, h, S, L) (z, h, S3, L) := pG.s (f1.tr f3)
      have hp3 : txP z h S3 ta dE eA B x := hp.g hct g3'
      have hg := hp3.2.2.2.1
      refine sX3_told_440 _ _ _ _ _ ?_
      simp (disch := omega) only [oNop, oPI, oRV, tt, List.getElem?_cons_zero, List.getElem?_cons_succ, List.set_cons_zero, List.set_cons_succ, List.drop_succ_cons, List.drop_zero, List.take_succ_cons, List.take_zero, List.length_cons, List.length_nil, List.reverse_cons, List.reverse_nil, List.nil_append, List.cons_append, Option.toList_some, Option.toList_none, va_rf_s, true_and, and_true, true_implies, false_implies, not_true_eq_false, not_false_eq_true, Nat.reduceAdd, Nat.reduceLeDiff, Nat.le_add_left, Nat.zero_le, Nat.le_refl, znew, true_or, or_true, b01_t, b01_f, b01_ok, bool_ft, vp_b01, vp_b0, vp_b1, b01_eq0, b01_eq1, implies_true, nI_add, nI_clamp, zi_in, zi_le_t, zi_le_f, zi_lt_t, zi_lt_f, zi_eq_t, zi_eq_f, nI_leI, nI_ltI, nI_eq, z_in, pk_mul, zu_same, zu_rw, zu_ix, zi_ne0, zi_sub, zi_m1, Nat.add_sub_cancel, Nat.reduceMul, Nat.reduceSub]
      refine (hV.fin (k := 0) (n := 0) hT2 (by omega) (by omega) ((g3'.lo (ta := ta) (by omega)).up (fun _ _ => rfl) (fun b hb => zu_rw _ _ (by have hb' : b < ta := hb; omega))) (p3.r (zu_rw _ _ (by omega))) (hp3.setG (fun a ha => zu_rw _ _ ha) ⟨by rw [zu_ix _ _ (by omega)]; exact hg.1, zu_same _ _ _ _, by rw [zu_ix _ _ (by omega)]; exact hg.2.2⟩) hb).1
    · rintro _ _ ⟨e, S3, e2, rfl, rfl, f3, f4⟩
      exact hV.err _ (by rw [hT1]; unfold qDra; rw [e2]; rfl) (by omega) (by omega) ((pG.s (f1.tr f3)).lo (by omega)) f4
  · rintro _ _ ⟨e, S1, e1, rfl, rfl, f1, f4⟩
    exact hV.err _ (by rw [hT, e1]; rfl) (by omega) (by omega) ((pG.s f1).lo (by omega)) f4
theorem td_seed (hV : tdV V h S L E c N ta dE q T) (hT : T = pB (pGo A q) (qSee A x)) (hx : tdX E c z h S P A N ta dE eA B x) (hI : pI c S N q 0) (hnx : q.1 + 1 < N) : zW V YX3_told 446 [some (.ref (c + 9)), some (.int w), none, none] [] (z, h, S, L) 0 0 := by
  obtain ⟨⟨hVE, hVd⟩, ⟨hVc, hVs⟩, -⟩ := id hV
  obtain ⟨⟨hc, he, hd⟩, hX, hta, hct, hp, hb⟩ := hx
  have hB := hX.1
  have hq4 := hI.2.2.2.2.1.1
  have tt := hp.1.1
  have htz : ta + 6 ≤ z := hp.2.2.2.2.1
  refine sX3_told_446 _ _ _ _ _ ?_
  simp (disch := omega) only [oAld, oCV, hB.pk, List.getElem?_cons_zero, List.getElem?_cons_succ, List.set_cons_zero, List.set_cons_succ, List.drop_succ_cons, List.drop_zero, List.take_succ_cons, List.take_zero, List.length_cons, List.length_nil, List.reverse_cons, List.reverse_nil, List.nil_append, List.cons_append, Option.toList_some, Option.toList_none, va_rf_s, true_and, and_true, true_implies, false_implies, not_true_eq_false, not_false_eq_true, Nat.reduceAdd, Nat.reduceLeDiff, Nat.le_add_left, Nat.zero_le, Nat.le_refl, znew, true_or, or_true, b01_t, b01_f, b01_ok, bool_ft, vp_b01, vp_b0, vp_b1, b01_eq0, b01_eq1, implies_true, nI_add, nI_clamp, zi_in, zi_le_t, zi_le_f, zi_lt_t, zi_lt_f, zi_eq_t, zi_eq_f, nI_leI, nI_ltI, nI_eq, z_in, pk_mul, zu_same, zu_rw, zu_ix, zi_ne0, zi_sub, zi_m1, Nat.add_sub_cancel, Nat.reduceMul, Nat.reduceSub]
  refine zC.of (zX3_pass hX hI hnx) (by omega) (by omega) (by omega) ?_ ?_
  · rintro _ _ ⟨rfl, q1, S1, e1, rfl, f1, p1⟩
    obtain ⟨eq1, h4⟩ := cGo_ok e1
    have hq1 : q1.1 = q.1 + 1 := by rw [eq1]
    have hT1 : T = qSee A x q1 := by rw [hT, e1]; rfl
    have hq14 : q1.1 ≤ 400 := p1.2.2.2.2.1.1
    have hX1 := hX.fs f1
    refine sX3_told_450 _ _ _ _ _ ?_
    simp (disch := omega) only [oAld, oCV, oGR, oPush, hB.pk, hta, List.getElem?_cons_zero, List.getElem?_cons_succ, List.set_cons_zero, List.set_cons_succ, List.drop_succ_cons, List.drop_zero, List.take_succ_cons, List.take_zero, List.length_cons, List.length_nil, List.reverse_cons, List.reverse_nil, List.nil_append, List.cons_append, Option.toList_some, Option.toList_none, va_rf_s, true_and, and_true, true_implies, false_implies, not_true_eq_false, not_false_eq_true, Nat.reduceAdd, Nat.reduceLeDiff, Nat.le_add_left, Nat.zero_le, Nat.le_refl, znew, true_or, or_true, b01_t, b01_f, b01_ok, bool_ft, vp_b01, vp_b0, vp_b1, b01_eq0, b01_eq1, implies_true, nI_add, nI_clamp, zi_in, zi_le_t, zi_le_f, zi_lt_t, zi_lt_f, zi_eq_t, zi_eq_f, nI_leI, nI_ltI, nI_eq, z_in, pk_mul, zu_same, zu_rw, zu_ix, zi_ne0, zi_sub, zi_m1, Nat.add_sub_cancel, Nat.reduceMul, Nat.reduceSub]
    refine zC.of (zX3_number hX1 p1 (lo := 0) (hi := 9999) (by omega) (by omega)) (by omega) (by omega) (by omega) ?_ ?_
    · rintro _ _ ⟨v, q2, S3, e2, rfl, rfl, f3, p3⟩
      have hq2 := (num_ok e2).1
      have hT2 : T = .ok (setG x ((xG x).1, (xG x).2.1, v), q2) := by rw [hT1]; unfold qSee; rw [e2]; rfl
      have g3' : pG c (z, h, S, L) (z, h, S3, L) := pG.s (f1.tr f3)
      have hp3 : txP z h S3 ta dE eA B x := hp.g hct g3'
      have hg := hp3.2.2.2.1
      refine sX3_told_462 _ _ _ _ _ ?_
      simp (disch := omega) only [oNop, oPI, oRV, tt, List.getElem?_cons_zero, List.getElem?_cons_succ, List.set_cons_zero, List.set_cons_succ, List.drop_succ_cons, List.drop_zero, List.take_succ_cons, List.take_zero, List.length_cons, List.length_nil, List.reverse_cons, List.reverse_nil, List.nil_append, List.cons_append, Option.toList_some, Option.toList_none, va_rf_s, true_and, and_true, true_implies, false_implies, not_true_eq_false, not_false_eq_true, Nat.reduceAdd, Nat.reduceLeDiff, Nat.le_add_left, Nat.zero_le, Nat.le_refl, znew, true_or, or_true, b01_t, b01_f, b01_ok, bool_ft, vp_b01, vp_b0, vp_b1, b01_eq0, b01_eq1, implies_true, nI_add, nI_clamp, zi_in, zi_le_t, zi_le_f, zi_lt_t, zi_lt_f, zi_eq_t, zi_eq_f, nI_leI, nI_ltI, nI_eq, z_in, pk_mul, zu_same, zu_rw, zu_ix, zi_ne0, zi_sub, zi_m1, Nat.add_sub_cancel, Nat.reduceMul, Nat.reduceSub]
      refine (hV.fin (k := 0) (n := 0) hT2 (by omega) (by omega) ((g3'.lo (ta := ta) (by omega)).up (fun _ _ => rfl) (fun b hb => zu_rw _ _ (by have hb' : b < ta := hb; omega))) (p3.r (zu_rw _ _ (by omega))) (hp3.setG (fun a ha => zu_rw _ _ ha) ⟨by rw [zu_ix _ _ (by omega)]; exact hg.1, by rw [zu_ix _ _ (by omega)]; exact hg.2.1, zu_same _ _ _ _⟩) hb).1
    · rintro _ _ ⟨e, S3, e2, rfl, rfl, f3, f4⟩
      exact hV.err _ (by rw [hT1]; unfold qSee; rw [e2]; rfl) (by omega) (by omega) ((pG.s (f1.tr f3)).lo (by omega)) f4
  · rintro _ _ ⟨e, S1, e1, rfl, rfl, f1, f4⟩
    exact hV.err _ (by rw [hT, e1]; rfl) (by omega) (by omega) ((pG.s f1).lo (by omega)) f4
/-- behind the keyword of a law -/
theorem td_law {k : Nat} (hk : k < 4) (hV : tdV V h S L E c N ta dE q T) (hT : T = pB (pGo A q) (qLwS A x k)) (hx : tdX E c z h S P A N ta dE eA B x) (hI : pI c S N q 0) (hnx : q.1 + 1 < N) : zC V YX3_pass [.ref (c + 9)] (z, h, S, L) 0 0 (fun v X' k' n' => zW V YX3_told 40 [some (.ref (c + 9)), some (.int (nI (5 + k))), none, none] (v.toList ++ []) X' k' n') (zOut V [some (.ref (c + 9)), some (.int (nI (5 + k))), none, none]) := by
  obtain ⟨⟨hVE, hVd⟩, ⟨hVc, hVs⟩, -⟩ := id hV
  obtain ⟨⟨hc, he, hd⟩, hX, hta, hct, hp, hb⟩ := hx
  have hB := hX.1
  have hq4 := hI.2.2.2.2.1.1
  have htz : ta + 6 ≤ z := hp.2.2.2.2.1
  refine zC.of (zX3_pass hX hI hnx) (by omega) (by omega) (by omega) ?_ ?_
  · rintro _ _ ⟨rfl, q1, S1, e1, rfl, f1, p1⟩
    obtain ⟨eq1, h4⟩ := cGo_ok e1
    have hq1 : q1.1 = q.1 + 1 := by rw [eq1]
    have hT1 : T = pB (pLaw A q1) (fun r => .ok (setA x k r.1, r.2)) := by rw [hT, e1]; rfl
    have hq14 : q1.1 ≤ 400 := p1.2.2.2.2.1.1
    have m1 := law_mono (A := A) hq14
    have m2 : mx (pLaw A q1) ≤ mx T := by rw [hT1]; exact mx_pB (fun r _ => Nat.le_refl _)
    have hX1 := hX.fs f1
    have tt := hp.1.1
    have r4 := hp.1.2.2.1
    have esub : 5 + k - 5 = k := by omega
    refine sX3_told_40 _ _ _ _ _ ?_
    simp (disch := omega) only [oAld, oBin, oCV, oGR, oIld, oPush, hB.pk, hta, tt, r4, esub, List.getElem?_cons_zero, List.getElem?_cons_succ, List.set_cons_zero, List.set_cons_succ, List.drop_succ_cons, List.drop_zero, List.take_succ_cons, List.take_zero, List.length_cons, List.length_nil, List.reverse_cons, List.reverse_nil, List.nil_append, List.cons_append, Option.toList_some, Option.toList_none, va_rf_s, true_and, and_true, true_implies, false_implies, not_true_eq_false, not_false_eq_true, Nat.reduceAdd, Nat.reduceLeDiff, Nat.le_add_left, Nat.zero_le, Nat.le_refl, znew, true_or, or_true, b01_t, b01_f, b01_ok, bool_ft, vp_b01, vp_b0, vp_b1, b01_eq0, b01_eq1, implies_true, nI_add, nI_clamp, zi_in, zi_le_t, zi_le_f, zi_lt_t, zi_lt_f, zi_eq_t, zi_eq_f, nI_leI, nI_ltI, nI_eq, z_in, pk_mul, zu_same, zu_rw, zu_ix, zi_ne0, zi_sub, zi_m1, Nat.add_sub_cancel, Nat.reduceMul, Nat.reduceSub]
    refine zC.of (zX3_law hX1 p1) (by omega) (by omega) (by omega) ?_ ?_
    · rintro _ _ ⟨law, q2, z3, h3, S3, L3, e2, rfl, rfl, g3, p3, lw3⟩
      rw [e2] at hT1 m1 m2 ⊢
      have em : mx (Except.ok (law, q2) : zPR (List zBr3 × zCu)) = q2.1 := rfl
      rw [em] at m1 m2 ⊢
      have hT2 : T = .ok (setA x k law, q2) := hT1
      have g3' : pG c (z, h, S, L) (z3, h3, S3, L3) := (pG.s f1).tr g3
      have hz3 : z ≤ z3 := g3.1
      have hp3 : txP z3 h3 S3 ta dE eA B x := hp.g hct g3'
      obtain ⟨⟨a1, a2, a3, a4, a5⟩, -⟩ := id hp3
      have tl := lw3.2.1
      have lw4 : isLw h3 S3 (txd ta z3 eA x) 400 z law := lw3.fr (fun _ _ => rfl) (fun _ _ => rfl) (fun b hb => hp.nw hb.1 hb.2)
      refine sX3_told_54 _ _ _ _ _ ?_
      simp (disch := omega) only [oAst9, oRV, a4, a5, tl, List.getElem?_cons_zero, List.getElem?_cons_succ, List.set_cons_zero, List.set_cons_succ, List.drop_succ_cons, List.drop_zero, List.take_succ_cons, List.take_zero, List.length_cons, List.length_nil, List.reverse_cons, List.reverse_nil, List.nil_append, List.cons_append, Option.toList_some, Option.toList_none, va_rf_s, true_and, and_true, true_implies, false_implies, not_true_eq_false, not_false_eq_true, Nat.reduceAdd, Nat.reduceLeDiff, Nat.le_add_left, Nat.zero_le, Nat.le_refl, znew, true_or, or_true, b01_t, b01_f, b01_ok, bool_ft, vp_b01, vp_b0, vp_b1, b01_eq0, b01_eq1, implies_true, nI_add, nI_clamp, zi_in, zi_le_t, zi_le_f, zi_lt_t, zi_lt_f, zi_eq_t, zi_eq_f, nI_leI, nI_ltI, nI_eq, z_in, pk_mul, zu_same, zu_rw, zu_ix, zi_ne0, zi_sub, zi_m1, Nat.add_sub_cancel, Nat.reduceMul, Nat.reduceSub]
      refine hV.fin hT2 (by omega) (by omega) ((g3'.lo (ta := ta) (by omega)).up (fun b hb => zur_ne (by have hb' : b < ta := hb; omega)) (fun _ _ => rfl)) p3 (hp3.setA hk lw4) hb
    · rintro _ _ ⟨e, z3, h3, S3, L3, e2, rfl, rfl, g3, f4⟩
      have em : mx (pLaw A q1) = 401 := by rw [e2]; rfl
      exact hV.err _ (by rw [hT1, e2]; rfl) (by omega) (by omega) (((pG.s f1).tr g3).lo (by omega)) f4
  · rintro _ _ ⟨e, S1, e1, rfl, rfl, f1, f4⟩
    exact hV.err _ (by rw [hT, e1]; rfl) (by omega) (by omega) ((pG.s f1).lo (by omega)) f4
theorem zX3_told (hx : tdX E c z h S P A N ta dE eA B x) (hI : pI c S N q 0) : zM l E 120 YX3_told [.ref (c + 9)] (z, h, S, L) (6 * (mx (qStm A (x, q)) - q.1)) (40 * (mx (qStm A (x, q)) - q.1)) (tdQ h S L c N ta dE (qStm A (x, q))) (exT ta h S L c (qStm A (x, q))) := by
  have hX := hx.2.1
  have hB := hX.1
  have hNl := hX.n
  have htz : ta ≤ z := by have := hx.2.2.2.2.1.2.2.2.2.1; omega
  obtain ⟨i3, i4, i5, i6, ⟨i7, i7'⟩, i8, i9, i10⟩ := id hI
  have hsb := soK_b (tkK A q.1)
  refine zM.go rfl rfl (Nat.le_of_ble_eq_true rfl) (ls := [some (.ref (c + 9)), none, none, none]) rfl ?_
  intro V hVl hVE hVd hVc hVs hVQ hVX
  have hV : tdV V h S L E c N ta dE q (qStm A (x, q)) := ⟨⟨hVE, hVd⟩, ⟨hVc, hVs⟩, hVQ, hVX⟩
  have hS : qStm A (x, q) = if tkK A q.1 = 20 then pB (pOpen A (xC x).length 7 q) (qCor A x) else if tkK A q.1 = 21 then pB (pOpen A (xS x).length 10 q) (qStr A x) else if tkK A q.1 = 22 then pB (pOpen A (xY x).length 6 q) (qYou A x) else if tkK A q.1 = 23 then pB (pOpen A (xW x).length 5 q) (qWor A x) else if tkK A q.1 = 24 then pB (pGo A q) (qLig A x) else if tkK A q.1 = 29 then pB (pGo A q) (qDra A x) else if tkK A q.1 = 30 then pB (pGo A q) (qSee A x) else if 25 ≤ tkK A q.1 ∧ tkK A q.1 ≤ 28 then pB (pGo A q) (qLwS A x (tkK A q.1 - 25)) else pErr A 1 q.1 := rfl
  -- nothing of the kind
  have bad : ∀ v, qStm A (x, q) = pErr A 1 q.1 → zW V YX3_told 468 [some (.ref (c + 9)), some (.int v), none, none] [] (z, h, S, L) 0 0 := by
    intro v hR
    refine sX3_told_468 _ _ _ _ _ ?_
    simp (disch := omega) only [oAld, oCV, oPush, hB.pk, List.getElem?_cons_zero, List.getElem?_cons_succ, List.set_cons_zero, List.set_cons_succ, List.drop_succ_cons, List.drop_zero, List.take_succ_cons, List.take_zero, List.length_cons, List.length_nil, List.reverse_cons, List.reverse_nil, List.nil_append, List.cons_append, Option.toList_some, Option.toList_none, va_rf_s, true_and, and_true, true_implies, false_implies, not_true_eq_false, not_false_eq_true, Nat.reduceAdd, Nat.reduceLeDiff, Nat.le_add_left, Nat.zero_le, Nat.le_refl, znew, true_or, or_true, b01_t, b01_f, b01_ok, bool_ft, vp_b01, vp_b0, vp_b1, b01_eq0, b01_eq1, implies_true, nI_add, nI_clamp, zi_in, zi_le_t, zi_le_f, zi_lt_t, zi_lt_f, zi_eq_t, zi_eq_f, nI_leI, nI_ltI, nI_eq, z_in, pk_mul, zu_same, zu_rw, zu_ix, zi_ne0, zi_sub, zi_m1, Nat.add_sub_cancel, Nat.reduceMul, Nat.reduceSub]
    refine zC.of0 (zX3_wrong hX hI (by omega)) (by omega) (Nat.zero_le _) (Nat.zero_le _) ?_
    rintro _ _ ⟨rfl, S', rfl, f1, f2⟩
    refine sX3_told_473 _ _ _ _ _ ?_
    simp (disch := omega) only [oThrow, hB.fk, List.getElem?_cons_zero, List.getElem?_cons_succ, List.set_cons_zero, List.set_cons_succ, List.drop_succ_cons, List.drop_zero, List.take_succ_cons, List.take_zero, List.length_cons, List.length_nil, List.reverse_cons, List.reverse_nil, List.nil_append, List.cons_append, Option.toList_some, Option.toList_none, va_rf_s, true_and, and_true, true_implies, false_implies, not_true_eq_false, not_false_eq_true, Nat.reduceAdd, Nat.reduceLeDiff, Nat.le_add_left, Nat.zero_le, Nat.le_refl, znew, true_or, or_true, b01_t, b01_f, b01_ok, bool_ft, vp_b01, vp_b0, vp_b1, b01_eq0, b01_eq1, implies_true, nI_add, nI_clamp, zi_in, zi_le_t, zi_le_f, zi_lt_t, zi_lt_f, zi_eq_t, zi_eq_f, nI_leI, nI_ltI, nI_eq, z_in, pk_mul, zu_same, zu_rw, zu_ix, zi_ne0, zi_sub, zi_m1, Nat.add_sub_cancel, Nat.reduceMul, Nat.reduceSub]
    exact hV.err _ hR (by omega) (by omega) ((pG.s f1).lo htz) f2
  refine sX3_told_0 _ _ _ _ _ ?_
  simp (disch := omega) only [oAld, oCV, hB.pk, List.getElem?_cons_zero, List.getElem?_cons_succ, List.set_cons_zero, List.set_cons_succ, List.drop_succ_cons, List.drop_zero, List.take_succ_cons, List.take_zero, List.length_cons, List.length_nil, List.reverse_cons, List.reverse_nil, List.nil_append, List.cons_append, Option.toList_some, Option.toList_none, va_rf_s, true_and, and_true, true_implies, false_implies, not_true_eq_false, not_false_eq_true, Nat.reduceAdd, Nat.reduceLeDiff, Nat.le_add_left, Nat.zero_le, Nat.le_refl, znew, true_or, or_true, b01_t, b01_f, b01_ok, bool_ft, vp_b01, vp_b0, vp_b1, b01_eq0, b01_eq1, implies_true, nI_add, nI_clamp, zi_in, zi_le_t, zi_le_f, zi_lt_t, zi_lt_f, zi_eq_t, zi_eq_f, nI_leI, nI_ltI, nI_eq, z_in, pk_mul, zu_same, zu_rw, zu_ix, zi_ne0, zi_sub, zi_m1, Nat.add_sub_cancel, Nat.reduceMul, Nat.reduceSub]
  refine zC.of (zX3_sort hX hI) (by omega) (by omega) (by omega) ?_ ?_
  · rintro _ _ ⟨h3, rfl, rfl⟩
    by_cases h20 : 20 ≤ tkK A q.1
    · obtain ⟨e8, e42⟩ := hX.wd i7' h20
      have hnx := hX.nx i7' (by omega) (by omega)
      have es : (nI (soK (tkK A q.1)) = nI 3) = True := eq_true (by rw [soK_w h20])
      refine sX3_told_4 _ _ _ _ _ ?_
      simp (disch := omega) only [oAld, oAld1, oGI, oGR, oIfc, oNop, oPush, hB.pk, hB.pr0, hB.tk, hB.tr6, hB.tt6, hB.tn6, i3, es, e8, List.getElem?_cons_zero, List.getElem?_cons_succ, List.set_cons_zero, List.set_cons_succ, List.drop_succ_cons, List.drop_zero, List.take_succ_cons, List.take_zero, List.length_cons, List.length_nil, List.reverse_cons, List.reverse_nil, List.nil_append, List.cons_append, Option.toList_some, Option.toList_none, va_rf_s, true_and, and_true, true_implies, false_implies, not_true_eq_false, not_false_eq_true, Nat.reduceAdd, Nat.reduceLeDiff, Nat.le_add_left, Nat.zero_le, Nat.le_refl, znew, true_or, or_true, b01_t, b01_f, b01_ok, bool_ft, vp_b01, vp_b0, vp_b1, b01_eq0, b01_eq1, implies_true, nI_add, nI_clamp, zi_in, zi_le_t, zi_le_f, zi_lt_t, zi_lt_f, zi_eq_t, zi_eq_f, nI_leI, nI_ltI, nI_eq, z_in, pk_mul, zu_same, zu_rw, zu_ix, zi_ne0, zi_sub, zi_m1, Nat.add_sub_cancel, Nat.reduceMul, Nat.reduceSub]
      by_cases hlw : 25 ≤ tkK A q.1 ∧ tkK A q.1 ≤ 28
      · have hT : qStm A (x, q) = pB (pGo A q) (qLwS A x (tkK A q.1 - 25)) := by rw [hS, if_neg (by omega), if_neg (by omega), if_neg (by omega), if_neg (by omega), if_neg (by omega), if_neg (by omega), if_neg (by omega), if_pos hlw]
        have := td_law (k := tkK A q.1 - 25) (by omega) hV hT hx hI hnx
        rw [show 5 + (tkK A q.1 - 25) = tkK A q.1 - 20 by omega] at this
        refine sX3_told_24 _ _ _ _ _ ?_
        simp (disch := omega) only [oAld, oCV, oIfc, oIld, oIst, oPush, hB.pk, List.getElem?_cons_zero, List.getElem?_cons_succ, List.set_cons_zero, List.set_cons_succ, List.drop_succ_cons, List.drop_zero, List.take_succ_cons, List.take_zero, List.length_cons, List.length_nil, List.reverse_cons, List.reverse_nil, List.nil_append, List.cons_append, Option.toList_some, Option.toList_none, va_rf_s, true_and, and_true, true_implies, false_implies, not_true_eq_false, not_false_eq_true, Nat.reduceAdd, Nat.reduceLeDiff, Nat.le_add_left, Nat.zero_le, Nat.le_refl, znew, true_or, or_true, b01_t, b01_f, b01_ok, bool_ft, vp_b01, vp_b0, vp_b1, b01_eq0, b01_eq1, implies_true, nI_add, nI_clamp, zi_in, zi_le_t, zi_le_f, zi_lt_t, zi_lt_f, zi_eq_t, zi_eq_f, nI_leI, nI_ltI, nI_eq, z_in, pk_mul, zu_same, zu_rw, zu_ix, zi_ne0, zi_sub, zi_m1, Nat.add_sub_cancel, Nat.reduceMul, Nat.reduceSub]
        exact this
      · have go : ∀ kk K, kk < 11 → tkK A q.1 = 20 + kk → (kk < 5 ∨ 9 ≤ kk) → [zW V YX3_told 116, zW V YX3_told 157, zW V YX3_told 266, zW V YX3_told 347, zW V YX3_told 400, zW V YX3_told 468, zW V YX3_told 468, zW V YX3_told 468, zW V YX3_told 468, zW V YX3_told 425, zW V YX3_told 446][kk]? = some K → K [some (.ref (c + 9)), some (.int (nI kk)), none, none] [] (z, h, S, L) 0 0 → zW V YX3_told 24 [some (.ref (c + 9)), none, none, none] [.int (nI (tkK A q.1 - 20))] (z, h, S, L) 0 0 := by
          intro kk K hkk e hr hK hgo
          rw [e, show 20 + kk - 20 = kk by omega]
          by_cases h5 : kk < 5
          · refine sX3_told_24 _ _ _ _ _ ?_
            simp (disch := omega) only [oAld, oCV, oIfc, oIld, oIst, oPush, hB.pk, List.getElem?_cons_zero, List.getElem?_cons_succ, List.set_cons_zero, List.set_cons_succ, List.drop_succ_cons, List.drop_zero, List.take_succ_cons, List.take_zero, List.length_cons, List.length_nil, List.reverse_cons, List.reverse_nil, List.nil_append, List.cons_append, Option.toList_some, Option.toList_none, va_rf_s, true_and, and_true, true_implies, false_implies, not_true_eq_false, not_false_eq_true, Nat.reduceAdd, Nat.reduceLeDiff, Nat.le_add_left, Nat.zero_le, Nat.le_refl, znew, true_or, or_true, b01_t, b01_f, b01_ok, bool_ft, vp_b01, vp_b0, vp_b1, b01_eq0, b01_eq1, implies_true, nI_add, nI_clamp, zi_in, zi_le_t, zi_le_f, zi_lt_t, zi_lt_f, zi_eq_t, zi_eq_f, nI_leI, nI_ltI, nI_eq, z_in, pk_mul, zu_same, zu_rw, zu_ix, zi_ne0, zi_sub, zi_m1, Nat.add_sub_cancel, Nat.reduceMul, Nat.reduceSub]
            exact tsw_at (by omega) (by simp) hK hgo
          · refine sX3_told_24 _ _ _ _ _ ?_
            simp (disch := omega) only [oAld, oCV, oIfc, oIld, oIst, oPush, hB.pk, List.getElem?_cons_zero, List.getElem?_cons_succ, List.set_cons_zero, List.set_cons_succ, List.drop_succ_cons, List.drop_zero, List.take_succ_cons, List.take_zero, List.length_cons, List.length_nil, List.reverse_cons, List.reverse_nil, List.nil_append, List.cons_append, Option.toList_some, Option.toList_none, va_rf_s, true_and, and_true, true_implies, false_implies, not_true_eq_false, not_false_eq_true, Nat.reduceAdd, Nat.reduceLeDiff, Nat.le_add_left, Nat.zero_le, Nat.le_refl, znew, true_or, or_true, b01_t, b01_f, b01_ok, bool_ft, vp_b01, vp_b0, vp_b1, b01_eq0, b01_eq1, implies_true, nI_add, nI_clamp, zi_in, zi_le_t, zi_le_f, zi_lt_t, zi_lt_f, zi_eq_t, zi_eq_f, nI_leI, nI_ltI, nI_eq, z_in, pk_mul, zu_same, zu_rw, zu_ix, zi_ne0, zi_sub, zi_m1, Nat.add_sub_cancel, Nat.reduceMul, Nat.reduceSub]
            exact tsw_at (by omega) (by simp) hK hgo
        by_cases k0 : tkK A q.1 = 20
        · exact go 0 _ (by omega) (by omega) (by omega) rfl (td_corner hV (by rw [hS, if_pos k0]) hx hI hnx)
        by_cases k1 : tkK A q.1 = 21
        · exact go 1 _ (by omega) (by omega) (by omega) rfl (td_street hV (by rw [hS, if_neg k0, if_pos k1]) hx hI hnx)
        by_cases k2 : tkK A q.1 = 22
        · exact go 2 _ (by omega) (by omega) (by omega) rfl (td_young hV (by rw [hS, if_neg k0, if_neg k1, if_pos k2]) hx hI hnx)
        by_cases k3 : tkK A q.1 = 23
        · exact go 3 _ (by omega) (by omega) (by omega) rfl (td_word hV (by rw [hS, if_neg k0, if_neg k1, if_neg k2, if_pos k3]) hx hI hnx)
        by_cases k4 : tkK A q.1 = 24
        · exact go 4 _ (by omega) (by omega) (by omega) rfl (td_light hV (by rw [hS, if_neg k0, if_neg k1, if_neg k2, if_neg k3, if_pos k4]) hx hI hnx)
        by_cases k9 : tkK A q.1 = 29
        · exact go 9 _ (by omega) (by omega) (by omega) rfl (td_draught hV (by rw [hS, if_neg k0, if_neg k1, if_neg k2, if_neg k3, if_neg k4, if_pos k9]) hx hI hnx)
        by_cases k10 : tkK A q.1 = 30
        · exact go 10 _ (by omega) (by omega) (by omega) rfl (td_seed hV (by rw [hS, if_neg k0, if_neg k1, if_neg k2, if_neg k3, if_neg k4, if_neg k9, if_pos k10]) hx hI hnx)
        have hR : qStm A (x, q) = pErr A 1 q.1 := by rw [hS, if_neg k0, if_neg k1, if_neg k2, if_neg k3, if_neg k4, if_neg k9, if_neg k10, if_neg hlw]
        have hbig : 11 ≤ tkK A q.1 - 20 := by omega
        have hkb : tkK A q.1 - 20 < 1000 := by omega
        generalize tkK A q.1 - 20 = kk at hbig e8 hkb
        refine sX3_told_24 _ _ _ _ _ ?_
        simp (disch := omega) only [oAld, oCV, oIfc, oIld, oIst, oPush, hB.pk, List.getElem?_cons_zero, List.getElem?_cons_succ, List.set_cons_zero, List.set_cons_succ, List.drop_succ_cons, List.drop_zero, List.take_succ_cons, List.take_zero, List.length_cons, List.length_nil, List.reverse_cons, List.reverse_nil, List.nil_append, List.cons_append, Option.toList_some, Option.toList_none, va_rf_s, true_and, and_true, true_implies, false_implies, not_true_eq_false, not_false_eq_true, Nat.reduceAdd, Nat.reduceLeDiff, Nat.le_add_left, Nat.zero_le, Nat.le_refl, znew, true_or, or_true, b01_t, b01_f, b01_ok, bool_ft, vp_b01, vp_b0, vp_b1, b01_eq0, b01_eq1, implies_true, nI_add, nI_clamp, zi_in, zi_le_t, zi_le_f, zi_lt_t, zi_lt_f, zi_eq_t, zi_eq_f, nI_leI, nI_ltI, nI_eq, z_in, pk_mul, zu_same, zu_rw, zu_ix, zi_ne0, zi_sub, zi_m1, Nat.add_sub_cancel, Nat.reduceMul, Nat.reduceSub]
        exact tsw_out (by simp) (fun w hw e => by
          simp at hw
          rw [nI_eq (by omega) (by omega)] at e; omega) (bad _ hR)
    · have es : (nI (soK (tkK A q.1)) = nI 3) = False := eq_false (fun x => h20 (soK_3 (by rw [nI_eq (by omega) (by omega)] at x; exact x)))
      have hR : qStm A (x, q) = pErr A 1 q.1 := by rw [hS, if_neg (by omega), if_neg (by omega), if_neg (by omega), if_neg (by omega), if_neg (by omega), if_neg (by omega), if_neg (by omega), if_neg (by omega)]
      have m5 : ((-1 : Int32) < nI 5) = True := eq_true (by decide)
      refine sX3_told_4 _ _ _ _ _ ?_
      simp (disch := omega) only [oAld, oAld1, oGI, oGR, oIfc, oNop, oPush, hB.pk, hB.pr0, hB.tk, hB.tr6, hB.tt6, hB.tn6, es, List.getElem?_cons_zero, List.getElem?_cons_succ, List.set_cons_zero, List.set_cons_succ, List.drop_succ_cons, List.drop_zero, List.take_succ_cons, List.take_zero, List.length_cons, List.length_nil, List.reverse_cons, List.reverse_nil, List.nil_append, List.cons_append, Option.toList_some, Option.toList_none, va_rf_s, true_and, and_true, true_implies, false_implies, not_true_eq_false, not_false_eq_true, Nat.reduceAdd, Nat.reduceLeDiff, Nat.le_add_left, Nat.zero_le, Nat.le_refl, znew, true_or, or_true, b01_t, b01_f, b01_ok, bool_ft, vp_b01, vp_b0, vp_b1, b01_eq0, b01_eq1, implies_true, nI_add, nI_clamp, zi_in, zi_le_t, zi_le_f, zi_lt_t, zi_lt_f, zi_eq_t, zi_eq_f, nI_leI, nI_ltI, nI_eq, z_in, pk_mul, zu_same, zu_rw, zu_ix, zi_ne0, zi_sub, zi_m1, Nat.add_sub_cancel, Nat.reduceMul, Nat.reduceSub]
      refine sX3_told_24 _ _ _ _ _ ?_
      simp (disch := omega) only [oAld, oCV, oIfc, oIld, oIst, oPush, hB.pk, m5, List.getElem?_cons_zero, List.getElem?_cons_succ, List.set_cons_zero, List.set_cons_succ, List.drop_succ_cons, List.drop_zero, List.take_succ_cons, List.take_zero, List.length_cons, List.length_nil, List.reverse_cons, List.reverse_nil, List.nil_append, List.cons_append, Option.toList_some, Option.toList_none, va_rf_s, true_and, and_true, true_implies, false_implies, not_true_eq_false, not_false_eq_true, Nat.reduceAdd, Nat.reduceLeDiff, Nat.le_add_left, Nat.zero_le, Nat.le_refl, znew, true_or, or_true, b01_t, b01_f, b01_ok, bool_ft, vp_b01, vp_b0, vp_b1, b01_eq0, b01_eq1, implies_true, nI_add, nI_clamp, zi_in, zi_le_t, zi_le_f, zi_lt_t, zi_lt_f, zi_eq_t, zi_eq_f, nI_leI, nI_ltI, nI_eq, z_in, pk_mul, zu_same, zu_rw, zu_ix, zi_ne0, zi_sub, zi_m1, Nat.add_sub_cancel, Nat.reduceMul, Nat.reduceSub]
      exact tsw_out (by simp) (fun w hw e => by
        simp at hw
        exact nI_nm1 (show w < 2 ^ 31 by omega) e.symm) (bad _ hR)
  · rintro _ _ ⟨h3, e, S', e1, rfl, rfl, f1, f2⟩
    have hR : qStm A (x, q) = .error e := by
      rw [hS, if_neg (by omega), if_neg (by omega), if_neg (by omega), if_neg (by omega), if_neg (by omega), if_neg (by omega), if_neg (by omega), if_neg (by omega)]
      cases e1; rfl
    exact hV.err _ hR (by omega) (by omega) ((pG.s f1).lo htz) f2
end FL
