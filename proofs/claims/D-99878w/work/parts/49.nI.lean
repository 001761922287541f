/-! reading: draught, seed, laws; tellOne -/
section NI
variable {l : Launch} {E : zE} {b z : Nat} {h : Nat → Option zSh} {S : Nat → Nat → Int32} {L : Nat → Nat → Int64} {A : List zTk} {sd : Nat} {x : zTx}
theorem to_draught {V : zV} (hVl : V.1 = l) (hVE : V.2.1 = E) (hVd : V.2.2.1 = 6) (hM : isM h b) (hA : tkW A) {q : zCu} (hP : mPx b S L A sd (x, q)) (hk : tkK A q.1 = 29) (hVQ : ∀ r X, tOut b z h S L A sd (pStm A (x, q)) r X → V.2.2.2.2.2.1 r X) :
    zW V YX10_tellOne 299 [some (.ref b), none] [] (z, h, S, L) 0 0 := by
  obtain ⟨hC, hB, h12, nb, nc, hL, hnb, hnc⟩ := id hP
  have hB : mB b S L sd x := hB
  have hL : mLw b S sd x nb nc := hL
  have hnb : 4 * nb ≤ q.1 := hnb
  have hnc : nc ≤ q.1 := hnc
  have hC : mC b S L A (.ok q) := hC
  obtain ⟨⟨h19, hsd⟩, -⟩ := hB.cnt
  obtain ⟨-, -, -, -, hGG, -⟩ := id hB
  have hk' : tkK A (x, q).2.1 = 29 := hk
  have e0 : pStm A (x, q) = pB (pGo A q) (pDra A x) := by unfold pStm; rw [hk']; rfl
  rw [e0] at hVQ
  refine sX10_tellOne_299 _ _ _ _ _ ?_
  simp (disch := omega) only [oAld, oCV, oGI, oGR, oPush, hM.1, hM.r35, hM.t35, hM.n35, h19, List.getElem?_cons_zero, List.getElem?_cons_succ, List.set_cons_zero, List.set_cons_succ, List.drop_succ_cons, List.drop_zero, List.take_succ_cons, List.take_zero, List.length_cons, List.length_nil, List.reverse_cons, List.reverse_nil, List.nil_append, List.cons_append, Option.toList_some, Option.toList_none, va_rf_s, true_and, and_true, true_implies, false_implies, not_true_eq_false, not_false_eq_true, Nat.reduceAdd, Nat.reduceLeDiff, Nat.le_add_left, Nat.zero_le, Nat.le_refl, znew, true_or, or_true, b01_t, b01_f, b01_ok, bool_ft, vp_b01, vp_b0, vp_b1, b01_eq0, b01_eq1, implies_true, nI_add, nI_clamp, zi_in, zi_le_t, zi_le_f, zi_lt_t, zi_lt_f, zi_eq_t, zi_eq_f, nI_leI, nI_ltI, nI_eq, z_in, pk_mul, zu_same, zu_rw, zu_ix, zi_ne0, zi_sub, zi_m1, Nat.add_sub_cancel, Nat.reduceMul, Nat.reduceSub]
  refine zC.of0 (zX10_toldInt hM hA hC (fun q' e => by cases e; omega) (by omega)) (by omega) (Nat.zero_le _) (Nat.zero_le _) ?_
  rintro _ _ ⟨S1, v, rfl, rfl, hf1, hC1, hv⟩
  rw [pB_ok] at hC1 hv
  refine sX10_tellOne_313 _ _ _ _ _ ?_
  simp (disch := omega) only [oAst1, oNop, hM.t35, hM.n35, List.getElem?_cons_zero, List.getElem?_cons_succ, List.set_cons_zero, List.set_cons_succ, List.drop_succ_cons, List.drop_zero, List.take_succ_cons, List.take_zero, List.length_cons, List.length_nil, List.reverse_cons, List.reverse_nil, List.nil_append, List.cons_append, Option.toList_some, Option.toList_none, va_rf_s, true_and, and_true, true_implies, false_implies, not_true_eq_false, not_false_eq_true, Nat.reduceAdd, Nat.reduceLeDiff, Nat.le_add_left, Nat.zero_le, Nat.le_refl, znew, true_or, or_true, b01_t, b01_f, b01_ok, bool_ft, vp_b01, vp_b0, vp_b1, b01_eq0, b01_eq1, implies_true, nI_add, nI_clamp, zi_in, zi_le_t, zi_le_f, zi_lt_t, zi_lt_f, zi_eq_t, zi_eq_f, nI_leI, nI_ltI, nI_eq, z_in, pk_mul, zu_same, zu_rw, zu_ix, zi_ne0, zi_sub, zi_m1, Nat.add_sub_cancel, Nat.reduceMul, Nat.reduceSub]
  refine sX10_tellOne_389 _ _ _ _ _ ?_
  simp (disch := omega) only [oRV, List.getElem?_cons_zero, List.getElem?_cons_succ, List.set_cons_zero, List.set_cons_succ, List.drop_succ_cons, List.drop_zero, List.take_succ_cons, List.take_zero, List.length_cons, List.length_nil, List.reverse_cons, List.reverse_nil, List.nil_append, List.cons_append, Option.toList_some, Option.toList_none, va_rf_s, true_and, and_true, true_implies, false_implies, not_true_eq_false, not_false_eq_true, Nat.reduceAdd, Nat.reduceLeDiff, Nat.le_add_left, Nat.zero_le, Nat.le_refl, znew, true_or, or_true, b01_t, b01_f, b01_ok, bool_ft, vp_b01, vp_b0, vp_b1, b01_eq0, b01_eq1, implies_true, nI_add, nI_clamp, zi_in, zi_le_t, zi_le_f, zi_lt_t, zi_lt_f, zi_eq_t, zi_eq_f, nI_leI, nI_ltI, nI_eq, z_in, pk_mul, zu_same, zu_rw, zu_ix, zi_ne0, zi_sub, zi_m1, Nat.add_sub_cancel, Nat.reduceMul, Nat.reduceSub]
  have hC1' := hC1.row (o := 22) (k := sd) (v := v) (by omega)
  rw [pB_pV, pB_as] at hC1'
  have hF1 : mF b sd S (zu S1 (b + 22) sd v) := (mF.of hf1 rfl rfl).row hsd 1 rfl (by decide) (by omega) (by omega)
  have hfa : zfr [22] [11, 13, 14, 15, 16] b S (zu S1 (b + 22) sd v) := (hf1.tr zfr.rf rfl rfl (D' := []) (F' := []) (D2 := [22]) (F2 := [11, 13, 14, 15, 16]) rfl rfl).row (by decide) (by decide)
  have eq1 : pV (pB (pGo A q) (pDra A x)) = pB (pGo A q) (fun a => pB (pNum A 0 100 a) (fun r => pMust A 4 r.2)) := by
    cases pGo A q with
    | error e => rfl
    | ok q1 =>
      rw [pB_ok, pB_ok]
      unfold pDra
      cases pNum A 0 100 q1 with
      | error e => rfl
      | ok r =>
        rw [pB_ok, pB_ok]
        cases pMust A 4 r.2 <;> rfl
  refine hVQ _ _ ⟨rfl, _, L, rfl, hF1, fun _ _ => rfl, by rw [eq1]; exact hC1', fun x' q' e => ?_⟩
  rw [← eq1, e] at hC1'
  obtain ⟨q1, hg, e⟩ := pB_inv e
  obtain ⟨⟨n, q2⟩, hkn, e⟩ := pB_inv e
  obtain ⟨q3, hm, e⟩ := pB_inv e
  cases e
  have hv' : v = nI n := hv n q2 (by rw [hg]; exact hkn)
  have e1 : q1.1 = q.1 + 1 := by rw [(pGo_inv hg).1]
  have e2 : q2.1 = q1.1 + 1 := (pNum_inv hkn).1
  obtain ⟨-, e3, -⟩ := pMust_inv hm
  have e3' : q'.1 = q2.1 + 1 := by rw [e3]
  refine ⟨hC1', hB.setG hfa rfl rfl rfl ⟨?_, ?_, ?_⟩, by rw [hfa.f rfl]; exact h12, nb, nc, hL.fr hfa rfl rfl rfl, by show 4 * nb ≤ q'.1; omega, by show nc ≤ q'.1; omega⟩
  · rw [hfa.at (o := 21) rfl rfl]; exact hGG.1
  · rw [zu_same, hv']
  · rw [hfa.at (o := 23) rfl rfl]; exact hGG.2.2
theorem to_seed {V : zV} (hVl : V.1 = l) (hVE : V.2.1 = E) (hVd : V.2.2.1 = 6) (hM : isM h b) (hA : tkW A) {q : zCu} (hP : mPx b S L A sd (x, q)) (hk : tkK A q.1 = 30) (hVQ : ∀ r X, tOut b z h S L A sd (pStm A (x, q)) r X → V.2.2.2.2.2.1 r X) :
    zW V YX10_tellOne 317 [some (.ref b), none] [] (z, h, S, L) 0 0 := by
  obtain ⟨hC, hB, h12, nb, nc, hL, hnb, hnc⟩ := id hP
  have hB : mB b S L sd x := hB
  have hL : mLw b S sd x nb nc := hL
  have hnb : 4 * nb ≤ q.1 := hnb
  have hnc : nc ≤ q.1 := hnc
  have hC : mC b S L A (.ok q) := hC
  obtain ⟨⟨h19, hsd⟩, -⟩ := hB.cnt
  obtain ⟨-, -, -, -, hGG, -⟩ := id hB
  have hk' : tkK A (x, q).2.1 = 30 := hk
  have e0 : pStm A (x, q) = pB (pGo A q) (pSee A x) := by unfold pStm; rw [hk']; rfl
  rw [e0] at hVQ
  refine sX10_tellOne_317 _ _ _ _ _ ?_
  simp (disch := omega) only [oAld, oCV, oGI, oGR, oPush, hM.1, hM.r36, hM.t36, hM.n36, h19, List.getElem?_cons_zero, List.getElem?_cons_succ, List.set_cons_zero, List.set_cons_succ, List.drop_succ_cons, List.drop_zero, List.take_succ_cons, List.take_zero, List.length_cons, List.length_nil, List.reverse_cons, List.reverse_nil, List.nil_append, List.cons_append, Option.toList_some, Option.toList_none, va_rf_s, true_and, and_true, true_implies, false_implies, not_true_eq_false, not_false_eq_true, Nat.reduceAdd, Nat.reduceLeDiff, Nat.le_add_left, Nat.zero_le, Nat.le_refl, znew, true_or, or_true, b01_t, b01_f, b01_ok, bool_ft, vp_b01, vp_b0, vp_b1, b01_eq0, b01_eq1, implies_true, nI_add, nI_clamp, zi_in, zi_le_t, zi_le_f, zi_lt_t, zi_lt_f, zi_eq_t, zi_eq_f, nI_leI, nI_ltI, nI_eq, z_in, pk_mul, zu_same, zu_rw, zu_ix, zi_ne0, zi_sub, zi_m1, Nat.add_sub_cancel, Nat.reduceMul, Nat.reduceSub]
  refine zC.of0 (zX10_toldInt hM hA hC (fun q' e => by cases e; omega) (by omega)) (by omega) (Nat.zero_le _) (Nat.zero_le _) ?_
  rintro _ _ ⟨S1, v, rfl, rfl, hf1, hC1, hv⟩
  rw [pB_ok] at hC1 hv
  refine sX10_tellOne_332 _ _ _ _ _ ?_
  simp (disch := omega) only [oAst1, oNop, hM.t36, hM.n36, List.getElem?_cons_zero, List.getElem?_cons_succ, List.set_cons_zero, List.set_cons_succ, List.drop_succ_cons, List.drop_zero, List.take_succ_cons, List.take_zero, List.length_cons, List.length_nil, List.reverse_cons, List.reverse_nil, List.nil_append, List.cons_append, Option.toList_some, Option.toList_none, va_rf_s, true_and, and_true, true_implies, false_implies, not_true_eq_false, not_false_eq_true, Nat.reduceAdd, Nat.reduceLeDiff, Nat.le_add_left, Nat.zero_le, Nat.le_refl, znew, true_or, or_true, b01_t, b01_f, b01_ok, bool_ft, vp_b01, vp_b0, vp_b1, b01_eq0, b01_eq1, implies_true, nI_add, nI_clamp, zi_in, zi_le_t, zi_le_f, zi_lt_t, zi_lt_f, zi_eq_t, zi_eq_f, nI_leI, nI_ltI, nI_eq, z_in, pk_mul, zu_same, zu_rw, zu_ix, zi_ne0, zi_sub, zi_m1, Nat.add_sub_cancel, Nat.reduceMul, Nat.reduceSub]
  refine sX10_tellOne_389 _ _ _ _ _ ?_
  simp (disch := omega) only [oRV, List.getElem?_cons_zero, List.getElem?_cons_succ, List.set_cons_zero, List.set_cons_succ, List.drop_succ_cons, List.drop_zero, List.take_succ_cons, List.take_zero, List.length_cons, List.length_nil, List.reverse_cons, List.reverse_nil, List.nil_append, List.cons_append, Option.toList_some, Option.toList_none, va_rf_s, true_and, and_true, true_implies, false_implies, not_true_eq_false, not_false_eq_true, Nat.reduceAdd, Nat.reduceLeDiff, Nat.le_add_left, Nat.zero_le, Nat.le_refl, znew, true_or, or_true, b01_t, b01_f, b01_ok, bool_ft, vp_b01, vp_b0, vp_b1, b01_eq0, b01_eq1, implies_true, nI_add, nI_clamp, zi_in, zi_le_t, zi_le_f, zi_lt_t, zi_lt_f, zi_eq_t, zi_eq_f, nI_leI, nI_ltI, nI_eq, z_in, pk_mul, zu_same, zu_rw, zu_ix, zi_ne0, zi_sub, zi_m1, Nat.add_sub_cancel, Nat.reduceMul, Nat.reduceSub]
  have hC1' := hC1.row (o := 23) (k := sd) (v := v) (by omega)
  rw [pB_pV, pB_as] at hC1'
  have hF1 : mF b sd S (zu S1 (b + 23) sd v) := (mF.of hf1 rfl rfl).row hsd 1 rfl (by decide) (by omega) (by omega)
  have hfa : zfr [23] [11, 13, 14, 15, 16] b S (zu S1 (b + 23) sd v) := (hf1.tr zfr.rf rfl rfl (D' := []) (F' := []) (D2 := [23]) (F2 := [11, 13, 14, 15, 16]) rfl rfl).row (by decide) (by decide)
  have eq1 : pV (pB (pGo A q) (pSee A x)) = pB (pGo A q) (fun a => pB (pNum A 0 9999 a) (fun r => pMust A 4 r.2)) := by
    cases pGo A q with
    | error e => rfl
    | ok q1 =>
      rw [pB_ok, pB_ok]
      unfold pSee
      cases pNum A 0 9999 q1 with
      | error e => rfl
      | ok r =>
        rw [pB_ok, pB_ok]
        cases pMust A 4 r.2 <;> rfl
  refine hVQ _ _ ⟨rfl, _, L, rfl, hF1, fun _ _ => rfl, by rw [eq1]; exact hC1', fun x' q' e => ?_⟩
  rw [← eq1, e] at hC1'
  obtain ⟨q1, hg, e⟩ := pB_inv e
  obtain ⟨⟨n, q2⟩, hkn, e⟩ := pB_inv e
  obtain ⟨q3, hm, e⟩ := pB_inv e
  cases e
  have hv' : v = nI n := hv n q2 (by rw [hg]; exact hkn)
  have e1 : q1.1 = q.1 + 1 := by rw [(pGo_inv hg).1]
  have e2 : q2.1 = q1.1 + 1 := (pNum_inv hkn).1
  obtain ⟨-, e3, -⟩ := pMust_inv hm
  have e3' : q'.1 = q2.1 + 1 := by rw [e3]
  refine ⟨hC1', hB.setG hfa rfl rfl rfl ⟨?_, ?_, ?_⟩, by rw [hfa.f rfl]; exact h12, nb, nc, hL.fr hfa rfl rfl rfl, by show 4 * nb ≤ q'.1; omega, by show nc ≤ q'.1; omega⟩
  · rw [hfa.at (o := 21) rfl rfl]; exact hGG.1
  · rw [hfa.at (o := 22) rfl rfl]; exact hGG.2.1
  · rw [zu_same, hv']
theorem zX10_tellLawE (hM : isM h b) (hA : tkW A) (hsd : sd < 2) {e : zFt} (hC : mC b S L A (.error e)) {nb nc : Nat} (h39 : S b 39 = nI (130 * sd + nb)) (h45 : S b 45 = nI (420 * sd + nc)) (hnb : nb ≤ 120) (hnc : nc ≤ 410) {k : Int32} :
    zM l E 5 YX10_tellLaw [.ref b, .int k] (z, h, S, L) 0 0 (fun r X => r = none ∧ ∃ S', X = (z, h, S', L) ∧ mF b sd S S' ∧ mC b S' L A (.error e)) (fun _ _ => False) := by
  refine zM.go rfl rfl (Nat.le_of_ble_eq_true rfl) (ls := [some (.ref b), some (.int k), none, none]) rfl ?_
  intro V hVl hVE hVd hVc hVs hVQ hVX
  refine sX10_tellLaw_0 _ _ _ _ _ ?_
  simp (disch := omega) only [oAld, oCV, oPush, hM.1, List.getElem?_cons_zero, List.getElem?_cons_succ, List.set_cons_zero, List.set_cons_succ, List.drop_succ_cons, List.drop_zero, List.take_succ_cons, List.take_zero, List.length_cons, List.length_nil, List.reverse_cons, List.reverse_nil, List.nil_append, List.cons_append, Option.toList_some, Option.toList_none, va_rf_s, true_and, and_true, true_implies, false_implies, not_true_eq_false, not_false_eq_true, Nat.reduceAdd, Nat.reduceLeDiff, Nat.le_add_left, Nat.zero_le, Nat.le_refl, znew, true_or, or_true, b01_t, b01_f, b01_ok, bool_ft, vp_b01, vp_b0, vp_b1, b01_eq0, b01_eq1, implies_true, nI_add, nI_clamp, zi_in, zi_le_t, zi_le_f, zi_lt_t, zi_lt_f, zi_eq_t, zi_eq_f, nI_leI, nI_ltI, nI_eq, z_in, pk_mul, zu_same, zu_rw, zu_ix, zi_ne0, zi_sub, zi_m1, Nat.add_sub_cancel, Nat.reduceMul, Nat.reduceSub]
  refine zC.of0 (zX10_must hM hA hC (by omega) (by omega)) (by omega) (Nat.zero_le _) (Nat.zero_le _) ?_
  rintro _ _ ⟨rfl, S1, rfl, hf1, hC1⟩
  have h39a : S1 b 39 = nI (130 * sd + nb) := by rw [hf1.f rfl]; exact h39
  have h45a : S1 b 45 = nI (420 * sd + nc) := by rw [hf1.f rfl]; exact h45
  refine sX10_tellLaw_5 _ _ _ _ _ ?_
  simp (disch := omega) only [oAld, oGI, oIst, oPush, hM.1, h39a, List.getElem?_cons_zero, List.getElem?_cons_succ, List.set_cons_zero, List.set_cons_succ, List.drop_succ_cons, List.drop_zero, List.take_succ_cons, List.take_zero, List.length_cons, List.length_nil, List.reverse_cons, List.reverse_nil, List.nil_append, List.cons_append, Option.toList_some, Option.toList_none, va_rf_s, true_and, and_true, true_implies, false_implies, not_true_eq_false, not_false_eq_true, Nat.reduceAdd, Nat.reduceLeDiff, Nat.le_add_left, Nat.zero_le, Nat.le_refl, znew, true_or, or_true, b01_t, b01_f, b01_ok, bool_ft, vp_b01, vp_b0, vp_b1, b01_eq0, b01_eq1, implies_true, nI_add, nI_clamp, zi_in, zi_le_t, zi_le_f, zi_lt_t, zi_lt_f, zi_eq_t, zi_eq_f, nI_leI, nI_ltI, nI_eq, z_in, pk_mul, zu_same, zu_rw, zu_ix, zi_ne0, zi_sub, zi_m1, Nat.add_sub_cancel, Nat.reduceMul, Nat.reduceSub]
  refine tl_e12 hVl hVE hVd hM hA hsd (c0 := 420 * sd + nc) (m := 130 * sd + nb) (by omega) (e := e) hC1 h45a (by omega) h39a (by omega) (fun S' hl' hC' => hVQ _ _ ⟨rfl, S', rfl, (mF.of hf1 rfl rfl).tr (hl'.sd hsd (by omega) (by omega)), hC'⟩)
theorem to_law {V : zV} (hVl : V.1 = l) (hVE : V.2.1 = E) (hVd : V.2.2.1 = 6) (hM : isM h b) (hA : tkW A) {q : zCu} (hP : mPx b S L A sd (x, q)) (hk : ∀ j, 20 ≤ j → j ≤ 24 → tkK A q.1 ≠ j) (hk2 : tkK A q.1 ≠ 29) (hk3 : tkK A q.1 ≠ 30) (hk0 : tkK A q.1 ≠ 0) (hVQ : ∀ r X, tOut b z h S L A sd (pStm A (x, q)) r X → V.2.2.2.2.2.1 r X) :
    zW V YX10_tellOne 336 [some (.ref b), none] [] (z, h, S, L) 0 0 := by
  obtain ⟨hC, hB, h12, nb, nc, hL, hnb, hnc⟩ := id hP
  have hB : mB b S L sd x := hB
  have hL : mLw b S sd x nb nc := hL
  have hnb : 4 * nb ≤ q.1 := hnb
  have hnc : nc ≤ q.1 := hnc
  have hC : mC b S L A (.ok q) := hC
  have hq4 : q.1 ≤ 400 := hC.2.2.2.1
  have hal : q.1 < A.length := hC.2.2.2.2.1
  have h11 := hC.2.2.1
  obtain ⟨⟨h19, hsd⟩, -⟩ := hB.cnt
  have e3 := (hC.tok hal hq4).1
  have hk100 := (hA.2.2 q.1).1
  have c20 := hk 20 (by omega) (by omega)
  have c21 := hk 21 (by omega) (by omega)
  have c22 := hk 22 (by omega) (by omega)
  have c23 := hk 23 (by omega) (by omega)
  have c24 := hk 24 (by omega) (by omega)
  have e0 : pStm A (x, q) = if 25 ≤ tkK A q.1 ∧ tkK A q.1 ≤ 28 then pB (pGo A q) (pLwS A x (tkK A q.1 - 25)) else pErr A 1 q.1 := by
    unfold pStm
    show (if tkK A q.1 = 20 then _ else _) = _
    rw [if_neg c20, if_neg c21, if_neg c22, if_neg c23, if_neg c24, if_neg hk2, if_neg hk3]
  rw [e0] at hVQ
  have bad : ∀ x1, ¬ (25 ≤ tkK A q.1 ∧ tkK A q.1 ≤ 28) → zC V YX10_fail [.ref b, .int (nI 1)] (z, h, S, L) 0 0 (fun v X' k' n' => zW V YX10_tellOne 372 [some (.ref b), x1] (v.toList ++ []) X' k' n') (zOut V [some (.ref b), x1]) := by
    intro x1 hn
    rw [if_neg hn] at hVQ
    refine zC.of0 (zX10_fail hM hC (by omega) (by omega)) (by omega) (Nat.zero_le _) (Nat.zero_le _) ?_
    rintro _ _ ⟨rfl, S1, rfl, hf1, hC1⟩
    obtain ⟨n, h13, hn, hn5⟩ := mC.bad (e := (1, tkP A q.1)) hC1
    refine sX10_tellOne_372 _ _ _ _ _ ?_
    simp (disch := omega) only [oAld, oCV, oGI, oIf, oRV, hM.1, h13, List.getElem?_cons_zero, List.getElem?_cons_succ, List.set_cons_zero, List.set_cons_succ, List.drop_succ_cons, List.drop_zero, List.take_succ_cons, List.take_zero, List.length_cons, List.length_nil, List.reverse_cons, List.reverse_nil, List.nil_append, List.cons_append, Option.toList_some, Option.toList_none, va_rf_s, true_and, and_true, true_implies, false_implies, not_true_eq_false, not_false_eq_true, Nat.reduceAdd, Nat.reduceLeDiff, Nat.le_add_left, Nat.zero_le, Nat.le_refl, znew, true_or, or_true, b01_t, b01_f, b01_ok, bool_ft, vp_b01, vp_b0, vp_b1, b01_eq0, b01_eq1, implies_true, nI_add, nI_clamp, zi_in, zi_le_t, zi_le_f, zi_lt_t, zi_lt_f, zi_eq_t, zi_eq_f, nI_leI, nI_ltI, nI_eq, z_in, pk_mul, zu_same, zu_rw, zu_ix, zi_ne0, zi_sub, zi_m1, Nat.add_sub_cancel, Nat.reduceMul, Nat.reduceSub]
    exact hVQ _ _ ⟨rfl, S1, L, rfl, mF.of hf1 rfl rfl, fun _ _ => rfl, hC1, fun x' q' e => by cases e⟩
  by_cases h25 : tkK A q.1 < 25
  · have hlt : (nI (tkK A q.1) - nI 25 < nI 0) = True := by
      refine eq_true ?_
      rw [Int32.lt_iff_toInt_lt, pk_sub_toInt (by omega) (by omega), nI_toInt (by omega)]; omega
    refine sX10_tellOne_336 _ _ _ _ _ ?_
    simp (disch := omega) only [oAld, oAld1, oBin, oCV, oGI, oGR, oIf, oIfc, oIld, oIst, oPush, hM.1, hM.r5, hM.t5, hM.n5, h11, e3, hlt, List.getElem?_cons_zero, List.getElem?_cons_succ, List.set_cons_zero, List.set_cons_succ, List.drop_succ_cons, List.drop_zero, List.take_succ_cons, List.take_zero, List.length_cons, List.length_nil, List.reverse_cons, List.reverse_nil, List.nil_append, List.cons_append, Option.toList_some, Option.toList_none, va_rf_s, true_and, and_true, true_implies, false_implies, not_true_eq_false, not_false_eq_true, Nat.reduceAdd, Nat.reduceLeDiff, Nat.le_add_left, Nat.zero_le, Nat.le_refl, znew, true_or, or_true, b01_t, b01_f, b01_ok, bool_ft, vp_b01, vp_b0, vp_b1, b01_eq0, b01_eq1, implies_true, nI_add, nI_clamp, zi_in, zi_le_t, zi_le_f, zi_lt_t, zi_lt_f, zi_eq_t, zi_eq_f, nI_leI, nI_ltI, nI_eq, z_in, pk_mul, zu_same, zu_rw, zu_ix, zi_ne0, zi_sub, zi_m1, Nat.add_sub_cancel, Nat.reduceMul, Nat.reduceSub]
    exact bad _ (by omega)
  · by_cases h28 : 28 < tkK A q.1
    · refine sX10_tellOne_336 _ _ _ _ _ ?_
      simp (disch := omega) only [oAld, oAld1, oBin, oCV, oGI, oGR, oIf, oIfc, oIld, oIst, oPush, hM.1, hM.r5, hM.t5, hM.n5, h11, e3, List.getElem?_cons_zero, List.getElem?_cons_succ, List.set_cons_zero, List.set_cons_succ, List.drop_succ_cons, List.drop_zero, List.take_succ_cons, List.take_zero, List.length_cons, List.length_nil, List.reverse_cons, List.reverse_nil, List.nil_append, List.cons_append, Option.toList_some, Option.toList_none, va_rf_s, true_and, and_true, true_implies, false_implies, not_true_eq_false, not_false_eq_true, Nat.reduceAdd, Nat.reduceLeDiff, Nat.le_add_left, Nat.zero_le, Nat.le_refl, znew, true_or, or_true, b01_t, b01_f, b01_ok, bool_ft, vp_b01, vp_b0, vp_b1, b01_eq0, b01_eq1, implies_true, nI_add, nI_clamp, zi_in, zi_le_t, zi_le_f, zi_lt_t, zi_lt_f, zi_eq_t, zi_eq_f, nI_leI, nI_ltI, nI_eq, z_in, pk_mul, zu_same, zu_rw, zu_ix, zi_ne0, zi_sub, zi_m1, Nat.add_sub_cancel, Nat.reduceMul, Nat.reduceSub]
      exact bad _ (by omega)
    · have hin : 25 ≤ tkK A q.1 ∧ tkK A q.1 ≤ 28 := ⟨by omega, by omega⟩
      rw [if_pos hin] at hVQ
      have h13 := hC.good
      obtain ⟨k, hkk⟩ : ∃ k, k = tkK A q.1 - 25 := ⟨_, rfl⟩
      refine sX10_tellOne_336 _ _ _ _ _ ?_
      simp (disch := omega) only [oAld, oAld1, oBin, oCV, oGI, oGR, oIf, oIfc, oIld, oIst, oPush, hM.1, hM.r5, hM.t5, hM.n5, h11, e3, List.getElem?_cons_zero, List.getElem?_cons_succ, List.set_cons_zero, List.set_cons_succ, List.drop_succ_cons, List.drop_zero, List.take_succ_cons, List.take_zero, List.length_cons, List.length_nil, List.reverse_cons, List.reverse_nil, List.nil_append, List.cons_append, Option.toList_some, Option.toList_none, va_rf_s, true_and, and_true, true_implies, false_implies, not_true_eq_false, not_false_eq_true, Nat.reduceAdd, Nat.reduceLeDiff, Nat.le_add_left, Nat.zero_le, Nat.le_refl, znew, true_or, or_true, b01_t, b01_f, b01_ok, bool_ft, vp_b01, vp_b0, vp_b1, b01_eq0, b01_eq1, implies_true, nI_add, nI_clamp, zi_in, zi_le_t, zi_le_f, zi_lt_t, zi_lt_f, zi_eq_t, zi_eq_f, nI_leI, nI_ltI, nI_eq, z_in, pk_mul, zu_same, zu_rw, zu_ix, zi_ne0, zi_sub, zi_m1, Nat.add_sub_cancel, Nat.reduceMul, Nat.reduceSub]
      rw [← hkk] at hVQ ⊢
      refine sX10_tellOne_372 _ _ _ _ _ ?_
      simp (disch := omega) only [oAld, oCV, oGI, oIf, oRV, hM.1, h13, List.getElem?_cons_zero, List.getElem?_cons_succ, List.set_cons_zero, List.set_cons_succ, List.drop_succ_cons, List.drop_zero, List.take_succ_cons, List.take_zero, List.length_cons, List.length_nil, List.reverse_cons, List.reverse_nil, List.nil_append, List.cons_append, Option.toList_some, Option.toList_none, va_rf_s, true_and, and_true, true_implies, false_implies, not_true_eq_false, not_false_eq_true, Nat.reduceAdd, Nat.reduceLeDiff, Nat.le_add_left, Nat.zero_le, Nat.le_refl, znew, true_or, or_true, b01_t, b01_f, b01_ok, bool_ft, vp_b01, vp_b0, vp_b1, b01_eq0, b01_eq1, implies_true, nI_add, nI_clamp, zi_in, zi_le_t, zi_le_f, zi_lt_t, zi_lt_f, zi_eq_t, zi_eq_f, nI_leI, nI_ltI, nI_eq, z_in, pk_mul, zu_same, zu_rw, zu_ix, zi_ne0, zi_sub, zi_m1, Nat.add_sub_cancel, Nat.reduceMul, Nat.reduceSub]
      refine zC.of0 (zX10_goesOn hM hA hC (fun q' e => by cases e; omega)) (by omega) (Nat.zero_le _) (Nat.zero_le _) ?_
      rintro _ _ ⟨rfl, S1, rfl, hf1, hC1⟩
      rw [pB_ok] at hC1
      have hL1 := hL.fr hf1 rfl rfl rfl
      refine sX10_tellOne_384 _ _ _ _ _ ?_
      simp (disch := omega) only [oAld, oCV, oIld, hM.1, List.getElem?_cons_zero, List.getElem?_cons_succ, List.set_cons_zero, List.set_cons_succ, List.drop_succ_cons, List.drop_zero, List.take_succ_cons, List.take_zero, List.length_cons, List.length_nil, List.reverse_cons, List.reverse_nil, List.nil_append, List.cons_append, Option.toList_some, Option.toList_none, va_rf_s, true_and, and_true, true_implies, false_implies, not_true_eq_false, not_false_eq_true, Nat.reduceAdd, Nat.reduceLeDiff, Nat.le_add_left, Nat.zero_le, Nat.le_refl, znew, true_or, or_true, b01_t, b01_f, b01_ok, bool_ft, vp_b01, vp_b0, vp_b1, b01_eq0, b01_eq1, implies_true, nI_add, nI_clamp, zi_in, zi_le_t, zi_le_f, zi_lt_t, zi_lt_f, zi_eq_t, zi_eq_f, nI_leI, nI_ltI, nI_eq, z_in, pk_mul, zu_same, zu_rw, zu_ix, zi_ne0, zi_sub, zi_m1, Nat.add_sub_cancel, Nat.reduceMul, Nat.reduceSub]
      cases hg : pGo A q with
      | error e =>
        rw [hg] at hC1 hVQ
        refine zC.of0 (zX10_tellLawE hM hA hsd hC1 hL1.1 hL1.2.1 (by omega) (by omega)) (by omega) (Nat.zero_le _) (Nat.zero_le _) ?_
        rintro _ _ ⟨rfl, S2, rfl, hF2, hC2⟩
        refine sX10_tellOne_389 _ _ _ _ _ ?_
        simp (disch := omega) only [oRV, List.getElem?_cons_zero, List.getElem?_cons_succ, List.set_cons_zero, List.set_cons_succ, List.drop_succ_cons, List.drop_zero, List.take_succ_cons, List.take_zero, List.length_cons, List.length_nil, List.reverse_cons, List.reverse_nil, List.nil_append, List.cons_append, Option.toList_some, Option.toList_none, va_rf_s, true_and, and_true, true_implies, false_implies, not_true_eq_false, not_false_eq_true, Nat.reduceAdd, Nat.reduceLeDiff, Nat.le_add_left, Nat.zero_le, Nat.le_refl, znew, true_or, or_true, b01_t, b01_f, b01_ok, bool_ft, vp_b01, vp_b0, vp_b1, b01_eq0, b01_eq1, implies_true, nI_add, nI_clamp, zi_in, zi_le_t, zi_le_f, zi_lt_t, zi_lt_f, zi_eq_t, zi_eq_f, nI_leI, nI_ltI, nI_eq, z_in, pk_mul, zu_same, zu_rw, zu_ix, zi_ne0, zi_sub, zi_m1, Nat.add_sub_cancel, Nat.reduceMul, Nat.reduceSub]
        exact hVQ _ _ ⟨rfl, S2, L, rfl, (mF.of hf1 rfl rfl).tr hF2, fun _ _ => rfl, hC2, fun x' q' e => by cases e⟩
      | ok q1 =>
        rw [hg] at hC1 hVQ
        rw [pB_ok] at hVQ
        have e1 : q1.1 = q.1 + 1 := by rw [(pGo_inv hg).1]
        refine zC.of0 (zX10_tellLaw hM hA hsd hC1 (by rw [hf1.f rfl]; exact h19) hL1 (by rw [hf1.f rfl]; exact h12) (by omega) (by omega) (by omega)) (by omega) (Nat.zero_le _) (Nat.zero_le _) ?_
        rintro _ _ ⟨rfl, S2, rfl, hF2, hf2, hC2, hok⟩
        refine sX10_tellOne_389 _ _ _ _ _ ?_
        simp (disch := omega) only [oRV, List.getElem?_cons_zero, List.getElem?_cons_succ, List.set_cons_zero, List.set_cons_succ, List.drop_succ_cons, List.drop_zero, List.take_succ_cons, List.take_zero, List.length_cons, List.length_nil, List.reverse_cons, List.reverse_nil, List.nil_append, List.cons_append, Option.toList_some, Option.toList_none, va_rf_s, true_and, and_true, true_implies, false_implies, not_true_eq_false, not_false_eq_true, Nat.reduceAdd, Nat.reduceLeDiff, Nat.le_add_left, Nat.zero_le, Nat.le_refl, znew, true_or, or_true, b01_t, b01_f, b01_ok, bool_ft, vp_b01, vp_b0, vp_b1, b01_eq0, b01_eq1, implies_true, nI_add, nI_clamp, zi_in, zi_le_t, zi_le_f, zi_lt_t, zi_lt_f, zi_eq_t, zi_eq_f, nI_leI, nI_ltI, nI_eq, z_in, pk_mul, zu_same, zu_rw, zu_ix, zi_ne0, zi_sub, zi_m1, Nat.add_sub_cancel, Nat.reduceMul, Nat.reduceSub]
        refine hVQ _ _ ⟨rfl, S2, L, rfl, (mF.of hf1 rfl rfl).tr hF2, fun _ _ => rfl, hC2, fun x' q' e => ?_⟩
        obtain ⟨h12', nb', nc', hL', hnb', hnc'⟩ := hok x' q' e
        rw [e] at hC2
        have hB2 : mB b S2 L sd x := (hB.fr hf1 rfl rfl rfl).fr hf2 rfl rfl rfl
        have hB3 : mB b S2 L sd x' := by
          obtain ⟨r1, h1, e⟩ := pB_inv e
          obtain ⟨q2, h2, e⟩ := pB_inv e
          cases e
          exact hB2
        exact ⟨hC2, hB3, h12', nb', nc', hL', hnb', hnc'⟩
theorem zX10_tellOne (hM : isM h b) (hA : tkW A) {q : zCu} (hP : mPx b S L A sd (x, q)) (hk0 : tkK A q.1 ≠ 0) :
    zM l E 6 YX10_tellOne [.ref b] (z, h, S, L) 0 0 (tOut b z h S L A sd (pStm A (x, q))) (fun _ _ => False) := by
  have hC : mC b S L A (.ok q) := hP.1
  have hq4 : q.1 ≤ 400 := hC.2.2.2.1
  have hal : q.1 < A.length := hC.2.2.2.2.1
  have h11 := hC.2.2.1
  have e3 := (hC.tok hal hq4).1
  have hk100 := (hA.2.2 q.1).1
  have key : ∀ {j}, j < 100 → nI (tkK A q.1) = nI j → tkK A q.1 = j := fun hj e => (nI_eq (by omega) (by omega)).mp e
  refine zM.go rfl rfl (Nat.le_of_ble_eq_true rfl) (ls := [some (.ref b), none]) rfl ?_
  intro V hVl hVE hVd hVc hVs hVQ hVX
  refine sX10_tellOne_0 _ _ _ _ _ ?_
  simp (disch := omega) only [oAld, oAld1, oGI, oGR, hM.1, hM.r5, hM.t5, hM.n5, h11, e3, List.getElem?_cons_zero, List.getElem?_cons_succ, List.set_cons_zero, List.set_cons_succ, List.drop_succ_cons, List.drop_zero, List.take_succ_cons, List.take_zero, List.length_cons, List.length_nil, List.reverse_cons, List.reverse_nil, List.nil_append, List.cons_append, Option.toList_some, Option.toList_none, va_rf_s, true_and, and_true, true_implies, false_implies, not_true_eq_false, not_false_eq_true, Nat.reduceAdd, Nat.reduceLeDiff, Nat.le_add_left, Nat.zero_le, Nat.le_refl, znew, true_or, or_true, b01_t, b01_f, b01_ok, bool_ft, vp_b01, vp_b0, vp_b1, b01_eq0, b01_eq1, implies_true, nI_add, nI_clamp, zi_in, zi_le_t, zi_le_f, zi_lt_t, zi_lt_f, zi_eq_t, zi_eq_f, nI_leI, nI_ltI, nI_eq, z_in, pk_mul, zu_same, zu_rw, zu_ix, zi_ne0, zi_sub, zi_m1, Nat.add_sub_cancel, Nat.reduceMul, Nat.reduceSub]
  refine zsw20 ?_ ?_ ?_ ?_ ?_ ?_ ?_ ?_ ?_ ?_ ?_ ?_
  · intro e; exact to_corner hVl hVE hVd hM hA hP (key (by omega) e) hVQ
  · intro e; exact to_street hVl hVE hVd hM hA hP (key (by omega) e) hVQ
  · intro e; exact to_young hVl hVE hVd hM hA hP (key (by omega) e) hVQ
  · intro e; exact to_word hVl hVE hVd hM hA hP (key (by omega) e) hVQ
  · intro e; exact to_light hVl hVE hVd hM hA hP (key (by omega) e) hVQ
  · intro e; have e := key (by omega) e; exact to_law hVl hVE hVd hM hA hP (fun j _ _ => by omega) (by omega) (by omega) hk0 hVQ
  · intro e; have e := key (by omega) e; exact to_law hVl hVE hVd hM hA hP (fun j _ _ => by omega) (by omega) (by omega) hk0 hVQ
  · intro e; have e := key (by omega) e; exact to_law hVl hVE hVd hM hA hP (fun j _ _ => by omega) (by omega) (by omega) hk0 hVQ
  · intro e; have e := key (by omega) e; exact to_law hVl hVE hVd hM hA hP (fun j _ _ => by omega) (by omega) (by omega) hk0 hVQ
  · intro e; exact to_draught hVl hVE hVd hM hA hP (key (by omega) e) hVQ
  · intro e; exact to_seed hVl hVE hVd hM hA hP (key (by omega) e) hVQ
  · intro hd
    have ne : ∀ j, 20 ≤ j → j < 31 → tkK A q.1 ≠ j := fun j h1 h2 e => hd j h1 h2 (by rw [e])
    exact to_law hVl hVE hVd hM hA hP (fun j h1 h2 => ne j h1 (by omega)) (ne 29 (by omega) (by omega)) (ne 30 (by omega) (by omega)) hk0 hVQ
end NI
