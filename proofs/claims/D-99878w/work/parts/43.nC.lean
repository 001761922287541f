/-! reading: young ones -/
section NC
variable {l : Launch} {E : zE} {b z : Nat} {h : Nat → Option zSh} {S : Nat → Nat → Int32} {L : Nat → Nat → Int64} {A : List zTk} {sd : Nat} {x : zTx}
theorem mC.rL {st : zPR zCu} {L' : Nat → Nat → Int64} (hC : mC b S L A st) (hL : ∀ a, a ≠ b + 8 → L' a = L a) : mC b S L' A st := hC.frL (D := []) (F := []) zfr.rf rfl rfl hL
theorem ixK_10 {N : List (List Nat × Nat)} {w v : List Nat} : ixK (N ++ [(v, 10)]) w (N ++ [(v, 10)]).length = ixK N w N.length := by
  rw [ixK_snoc]
  cases ixK N w N.length with
  | some c => rfl
  | none => simp
theorem zX10_tellYoung (hM : isM h b) (hA : tkW A) {q : zCu} (hC : mC b S L A (.ok q)) (hB : mB b S L sd x) (hl : (xY x).length < 6) :
    zM l E 4 YX10_tellYoung [.ref b] (z, h, S, L) 0 0 (fun r X => r = none ∧ ∃ S' L', X = (z, h, S', L') ∧ mF b sd S S' ∧ zfr [9, 15, 16, 17, 18] [11, 13, 14, 15, 16, 20] b S S' ∧ (∀ a, a ≠ b + 8 → L' a = L a) ∧ mC b S' L' A (pV (pYou A x q)) ∧ ∀ x' q', pYou A x q = .ok (x', q') → mB b S' L' sd x') (fun _ _ => False) := by
  obtain ⟨⟨⟨h19, hsd⟩, ⟨h10, hc7⟩, ⟨h11, hs10⟩, ⟨h15, hy6⟩, ⟨h19w, hw5⟩⟩, hSS, hYY, hWW, hGG, N, hN, hNl, hNh, hNk⟩ := id hB
  refine zM.go rfl rfl (Nat.le_of_ble_eq_true rfl) (ls := [some (.ref b), none, none]) rfl ?_
  intro V hVl hVE hVd hVc hVs hVQ hVX
  obtain ⟨k, hk⟩ : ∃ k, k = 6 * sd + (xY x).length := ⟨_, rfl⟩
  have hwd : wd 15 = 1 ∧ wd 16 = 6 ∧ wd 17 = 6 ∧ wd 18 = 6 := by decide
  have hal : q.1 < A.length := hC.2.2.2.2.1
  refine sX10_tellYoung_0 _ _ _ _ _ ?_
  simp (disch := omega) only [oAld, oAld1, oBin, oCV, oGI, oGR, oIst, oPush, hM.1, hM.r28, hM.t28, hM.n28, h19, h15, List.getElem?_cons_zero, List.getElem?_cons_succ, List.set_cons_zero, List.set_cons_succ, List.drop_succ_cons, List.drop_zero, List.take_succ_cons, List.take_zero, List.length_cons, List.length_nil, List.reverse_cons, List.reverse_nil, List.nil_append, List.cons_append, Option.toList_some, Option.toList_none, va_rf_s, true_and, and_true, true_implies, false_implies, not_true_eq_false, not_false_eq_true, Nat.reduceAdd, Nat.reduceLeDiff, Nat.le_add_left, Nat.zero_le, Nat.le_refl, znew, true_or, or_true, b01_t, b01_f, b01_ok, bool_ft, vp_b01, vp_b0, vp_b1, b01_eq0, b01_eq1, implies_true, nI_add, nI_clamp, zi_in, zi_le_t, zi_le_f, zi_lt_t, zi_lt_f, zi_eq_t, zi_eq_f, nI_leI, nI_ltI, nI_eq, z_in, pk_mul, zu_same, zu_rw, zu_ix, zi_ne0, zi_sub, zi_m1, Nat.add_sub_cancel, Nat.reduceMul, Nat.reduceSub]
  rw [← hk]
  refine zC.of0 (zX10_named hM hA hC hN hNh) (by omega) (Nat.zero_le _) (Nat.zero_le _) ?_
  rintro _ _ ⟨S1, t1, rfl, ht4, htq, rfl, hf1, hC1⟩
  obtain rfl : t1 = q.1 := htq q rfl
  rw [pB_ok] at hC1
  refine sX10_tellYoung_22 _ _ _ _ _ ?_
  simp (disch := omega) only [oAld, oCV, oGR, oIld, oIst, oPush, hM.1, hM.r29, hM.t29, hM.n29, List.getElem?_cons_zero, List.getElem?_cons_succ, List.set_cons_zero, List.set_cons_succ, List.drop_succ_cons, List.drop_zero, List.take_succ_cons, List.take_zero, List.length_cons, List.length_nil, List.reverse_cons, List.reverse_nil, List.nil_append, List.cons_append, Option.toList_some, Option.toList_none, va_rf_s, true_and, and_true, true_implies, false_implies, not_true_eq_false, not_false_eq_true, Nat.reduceAdd, Nat.reduceLeDiff, Nat.le_add_left, Nat.zero_le, Nat.le_refl, znew, true_or, or_true, b01_t, b01_f, b01_ok, bool_ft, vp_b01, vp_b0, vp_b1, b01_eq0, b01_eq1, implies_true, nI_add, nI_clamp, zi_in, zi_le_t, zi_le_f, zi_lt_t, zi_lt_f, zi_eq_t, zi_eq_f, nI_leI, nI_ltI, nI_eq, z_in, pk_mul, zu_same, zu_rw, zu_ix, zi_ne0, zi_sub, zi_m1, Nat.add_sub_cancel, Nat.reduceMul, Nat.reduceSub]
  refine zC.of0 (zX10_bounded hM hA hC1 (by omega) (by omega)) (by omega) (Nat.zero_le _) (Nat.zero_le _) ?_
  rintro _ _ ⟨S2, v1, rfl, rfl, hf2, hC2, hv1⟩
  refine sX10_tellYoung_36 _ _ _ _ _ ?_
  simp (disch := omega) only [oAld, oAst1, oCV, oGR, oIld, oPush, hM.1, hM.r30, hM.t30, hM.n30, hM.t29, hM.n29, List.getElem?_cons_zero, List.getElem?_cons_succ, List.set_cons_zero, List.set_cons_succ, List.drop_succ_cons, List.drop_zero, List.take_succ_cons, List.take_zero, List.length_cons, List.length_nil, List.reverse_cons, List.reverse_nil, List.nil_append, List.cons_append, Option.toList_some, Option.toList_none, va_rf_s, true_and, and_true, true_implies, false_implies, not_true_eq_false, not_false_eq_true, Nat.reduceAdd, Nat.reduceLeDiff, Nat.le_add_left, Nat.zero_le, Nat.le_refl, znew, true_or, or_true, b01_t, b01_f, b01_ok, bool_ft, vp_b01, vp_b0, vp_b1, b01_eq0, b01_eq1, implies_true, nI_add, nI_clamp, zi_in, zi_le_t, zi_le_f, zi_lt_t, zi_lt_f, zi_eq_t, zi_eq_f, nI_leI, nI_ltI, nI_eq, z_in, pk_mul, zu_same, zu_rw, zu_ix, zi_ne0, zi_sub, zi_m1, Nat.add_sub_cancel, Nat.reduceMul, Nat.reduceSub]
  have hC2' := hC2.row (o := 16) (k := k) (v := v1) (by omega)
  refine zC.of0 (zX10_bounded hM hA hC2' (by omega) (by omega)) (by omega) (Nat.zero_le _) (Nat.zero_le _) ?_
  rintro _ _ ⟨S3, v2, rfl, rfl, hf3, hC3, hv2⟩
  refine sX10_tellYoung_49 _ _ _ _ _ ?_
  simp (disch := omega) only [oAld, oAst1, oCV, oGR, oIld, hM.1, hM.r31, hM.t31, hM.n31, hM.t30, hM.n30, List.getElem?_cons_zero, List.getElem?_cons_succ, List.set_cons_zero, List.set_cons_succ, List.drop_succ_cons, List.drop_zero, List.take_succ_cons, List.take_zero, List.length_cons, List.length_nil, List.reverse_cons, List.reverse_nil, List.nil_append, List.cons_append, Option.toList_some, Option.toList_none, va_rf_s, true_and, and_true, true_implies, false_implies, not_true_eq_false, not_false_eq_true, Nat.reduceAdd, Nat.reduceLeDiff, Nat.le_add_left, Nat.zero_le, Nat.le_refl, znew, true_or, or_true, b01_t, b01_f, b01_ok, bool_ft, vp_b01, vp_b0, vp_b1, b01_eq0, b01_eq1, implies_true, nI_add, nI_clamp, zi_in, zi_le_t, zi_le_f, zi_lt_t, zi_lt_f, zi_eq_t, zi_eq_f, nI_leI, nI_ltI, nI_eq, z_in, pk_mul, zu_same, zu_rw, zu_ix, zi_ne0, zi_sub, zi_m1, Nat.add_sub_cancel, Nat.reduceMul, Nat.reduceSub]
  have hC3' := hC3.row (o := 17) (k := k) (v := v2) (by omega)
  have hN3 : mNm b (zu S3 (b + 17) k v2) L N := ((((hN.fr hf1 rfl rfl).fr hf2 rfl rfl).row (o := 16) (k := k) (v := v1) (by omega)).fr hf3 rfl rfl).row (by omega)
  refine zC.of0 (zX10_known hM hA hC3' hN3 hNk) (by omega) (Nat.zero_le _) (Nat.zero_le _) ?_
  rintro _ _ ⟨S4, v3, rfl, rfl, hf4, hC4, hv3⟩
  refine sX10_tellYoung_59 _ _ _ _ _ ?_
  simp (disch := omega) only [oAld, oAst1, oCV, oIld, oPush, hM.1, hM.t31, hM.n31, List.getElem?_cons_zero, List.getElem?_cons_succ, List.set_cons_zero, List.set_cons_succ, List.drop_succ_cons, List.drop_zero, List.take_succ_cons, List.take_zero, List.length_cons, List.length_nil, List.reverse_cons, List.reverse_nil, List.nil_append, List.cons_append, Option.toList_some, Option.toList_none, va_rf_s, true_and, and_true, true_implies, false_implies, not_true_eq_false, not_false_eq_true, Nat.reduceAdd, Nat.reduceLeDiff, Nat.le_add_left, Nat.zero_le, Nat.le_refl, znew, true_or, or_true, b01_t, b01_f, b01_ok, bool_ft, vp_b01, vp_b0, vp_b1, b01_eq0, b01_eq1, implies_true, nI_add, nI_clamp, zi_in, zi_le_t, zi_le_f, zi_lt_t, zi_lt_f, zi_eq_t, zi_eq_f, nI_leI, nI_ltI, nI_eq, z_in, pk_mul, zu_same, zu_rw, zu_ix, zi_ne0, zi_sub, zi_m1, Nat.add_sub_cancel, Nat.reduceMul, Nat.reduceSub]
  have hC4' := hC4.row (o := 18) (k := k) (v := v3) (by omega)
  have hN4 : mNm b (zu S4 (b + 18) k v3) L N := (hN3.fr hf4 rfl rfl).row (by omega)
  refine zC.of0 (zX10_endsName hM hA hC4' hN4 (by omega) ht4 (fun _ _ => hal) (by omega)) (by omega) (Nat.zero_le _) (Nat.zero_le _) ?_
  rintro _ _ ⟨rfl, S5, L5, rfl, hf5, hL5, hC5, hN5⟩
  have hF5 : mF b sd S S5 := (((((((mF.of hf1 rfl rfl).go hf2 rfl rfl).row hsd 6 rfl (by decide) (by omega) (by omega)).go hf3 rfl rfl).row hsd 6 rfl (by decide) (by omega) (by omega)).go hf4 rfl rfl).row hsd 6 rfl (by decide) (by omega) (by omega)).go hf5 rfl rfl
  have hfa : zfr [16] [11, 13, 14, 15, 16] b S (zu S2 (b + 16) k v1) := (hf1.tr hf2 rfl rfl rfl rfl (D2 := [16]) (F2 := [11, 13, 14, 15, 16])).row (by decide) (by decide)
  have hfb : zfr [16, 17] [11, 13, 14, 15, 16] b S (zu S3 (b + 17) k v2) := (hfa.tr hf3 rfl rfl rfl rfl (D2 := [16, 17]) (F2 := [11, 13, 14, 15, 16])).row (by decide) (by decide)
  have hfc : zfr [16, 17, 18] [11, 13, 14, 15, 16] b S (zu S4 (b + 18) k v3) := (hfb.tr hf4 rfl rfl rfl rfl (D2 := [16, 17, 18]) (F2 := [11, 13, 14, 15, 16])).row (by decide) (by decide)
  have hfd : zfr [9, 15, 16, 17, 18] [11, 13, 14, 15, 16, 20] b S S5 := hfc.tr hf5 rfl rfl rfl rfl
  have hfin : pV (pYou A x q) = pB (pV (pB (pV (pB (pV (pB (pName A (xHas x) q) (pNum A 10 40))) (pNum A 0 9))) (pKn A (xKn x)))) (pMust A 4) := by
    unfold pYou
    cases pName A (xHas x) q with
    | error e => rfl
    | ok q2 =>
      rw [pB_ok, pB_ok]
      cases pNum A 10 40 q2 with
      | error e => rfl
      | ok r3 =>
        rw [pB_ok, show pV (Except.ok r3) = .ok r3.2 from rfl, pB_ok]
        cases pNum A 0 9 r3.2 with
        | error e => rfl
        | ok r4 =>
          rw [pB_ok, show pV (Except.ok r4) = .ok r4.2 from rfl, pB_ok]
          cases pKn A (xKn x) r4.2 with
          | error e => rfl
          | ok r5 =>
            rw [pB_ok, show pV (Except.ok r5) = .ok r5.2 from rfl, pB_ok]
            cases pMust A 4 r5.2 <;> rfl
  rw [← hfin] at hC5 hN5
  cases hr : pYou A x q with
  | error e =>
    rw [hr] at hC5 hVQ
    obtain ⟨n, h13, hn, hn5⟩ := mC.bad (e := e) hC5
    refine sX10_tellYoung_67 _ _ _ _ _ ?_
    simp (disch := omega) only [oAld, oAld1, oAst1, oBin, oDup2, oGI, oGR, oIf, oPush, oRV, hM.1, hM.r28, hM.t28, hM.n28, h13, List.getElem?_cons_zero, List.getElem?_cons_succ, List.set_cons_zero, List.set_cons_succ, List.drop_succ_cons, List.drop_zero, List.take_succ_cons, List.take_zero, List.length_cons, List.length_nil, List.reverse_cons, List.reverse_nil, List.nil_append, List.cons_append, Option.toList_some, Option.toList_none, va_rf_s, true_and, and_true, true_implies, false_implies, not_true_eq_false, not_false_eq_true, Nat.reduceAdd, Nat.reduceLeDiff, Nat.le_add_left, Nat.zero_le, Nat.le_refl, znew, true_or, or_true, b01_t, b01_f, b01_ok, bool_ft, vp_b01, vp_b0, vp_b1, b01_eq0, b01_eq1, implies_true, nI_add, nI_clamp, zi_in, zi_le_t, zi_le_f, zi_lt_t, zi_lt_f, zi_eq_t, zi_eq_f, nI_leI, nI_ltI, nI_eq, z_in, pk_mul, zu_same, zu_rw, zu_ix, zi_ne0, zi_sub, zi_m1, Nat.add_sub_cancel, Nat.reduceMul, Nat.reduceSub]
    exact hVQ _ _ ⟨rfl, S5, L5, rfl, hF5, hfd, hL5, hC5, fun x' q' e => by cases e⟩
  | ok r =>
    obtain ⟨x', q'⟩ := r
    rw [hr] at hC5 hVQ hN5
    have hN5' := hN5 q' rfl
    obtain ⟨q2, hp1, hr⟩ := pB_inv hr
    obtain ⟨⟨n3, q3⟩, hp2, hr⟩ := pB_inv hr
    obtain ⟨⟨n4, q4⟩, hp3, hr⟩ := pB_inv hr
    obtain ⟨⟨c5, q5⟩, hp4, hr⟩ := pB_inv hr
    obtain ⟨q6, hp5, hr⟩ := pB_inv hr
    cases hr
    have hv1' : v1 = nI n3 := hv1 n3 q3 (by rw [hp1]; exact hp2)
    have hv2' : v2 = nI n4 := hv2 n4 q4 (by rw [hp1, pB_ok, hp2]; exact hp3)
    have hv3' : v3 = oM c5 := hv3 c5 q5 (by rw [hp1, pB_ok, hp2, show pV (Except.ok (n3, q3)) = .ok q3 from rfl, pB_ok, hp3]; exact hp4)
    have h13 := mC.good (q := q') hC5
    have h19' : S5 b 19 = nI sd := by rw [hfd.f rfl]; exact h19
    have h15' : S5 (b + 15) sd = nI (xY x).length := by rw [hf5.at (o := 15) rfl rfl, hfc.at (o := 15) rfl rfl]; exact h15
    have e16 : ∀ j, S5 (b + 16) j = if j = k then nI n3 else S (b + 16) j := fun j => by rw [hf5.at (o := 16) rfl rfl, zu_rw _ _ (by omega), hf4.at (o := 16) rfl rfl, zu_rw _ _ (by omega), hf3.at (o := 16) rfl rfl, zu_rowj, hf2.at (o := 16) rfl rfl, hf1.at (o := 16) rfl rfl, hv1']
    have e17 : ∀ j, S5 (b + 17) j = if j = k then nI n4 else S (b + 17) j := fun j => by rw [hf5.at (o := 17) rfl rfl, zu_rw _ _ (by omega), hf4.at (o := 17) rfl rfl, zu_rowj, hf3.at (o := 17) rfl rfl, hfa.at (o := 17) rfl rfl, hv2']
    have e18 : ∀ j, S5 (b + 18) j = if j = k then oM c5 else S (b + 18) j := fun j => by rw [hf5.at (o := 18) rfl rfl, zu_rowj, hf4.at (o := 18) rfl rfl, hfb.at (o := 18) rfl rfl, hv3']
    refine sX10_tellYoung_67 _ _ _ _ _ ?_
    simp (disch := omega) only [oAld, oAld1, oAst1, oBin, oDup2, oGI, oGR, oIf, oPush, oRV, hM.1, hM.r28, hM.t28, hM.n28, h13, h19', h15', List.getElem?_cons_zero, List.getElem?_cons_succ, List.set_cons_zero, List.set_cons_succ, List.drop_succ_cons, List.drop_zero, List.take_succ_cons, List.take_zero, List.length_cons, List.length_nil, List.reverse_cons, List.reverse_nil, List.nil_append, List.cons_append, Option.toList_some, Option.toList_none, va_rf_s, true_and, and_true, true_implies, false_implies, not_true_eq_false, not_false_eq_true, Nat.reduceAdd, Nat.reduceLeDiff, Nat.le_add_left, Nat.zero_le, Nat.le_refl, znew, true_or, or_true, b01_t, b01_f, b01_ok, bool_ft, vp_b01, vp_b0, vp_b1, b01_eq0, b01_eq1, implies_true, nI_add, nI_clamp, zi_in, zi_le_t, zi_le_f, zi_lt_t, zi_lt_f, zi_eq_t, zi_eq_f, nI_leI, nI_ltI, nI_eq, z_in, pk_mul, zu_same, zu_rw, zu_ix, zi_ne0, zi_sub, zi_m1, Nat.add_sub_cancel, Nat.reduceMul, Nat.reduceSub]
    have hff : zfr [15] [] b S5 (zu S5 (b + 15) sd (nI ((xY x).length + 1))) := zfr.rf.row (by decide) (by decide)
    have hfall : zfr [9, 15, 16, 17, 18] [11, 13, 14, 15, 16, 20] b S (zu S5 (b + 15) sd (nI ((xY x).length + 1))) := hfd.row (by decide) (by decide)
    refine hVQ _ _ ⟨rfl, _, L5, rfl, hF5.row hsd 1 rfl (by decide) (by omega) (by omega), hfall, hL5, mC.row (st := .ok q') hC5 (by omega), fun x' q' e => ?_⟩
    cases e
    refine ⟨⟨⟨by rw [hfall.f rfl]; exact h19, hsd⟩, ⟨by rw [hfall.at (o := 10) rfl rfl]; exact h10, hc7⟩, ⟨by rw [hfall.at (o := 11) rfl rfl]; exact h11, hs10⟩, ⟨by rw [zu_same]; show nI ((xY x).length + 1) = nI (xY x ++ [_]).length; rw [List.length_append]; rfl, by show (xY x ++ [_]).length ≤ 6; rw [List.length_append]; simp; omega⟩, ⟨by rw [hfall.at (o := 19) rfl rfl]; exact h19w, hw5⟩⟩, ?_, ?_, ?_, ?_, N ++ [(tkN A q.1, 10)], hN5'.fr hff rfl rfl, ?_, ?_, ?_⟩
    · intro s hs
      rw [hfall.at (o := 12) rfl rfl, hfall.at (o := 13) rfl rfl, hfall.at (o := 14) rfl rfl]; exact hSS s hs
    · intro y hy
      have hy' : y < (xY x).length + 1 := by
        have : y < (xY x ++ [(tkN A q.1, n3, n4, oM c5)]).length := hy
        rw [List.length_append] at this; exact this
      rw [hff.at (o := 16) rfl rfl, hff.at (o := 17) rfl rfl, hff.at (o := 18) rfl rfl, e16, e17, e18]
      show _ = nI ((xY x ++ [(tkN A q.1, n3, n4, oM c5)]).getD y y0).2.1 ∧ _ = nI ((xY x ++ [(tkN A q.1, n3, n4, oM c5)]).getD y y0).2.2.1 ∧ _ = ((xY x ++ [(tkN A q.1, n3, n4, oM c5)]).getD y y0).2.2.2
      rw [getD_snY]
      by_cases he : y = (xY x).length
      · have e1 : 6 * sd + y = k := by omega
        rw [if_pos e1, if_pos e1, if_pos e1, if_pos he]; exact ⟨rfl, rfl, rfl⟩
      · have e1 : ¬ 6 * sd + y = k := by omega
        have e2 : y < (xY x).length := by omega
        rw [if_neg e1, if_neg e1, if_neg e1, if_neg he, if_pos e2]; exact hYY y (by omega)
    · intro w hw
      rw [hfall.at (o := 20) rfl rfl]; exact hWW w hw
    · rw [hfall.at (o := 21) rfl rfl, hfall.at (o := 22) rfl rfl, hfall.at (o := 23) rfl rfl]; exact hGG
    · rw [List.length_append, hNl]; show _ = (xC x).length + (xY x ++ [_]).length + (xW x).length; rw [List.length_append]; simp; omega
    · intro w; rw [hasN_snoc, hNh, xHas_Y]
    · intro w; rw [ixK_10, hNk]; rfl
end NC
