/-! reading: one thing told -/
section NG
variable {l : Launch} {E : zE} {b z : Nat} {h : Nat → Option zSh} {S : Nat → Nat → Int32} {L : Nat → Nat → Int64} {A : List zTk} {sd : Nat} {x : zTx}
theorem pOpen_ok {n m : Nat} {q q1 : zCu} (h : pOpen A n m q = .ok q1) : n ≠ m ∧ q1 = (q.1 + 1, q.2) := by
  unfold pOpen at h
  split at h
  · cases h
  · rename_i hn; exact ⟨hn, (pGo_inv h).1⟩
theorem pNum_inv {lo hi n : Nat} {q q' : zCu} (h : pNum A lo hi q = .ok (n, q')) : q'.1 = q.1 + 1 ∧ n = tkV A q.1 ∧ tkK A q.1 = 2 ∧ ¬ q.1 = 400 := by
  unfold pNum at h
  split at h
  · rename_i hk
    obtain ⟨q7, hg, he⟩ := pB_inv h
    obtain ⟨hq7, h4⟩ := pGo_inv hg
    cases he
    exact ⟨by rw [hq7], rfl, hk, h4⟩
  · cases h
theorem mB.cnt (h : mB b S L sd x) : (S b 19 = nI sd ∧ sd < 2) ∧ (S (b + 10) sd = nI (xC x).length ∧ (xC x).length ≤ 7) ∧ (S (b + 11) sd = nI (xS x).length ∧ (xS x).length ≤ 10) ∧ (S (b + 15) sd = nI (xY x).length ∧ (xY x).length ≤ 6) ∧ (S (b + 19) sd = nI (xW x).length ∧ (xW x).length ≤ 5) := h.1
/-- a deed that tells: what is owed at its end -/
def tOut (b z : Nat) (h : Nat → Option zSh) (S : Nat → Nat → Int32) (L : Nat → Nat → Int64) (A : List zTk) (sd : Nat) (res : zPR zPX) (r : Option Value) (X : zX) : Prop := r = none ∧ ∃ S' L', X = (z, h, S', L') ∧ mF b sd S S' ∧ (∀ a, a ≠ b + 8 → L' a = L a) ∧ mC b S' L' A (pV res) ∧ ∀ x' q', res = .ok (x', q') → mPx b S' L' A sd (x', q')
theorem to_corner {V : zV} (hVl : V.1 = l) (hVE : V.2.1 = E) (hVd : V.2.2.1 = 6) (hM : isM h b) (hA : tkW A) {q : zCu} (hP : mPx b S L A sd (x, q)) (hk : tkK A q.1 = 20) (hVQ : ∀ r X, tOut b z h S L A sd (pStm A (x, q)) r X → V.2.2.2.2.2.1 r X) :
    zW V YX10_tellOne 68 [some (.ref b), none] [] (z, h, S, L) 0 0 := by
  obtain ⟨hC, hB, h12, nb, nc, hL, hnb, hnc⟩ := id hP
  have hB : mB b S L sd x := hB
  have hL : mLw b S sd x nb nc := hL
  have hnb : 4 * nb ≤ q.1 := hnb
  have hnc : nc ≤ q.1 := hnc
  have hC : mC b S L A (.ok q) := hC
  obtain ⟨⟨⟨h19, hsd⟩, ⟨h10, hc7⟩, ⟨h11, hs10⟩, ⟨h15, hy6⟩, ⟨h19w, hw5⟩⟩, hSS, hYY, hWW, hGG, N, hN, hNl, hNh, hNk⟩ := id hB
  have e0 : pStm A (x, q) = pB (pOpen A (xC x).length 7 q) (pCor A x) := if_pos hk
  rw [e0] at hVQ
  have hq0 : tkK A q.1 ≠ 0 := by omega
  have hc7' : (xC x).length ≤ 7 := hc7
  refine sX10_tellOne_68 _ _ _ _ _ ?_
  simp (disch := omega) only [oAld, oAld1, oCV, oGI, oGR, oPush, hM.1, hM.r23, hM.t23, hM.n23, h19, h10, List.getElem?_cons_zero, List.getElem?_cons_succ, List.set_cons_zero, List.set_cons_succ, List.drop_succ_cons, List.drop_zero, List.take_succ_cons, List.take_zero, List.length_cons, List.length_nil, List.reverse_cons, List.reverse_nil, List.nil_append, List.cons_append, Option.toList_some, Option.toList_none, va_rf_s, true_and, and_true, true_implies, false_implies, not_true_eq_false, not_false_eq_true, Nat.reduceAdd, Nat.reduceLeDiff, Nat.le_add_left, Nat.zero_le, Nat.le_refl, znew, true_or, or_true, b01_t, b01_f, b01_ok, bool_ft, vp_b01, vp_b0, vp_b1, b01_eq0, b01_eq1, implies_true, nI_add, nI_clamp, zi_in, zi_le_t, zi_le_f, zi_lt_t, zi_lt_f, zi_eq_t, zi_eq_f, nI_leI, nI_ltI, nI_eq, z_in, pk_mul, zu_same, zu_rw, zu_ix, zi_ne0, zi_sub, zi_m1, Nat.add_sub_cancel, Nat.reduceMul, Nat.reduceSub]
  refine zC.of0 (zX10_roomFor hM hA hC (fun q' e => by cases e; exact hq0) (by omega) (by omega)) (by omega) (Nat.zero_le _) (Nat.zero_le _) ?_
  rintro _ _ ⟨rfl, S1, rfl, hf1, hC1⟩
  have hC1' : mC b S1 L A (pOpen A (xC x).length 7 q) := hC1
  have hF1 : mF b sd S S1 := mF.of hf1 rfl rfl
  cases hop : pOpen A (xC x).length 7 q with
  | error e =>
    rw [hop] at hC1' hVQ
    obtain ⟨n, h13, hn, hn5⟩ := mC.bad (e := e) hC1'
    refine sX10_tellOne_83 _ _ _ _ _ ?_
    simp (disch := omega) only [oAld, oCV, oGI, oIf, oRV, hM.1, h13, List.getElem?_cons_zero, List.getElem?_cons_succ, List.set_cons_zero, List.set_cons_succ, List.drop_succ_cons, List.drop_zero, List.take_succ_cons, List.take_zero, List.length_cons, List.length_nil, List.reverse_cons, List.reverse_nil, List.nil_append, List.cons_append, Option.toList_some, Option.toList_none, va_rf_s, true_and, and_true, true_implies, false_implies, not_true_eq_false, not_false_eq_true, Nat.reduceAdd, Nat.reduceLeDiff, Nat.le_add_left, Nat.zero_le, Nat.le_refl, znew, true_or, or_true, b01_t, b01_f, b01_ok, bool_ft, vp_b01, vp_b0, vp_b1, b01_eq0, b01_eq1, implies_true, nI_add, nI_clamp, zi_in, zi_le_t, zi_le_f, zi_lt_t, zi_lt_f, zi_eq_t, zi_eq_f, nI_leI, nI_ltI, nI_eq, z_in, pk_mul, zu_same, zu_rw, zu_ix, zi_ne0, zi_sub, zi_m1, Nat.add_sub_cancel, Nat.reduceMul, Nat.reduceSub]
    exact hVQ _ _ ⟨rfl, S1, L, rfl, hF1, fun _ _ => rfl, hC1', fun x' q' e => by cases e⟩
  | ok q1 =>
    rw [hop] at hC1' hVQ
    rw [pB_ok] at hVQ
    obtain ⟨hne, hq1⟩ := pOpen_ok hop
    have hq11 : q1.1 = q.1 + 1 := by rw [hq1]
    have h13 := mC.good (q := q1) hC1'
    have hal : q1.1 < A.length := hC1'.2.2.2.2.1
    refine sX10_tellOne_83 _ _ _ _ _ ?_
    simp (disch := omega) only [oAld, oCV, oGI, oIf, oRV, hM.1, h13, List.getElem?_cons_zero, List.getElem?_cons_succ, List.set_cons_zero, List.set_cons_succ, List.drop_succ_cons, List.drop_zero, List.take_succ_cons, List.take_zero, List.length_cons, List.length_nil, List.reverse_cons, List.reverse_nil, List.nil_append, List.cons_append, Option.toList_some, Option.toList_none, va_rf_s, true_and, and_true, true_implies, false_implies, not_true_eq_false, not_false_eq_true, Nat.reduceAdd, Nat.reduceLeDiff, Nat.le_add_left, Nat.zero_le, Nat.le_refl, znew, true_or, or_true, b01_t, b01_f, b01_ok, bool_ft, vp_b01, vp_b0, vp_b1, b01_eq0, b01_eq1, implies_true, nI_add, nI_clamp, zi_in, zi_le_t, zi_le_f, zi_lt_t, zi_lt_f, zi_eq_t, zi_eq_f, nI_leI, nI_ltI, nI_eq, z_in, pk_mul, zu_same, zu_rw, zu_ix, zi_ne0, zi_sub, zi_m1, Nat.add_sub_cancel, Nat.reduceMul, Nat.reduceSub]
    refine zC.of0 (zX10_named hM hA hC1' (hN.fr hf1 rfl rfl) hNh) (by omega) (Nat.zero_le _) (Nat.zero_le _) ?_
    rintro _ _ ⟨S2, t1, rfl, ht4, htq, rfl, hf2, hC2⟩
    obtain rfl : t1 = q1.1 := htq q1 rfl
    rw [pB_ok] at hC2
    have h19a : S2 b 19 = nI sd := by rw [hf2.f rfl, hf1.f rfl]; exact h19
    have h10a : S2 (b + 10) sd = nI (xC x).length := by rw [hf2.at (o := 10) rfl rfl, hf1.at (o := 10) rfl rfl]; exact h10
    have hN2 := (hN.fr hf1 rfl rfl).fr hf2 rfl rfl
    refine sX10_tellOne_96 _ _ _ _ _ ?_
    simp (disch := omega) only [oAld, oAld1, oCV, oGI, oGR, hM.1, hM.r23, hM.t23, hM.n23, h19a, h10a, List.getElem?_cons_zero, List.getElem?_cons_succ, List.set_cons_zero, List.set_cons_succ, List.drop_succ_cons, List.drop_zero, List.take_succ_cons, List.take_zero, List.length_cons, List.length_nil, List.reverse_cons, List.reverse_nil, List.nil_append, List.cons_append, Option.toList_some, Option.toList_none, va_rf_s, true_and, and_true, true_implies, false_implies, not_true_eq_false, not_false_eq_true, Nat.reduceAdd, Nat.reduceLeDiff, Nat.le_add_left, Nat.zero_le, Nat.le_refl, znew, true_or, or_true, b01_t, b01_f, b01_ok, bool_ft, vp_b01, vp_b0, vp_b1, b01_eq0, b01_eq1, implies_true, nI_add, nI_clamp, zi_in, zi_le_t, zi_le_f, zi_lt_t, zi_lt_f, zi_eq_t, zi_eq_f, nI_leI, nI_ltI, nI_eq, z_in, pk_mul, zu_same, zu_rw, zu_ix, zi_ne0, zi_sub, zi_m1, Nat.add_sub_cancel, Nat.reduceMul, Nat.reduceSub]
    refine zC.of0 (zX10_endsName hM hA hC2 hN2 (by omega) ht4 (fun _ _ => hal) (by omega)) (by omega) (Nat.zero_le _) (Nat.zero_le _) ?_
    rintro _ _ ⟨rfl, S3, L3, rfl, hf3, hL3, hC3, hN3⟩
    have hF3 : mF b sd S S3 := (hF1.go hf2 rfl rfl).go hf3 rfl rfl
    have hfa : zfr [9] [11, 13, 14, 15, 16, 20] b S S3 := (hf1.tr hf2 rfl rfl rfl rfl (D2 := [9]) (F2 := [11, 13, 14, 15, 16, 20])).tr hf3 rfl rfl rfl rfl
    have eC : pV (pCor A x q1) = pB (pName A (xHas x) q1) (pMust A 4) := by
      unfold pCor
      cases pName A (xHas x) q1 with
      | error e => rfl
      | ok q2 =>
        rw [pB_ok, pB_ok]
        cases pMust A 4 q2 <;> rfl
    rw [← eC] at hC3 hN3
    cases hr : pCor A x q1 with
    | error e =>
      rw [hr] at hC3 hVQ
      obtain ⟨n, h13', hn, hn5⟩ := mC.bad (e := e) hC3
      refine sX10_tellOne_108 _ _ _ _ _ ?_
      simp (disch := omega) only [oAld, oAld1, oAst1, oBin, oDup2, oGI, oGR, oIf, oNop, oPush, hM.1, hM.r23, hM.t23, hM.n23, h13', List.getElem?_cons_zero, List.getElem?_cons_succ, List.set_cons_zero, List.set_cons_succ, List.drop_succ_cons, List.drop_zero, List.take_succ_cons, List.take_zero, List.length_cons, List.length_nil, List.reverse_cons, List.reverse_nil, List.nil_append, List.cons_append, Option.toList_some, Option.toList_none, va_rf_s, true_and, and_true, true_implies, false_implies, not_true_eq_false, not_false_eq_true, Nat.reduceAdd, Nat.reduceLeDiff, Nat.le_add_left, Nat.zero_le, Nat.le_refl, znew, true_or, or_true, b01_t, b01_f, b01_ok, bool_ft, vp_b01, vp_b0, vp_b1, b01_eq0, b01_eq1, implies_true, nI_add, nI_clamp, zi_in, zi_le_t, zi_le_f, zi_lt_t, zi_lt_f, zi_eq_t, zi_eq_f, nI_leI, nI_ltI, nI_eq, z_in, pk_mul, zu_same, zu_rw, zu_ix, zi_ne0, zi_sub, zi_m1, Nat.add_sub_cancel, Nat.reduceMul, Nat.reduceSub]
      refine sX10_tellOne_389 _ _ _ _ _ ?_
      simp (disch := omega) only [oRV, List.getElem?_cons_zero, List.getElem?_cons_succ, List.set_cons_zero, List.set_cons_succ, List.drop_succ_cons, List.drop_zero, List.take_succ_cons, List.take_zero, List.length_cons, List.length_nil, List.reverse_cons, List.reverse_nil, List.nil_append, List.cons_append, Option.toList_some, Option.toList_none, va_rf_s, true_and, and_true, true_implies, false_implies, not_true_eq_false, not_false_eq_true, Nat.reduceAdd, Nat.reduceLeDiff, Nat.le_add_left, Nat.zero_le, Nat.le_refl, znew, true_or, or_true, b01_t, b01_f, b01_ok, bool_ft, vp_b01, vp_b0, vp_b1, b01_eq0, b01_eq1, implies_true, nI_add, nI_clamp, zi_in, zi_le_t, zi_le_f, zi_lt_t, zi_lt_f, zi_eq_t, zi_eq_f, nI_leI, nI_ltI, nI_eq, z_in, pk_mul, zu_same, zu_rw, zu_ix, zi_ne0, zi_sub, zi_m1, Nat.add_sub_cancel, Nat.reduceMul, Nat.reduceSub]
      exact hVQ _ _ ⟨rfl, S3, L3, rfl, hF3, hL3, hC3, fun x' q' e => by cases e⟩
    | ok r =>
      obtain ⟨x', q'⟩ := r
      rw [hr] at hC3 hVQ hN3
      have hN3' := hN3 q' rfl
      obtain ⟨q2, hp1, hr⟩ := pB_inv hr
      obtain ⟨q3, hp2, hr⟩ := pB_inv hr
      cases hr
      have hqm : q.1 ≤ q'.1 := by
        obtain ⟨q5, hm1, he⟩ := pB_inv hp1
        obtain ⟨-, hq5, -⟩ := pMust_inv hm1
        obtain ⟨-, hq6, -⟩ := pMust_inv hp2
        cases he
        rw [hq6]; show q.1 ≤ q5.1 + 1
        rw [hq5]; show q.1 ≤ q1.1 + 1 + 1
        omega
      have h13' := mC.good (q := q') hC3
      have h19b : S3 b 19 = nI sd := by rw [hfa.f rfl]; exact h19
      have h10b : S3 (b + 10) sd = nI (xC x).length := by rw [hfa.at (o := 10) rfl rfl]; exact h10
      refine sX10_tellOne_108 _ _ _ _ _ ?_
      simp (disch := omega) only [oAld, oAld1, oAst1, oBin, oDup2, oGI, oGR, oIf, oNop, oPush, hM.1, hM.r23, hM.t23, hM.n23, h13', h19b, h10b, List.getElem?_cons_zero, List.getElem?_cons_succ, List.set_cons_zero, List.set_cons_succ, List.drop_succ_cons, List.drop_zero, List.take_succ_cons, List.take_zero, List.length_cons, List.length_nil, List.reverse_cons, List.reverse_nil, List.nil_append, List.cons_append, Option.toList_some, Option.toList_none, va_rf_s, true_and, and_true, true_implies, false_implies, not_true_eq_false, not_false_eq_true, Nat.reduceAdd, Nat.reduceLeDiff, Nat.le_add_left, Nat.zero_le, Nat.le_refl, znew, true_or, or_true, b01_t, b01_f, b01_ok, bool_ft, vp_b01, vp_b0, vp_b1, b01_eq0, b01_eq1, implies_true, nI_add, nI_clamp, zi_in, zi_le_t, zi_le_f, zi_lt_t, zi_lt_f, zi_eq_t, zi_eq_f, nI_leI, nI_ltI, nI_eq, z_in, pk_mul, zu_same, zu_rw, zu_ix, zi_ne0, zi_sub, zi_m1, Nat.add_sub_cancel, Nat.reduceMul, Nat.reduceSub]
      refine sX10_tellOne_389 _ _ _ _ _ ?_
      simp (disch := omega) only [oRV, List.getElem?_cons_zero, List.getElem?_cons_succ, List.set_cons_zero, List.set_cons_succ, List.drop_succ_cons, List.drop_zero, List.take_succ_cons, List.take_zero, List.length_cons, List.length_nil, List.reverse_cons, List.reverse_nil, List.nil_append, List.cons_append, Option.toList_some, Option.toList_none, va_rf_s, true_and, and_true, true_implies, false_implies, not_true_eq_false, not_false_eq_true, Nat.reduceAdd, Nat.reduceLeDiff, Nat.le_add_left, Nat.zero_le, Nat.le_refl, znew, true_or, or_true, b01_t, b01_f, b01_ok, bool_ft, vp_b01, vp_b0, vp_b1, b01_eq0, b01_eq1, implies_true, nI_add, nI_clamp, zi_in, zi_le_t, zi_le_f, zi_lt_t, zi_lt_f, zi_eq_t, zi_eq_f, nI_leI, nI_ltI, nI_eq, z_in, pk_mul, zu_same, zu_rw, zu_ix, zi_ne0, zi_sub, zi_m1, Nat.add_sub_cancel, Nat.reduceMul, Nat.reduceSub]
      have hff : zfr [10] [] b S3 (zu S3 (b + 10) sd (nI ((xC x).length + 1))) := zfr.rf.row (by decide) (by decide)
      have hfall : zfr [9, 10] [11, 13, 14, 15, 16, 20] b S (zu S3 (b + 10) sd (nI ((xC x).length + 1))) := hfa.tr hff rfl rfl rfl rfl
      refine hVQ _ _ ⟨rfl, _, L3, rfl, hF3.row hsd 1 rfl (by decide) (by omega) (by omega), hL3, mC.row (st := .ok q') hC3 (by omega), fun x' q' e => ?_⟩
      cases e
      refine ⟨mC.row (st := .ok q') hC3 (by omega), ⟨⟨⟨by rw [hfall.f rfl]; exact h19, hsd⟩, ⟨by rw [zu_same]; show nI ((xC x).length + 1) = nI (xC x ++ [_]).length; rw [List.length_append]; rfl, by show (xC x ++ [_]).length ≤ 7; rw [List.length_append]; simp; omega⟩, ⟨by rw [hfall.at (o := 11) rfl rfl]; exact h11, hs10⟩, ⟨by rw [hfall.at (o := 15) rfl rfl]; exact h15, hy6⟩, ⟨by rw [hfall.at (o := 19) rfl rfl]; exact h19w, hw5⟩⟩, ?_, ?_, ?_, ?_, N ++ [(tkN A q1.1, (xC x).length)], hN3'.fr hff rfl rfl, ?_, ?_, ?_⟩, by rw [hfall.f rfl]; exact h12, nb, nc, hL.fr hfall rfl rfl rfl, Nat.le_trans hnb hqm, Nat.le_trans hnc hqm⟩
      · intro s hs
        rw [hfall.at (o := 12) rfl rfl, hfall.at (o := 13) rfl rfl, hfall.at (o := 14) rfl rfl]; exact hSS s hs
      · intro y hy
        rw [hfall.at (o := 16) rfl rfl, hfall.at (o := 17) rfl rfl, hfall.at (o := 18) rfl rfl]; exact hYY y hy
      · intro w hw
        rw [hfall.at (o := 20) rfl rfl]; exact hWW w hw
      · rw [hfall.at (o := 21) rfl rfl, hfall.at (o := 22) rfl rfl, hfall.at (o := 23) rfl rfl]; exact hGG
      · rw [List.length_append, hNl]; show _ = (xC x ++ [_]).length + (xY x).length + (xW x).length; rw [List.length_append]; simp; omega
      · intro w; rw [hasN_snoc, hNh]; exact xHas_C.symm
      · intro w; rw [ixK_snoc, hNk]
        show _ = xKn (addC x (tkN A q1.1)) w
        rw [xKn_addC]
        cases xKn x w with
        | some c => rfl
        | none =>
          show (if tkN A q1.1 = w ∧ (xC x).length < 10 then some (xC x).length else none) = _
          by_cases he : tkN A q1.1 = w
          · rw [if_pos ⟨he, by omega⟩, if_pos he]
          · rw [if_neg (fun q => he q.1), if_neg he]
theorem getD_snW (v : List Nat × Nat) (a : List (List Nat × Nat)) (i : Nat) : (a ++ [v]).getD i w0 = if i = a.length then v else if i < a.length then a.getD i w0 else w0 := getD_snoc a v w0 i
theorem to_word {V : zV} (hVl : V.1 = l) (hVE : V.2.1 = E) (hVd : V.2.2.1 = 6) (hM : isM h b) (hA : tkW A) {q : zCu} (hP : mPx b S L A sd (x, q)) (hk : tkK A q.1 = 23) (hVQ : ∀ r X, tOut b z h S L A sd (pStm A (x, q)) r X → V.2.2.2.2.2.1 r X) :
    zW V YX10_tellOne 189 [some (.ref b), none] [] (z, h, S, L) 0 0 := by
  obtain ⟨hC, hB, h12, nb, nc, hL, hnb, hnc⟩ := id hP
  have hB : mB b S L sd x := hB
  have hL : mLw b S sd x nb nc := hL
  have hnb : 4 * nb ≤ q.1 := hnb
  have hnc : nc ≤ q.1 := hnc
  have hC : mC b S L A (.ok q) := hC
  obtain ⟨⟨⟨h19, hsd⟩, ⟨h10, hc7⟩, ⟨h11, hs10⟩, ⟨h15, hy6⟩, ⟨h19w, hw5⟩⟩, hSS, hYY, hWW, hGG, N, hN, hNl, hNh, hNk⟩ := id hB
  have hk' : tkK A (x, q).2.1 = 23 := hk
  have e0 : pStm A (x, q) = pB (pOpen A (xW x).length 5 q) (pWor A x) := by
    unfold pStm
    rw [hk']; rfl
  rw [e0] at hVQ
  have hq0 : tkK A q.1 ≠ 0 := by omega
  have hw5' : (xW x).length ≤ 5 := hw5
  have hc7' : (xC x).length ≤ 7 := hc7
  have hy6' : (xY x).length ≤ 6 := hy6
  refine sX10_tellOne_189 _ _ _ _ _ ?_
  simp (disch := omega) only [oAld, oAld1, oCV, oGI, oGR, oPush, hM.1, hM.r32, hM.t32, hM.n32, h19, h19w, List.getElem?_cons_zero, List.getElem?_cons_succ, List.set_cons_zero, List.set_cons_succ, List.drop_succ_cons, List.drop_zero, List.take_succ_cons, List.take_zero, List.length_cons, List.length_nil, List.reverse_cons, List.reverse_nil, List.nil_append, List.cons_append, Option.toList_some, Option.toList_none, va_rf_s, true_and, and_true, true_implies, false_implies, not_true_eq_false, not_false_eq_true, Nat.reduceAdd, Nat.reduceLeDiff, Nat.le_add_left, Nat.zero_le, Nat.le_refl, znew, true_or, or_true, b01_t, b01_f, b01_ok, bool_ft, vp_b01, vp_b0, vp_b1, b01_eq0, b01_eq1, implies_true, nI_add, nI_clamp, zi_in, zi_le_t, zi_le_f, zi_lt_t, zi_lt_f, zi_eq_t, zi_eq_f, nI_leI, nI_ltI, nI_eq, z_in, pk_mul, zu_same, zu_rw, zu_ix, zi_ne0, zi_sub, zi_m1, Nat.add_sub_cancel, Nat.reduceMul, Nat.reduceSub]
  refine zC.of0 (zX10_roomFor hM hA hC (fun q' e => by cases e; exact hq0) (by omega) (by omega)) (by omega) (Nat.zero_le _) (Nat.zero_le _) ?_
  rintro _ _ ⟨rfl, S1, rfl, hf1, hC1⟩
  have hC1' : mC b S1 L A (pOpen A (xW x).length 5 q) := hC1
  have hF1 : mF b sd S S1 := mF.of hf1 rfl rfl
  cases hop : pOpen A (xW x).length 5 q with
  | error e =>
    rw [hop] at hC1' hVQ
    obtain ⟨n, h13, hn, hn5⟩ := mC.bad (e := e) hC1'
    refine sX10_tellOne_203 _ _ _ _ _ ?_
    simp (disch := omega) only [oAld, oCV, oGI, oIf, oRV, hM.1, h13, List.getElem?_cons_zero, List.getElem?_cons_succ, List.set_cons_zero, List.set_cons_succ, List.drop_succ_cons, List.drop_zero, List.take_succ_cons, List.take_zero, List.length_cons, List.length_nil, List.reverse_cons, List.reverse_nil, List.nil_append, List.cons_append, Option.toList_some, Option.toList_none, va_rf_s, true_and, and_true, true_implies, false_implies, not_true_eq_false, not_false_eq_true, Nat.reduceAdd, Nat.reduceLeDiff, Nat.le_add_left, Nat.zero_le, Nat.le_refl, znew, true_or, or_true, b01_t, b01_f, b01_ok, bool_ft, vp_b01, vp_b0, vp_b1, b01_eq0, b01_eq1, implies_true, nI_add, nI_clamp, zi_in, zi_le_t, zi_le_f, zi_lt_t, zi_lt_f, zi_eq_t, zi_eq_f, nI_leI, nI_ltI, nI_eq, z_in, pk_mul, zu_same, zu_rw, zu_ix, zi_ne0, zi_sub, zi_m1, Nat.add_sub_cancel, Nat.reduceMul, Nat.reduceSub]
    exact hVQ _ _ ⟨rfl, S1, L, rfl, hF1, fun _ _ => rfl, hC1', fun x' q' e => by cases e⟩
  | ok q1 =>
    rw [hop] at hC1' hVQ
    rw [pB_ok] at hVQ
    obtain ⟨hne, hq1⟩ := pOpen_ok hop
    have hq11 : q1.1 = q.1 + 1 := by rw [hq1]
    have h13 := mC.good (q := q1) hC1'
    have hal : q1.1 < A.length := hC1'.2.2.2.2.1
    refine sX10_tellOne_203 _ _ _ _ _ ?_
    simp (disch := omega) only [oAld, oCV, oGI, oIf, oRV, hM.1, h13, List.getElem?_cons_zero, List.getElem?_cons_succ, List.set_cons_zero, List.set_cons_succ, List.drop_succ_cons, List.drop_zero, List.take_succ_cons, List.take_zero, List.length_cons, List.length_nil, List.reverse_cons, List.reverse_nil, List.nil_append, List.cons_append, Option.toList_some, Option.toList_none, va_rf_s, true_and, and_true, true_implies, false_implies, not_true_eq_false, not_false_eq_true, Nat.reduceAdd, Nat.reduceLeDiff, Nat.le_add_left, Nat.zero_le, Nat.le_refl, znew, true_or, or_true, b01_t, b01_f, b01_ok, bool_ft, vp_b01, vp_b0, vp_b1, b01_eq0, b01_eq1, implies_true, nI_add, nI_clamp, zi_in, zi_le_t, zi_le_f, zi_lt_t, zi_lt_f, zi_eq_t, zi_eq_f, nI_leI, nI_ltI, nI_eq, z_in, pk_mul, zu_same, zu_rw, zu_ix, zi_ne0, zi_sub, zi_m1, Nat.add_sub_cancel, Nat.reduceMul, Nat.reduceSub]
    refine zC.of0 (zX10_named hM hA hC1' (hN.fr hf1 rfl rfl) hNh) (by omega) (Nat.zero_le _) (Nat.zero_le _) ?_
    rintro _ _ ⟨S2, t1, rfl, ht4, htq, rfl, hf2, hC2⟩
    obtain rfl : t1 = q1.1 := htq q1 rfl
    rw [pB_ok] at hC2
    have h19a : S2 b 19 = nI sd := by rw [hf2.f rfl, hf1.f rfl]; exact h19
    have h19wa : S2 (b + 19) sd = nI (xW x).length := by rw [hf2.at (o := 19) rfl rfl, hf1.at (o := 19) rfl rfl]; exact h19w
    have hN2 := (hN.fr hf1 rfl rfl).fr hf2 rfl rfl
    obtain ⟨k, hkk⟩ : ∃ k, k = 5 * sd + (xW x).length := ⟨_, rfl⟩
    refine sX10_tellOne_215 _ _ _ _ _ ?_
    simp (disch := omega) only [oAld, oAld1, oBin, oCV, oGI, oGR, oIst, oPush, hM.1, hM.r33, hM.t33, hM.n33, hM.r32, hM.t32, hM.n32, h19a, h19wa, List.getElem?_cons_zero, List.getElem?_cons_succ, List.set_cons_zero, List.set_cons_succ, List.drop_succ_cons, List.drop_zero, List.take_succ_cons, List.take_zero, List.length_cons, List.length_nil, List.reverse_cons, List.reverse_nil, List.nil_append, List.cons_append, Option.toList_some, Option.toList_none, va_rf_s, true_and, and_true, true_implies, false_implies, not_true_eq_false, not_false_eq_true, Nat.reduceAdd, Nat.reduceLeDiff, Nat.le_add_left, Nat.zero_le, Nat.le_refl, znew, true_or, or_true, b01_t, b01_f, b01_ok, bool_ft, vp_b01, vp_b0, vp_b1, b01_eq0, b01_eq1, implies_true, nI_add, nI_clamp, zi_in, zi_le_t, zi_le_f, zi_lt_t, zi_lt_f, zi_eq_t, zi_eq_f, nI_leI, nI_ltI, nI_eq, z_in, pk_mul, zu_same, zu_rw, zu_ix, zi_ne0, zi_sub, zi_m1, Nat.add_sub_cancel, Nat.reduceMul, Nat.reduceSub]
    rw [← hkk]
    refine zC.of0 (zX10_bounded hM hA hC2 (by omega) (by omega)) (by omega) (Nat.zero_le _) (Nat.zero_le _) ?_
    rintro _ _ ⟨S3, v, rfl, rfl, hf3, hC3, hv⟩
    refine sX10_tellOne_243 _ _ _ _ _ ?_
    simp (disch := omega) only [oAld, oAst1, oCV, oIld, oPush, hM.1, hM.t33, hM.n33, List.getElem?_cons_zero, List.getElem?_cons_succ, List.set_cons_zero, List.set_cons_succ, List.drop_succ_cons, List.drop_zero, List.take_succ_cons, List.take_zero, List.length_cons, List.length_nil, List.reverse_cons, List.reverse_nil, List.nil_append, List.cons_append, Option.toList_some, Option.toList_none, va_rf_s, true_and, and_true, true_implies, false_implies, not_true_eq_false, not_false_eq_true, Nat.reduceAdd, Nat.reduceLeDiff, Nat.le_add_left, Nat.zero_le, Nat.le_refl, znew, true_or, or_true, b01_t, b01_f, b01_ok, bool_ft, vp_b01, vp_b0, vp_b1, b01_eq0, b01_eq1, implies_true, nI_add, nI_clamp, zi_in, zi_le_t, zi_le_f, zi_lt_t, zi_lt_f, zi_eq_t, zi_eq_f, nI_leI, nI_ltI, nI_eq, z_in, pk_mul, zu_same, zu_rw, zu_ix, zi_ne0, zi_sub, zi_m1, Nat.add_sub_cancel, Nat.reduceMul, Nat.reduceSub]
    have hC3' := hC3.row (o := 20) (k := k) (v := v) (by omega)
    have hN3 : mNm b (zu S3 (b + 20) k v) L N := (hN2.fr hf3 rfl rfl).row (by omega)
    refine zC.of0 (zX10_endsName hM hA hC3' hN3 (by omega) ht4 (fun _ _ => hal) (by omega)) (by omega) (Nat.zero_le _) (Nat.zero_le _) ?_
    rintro _ _ ⟨rfl, S4, L4, rfl, hf4, hL4, hC4, hN4⟩
    have hF4 : mF b sd S S4 := (((hF1.go hf2 rfl rfl).go hf3 rfl rfl).row hsd 5 rfl (by decide) (by omega) (by omega)).go hf4 rfl rfl
    have hfa : zfr [9, 20] [11, 13, 14, 15, 16, 20] b S S4 := (((hf1.tr hf2 rfl rfl rfl rfl (D2 := [20]) (F2 := [11, 13, 14, 15, 16])).tr hf3 rfl rfl rfl rfl (D2 := [20]) (F2 := [11, 13, 14, 15, 16])).row (by decide) (by decide)).tr hf4 rfl rfl rfl rfl
    have eC : pV (pWor A x q1) = pB (pV (pB (pName A (xHas x) q1) (pNum A 0 99))) (pMust A 4) := by
      unfold pWor
      cases pName A (xHas x) q1 with
      | error e => rfl
      | ok q2 =>
        rw [pB_ok, pB_ok]
        cases pNum A 0 99 q2 with
        | error e => rfl
        | ok r3 =>
          rw [pB_ok, show pV (Except.ok r3) = .ok r3.2 from rfl, pB_ok]
          cases pMust A 4 r3.2 <;> rfl
    rw [← eC] at hC4 hN4
    cases hr : pWor A x q1 with
    | error e =>
      rw [hr] at hC4 hVQ
      obtain ⟨n, h13', hn, hn5⟩ := mC.bad (e := e) hC4
      refine sX10_tellOne_251 _ _ _ _ _ ?_
      simp (disch := omega) only [oAld, oAld1, oAst1, oBin, oDup2, oGI, oGR, oIf, oNop, oPush, hM.1, hM.r32, hM.t32, hM.n32, h13', List.getElem?_cons_zero, List.getElem?_cons_succ, List.set_cons_zero, List.set_cons_succ, List.drop_succ_cons, List.drop_zero, List.take_succ_cons, List.take_zero, List.length_cons, List.length_nil, List.reverse_cons, List.reverse_nil, List.nil_append, List.cons_append, Option.toList_some, Option.toList_none, va_rf_s, true_and, and_true, true_implies, false_implies, not_true_eq_false, not_false_eq_true, Nat.reduceAdd, Nat.reduceLeDiff, Nat.le_add_left, Nat.zero_le, Nat.le_refl, znew, true_or, or_true, b01_t, b01_f, b01_ok, bool_ft, vp_b01, vp_b0, vp_b1, b01_eq0, b01_eq1, implies_true, nI_add, nI_clamp, zi_in, zi_le_t, zi_le_f, zi_lt_t, zi_lt_f, zi_eq_t, zi_eq_f, nI_leI, nI_ltI, nI_eq, z_in, pk_mul, zu_same, zu_rw, zu_ix, zi_ne0, zi_sub, zi_m1, Nat.add_sub_cancel, Nat.reduceMul, Nat.reduceSub]
      refine sX10_tellOne_389 _ _ _ _ _ ?_
      simp (disch := omega) only [oRV, List.getElem?_cons_zero, List.getElem?_cons_succ, List.set_cons_zero, List.set_cons_succ, List.drop_succ_cons, List.drop_zero, List.take_succ_cons, List.take_zero, List.length_cons, List.length_nil, List.reverse_cons, List.reverse_nil, List.nil_append, List.cons_append, Option.toList_some, Option.toList_none, va_rf_s, true_and, and_true, true_implies, false_implies, not_true_eq_false, not_false_eq_true, Nat.reduceAdd, Nat.reduceLeDiff, Nat.le_add_left, Nat.zero_le, Nat.le_refl, znew, true_or, or_true, b01_t, b01_f, b01_ok, bool_ft, vp_b01, vp_b0, vp_b1, b01_eq0, b01_eq1, implies_true, nI_add, nI_clamp, zi_in, zi_le_t, zi_le_f, zi_lt_t, zi_lt_f, zi_eq_t, zi_eq_f, nI_leI, nI_ltI, nI_eq, z_in, pk_mul, zu_same, zu_rw, zu_ix, zi_ne0, zi_sub, zi_m1, Nat.add_sub_cancel, Nat.reduceMul, Nat.reduceSub]
      exact hVQ _ _ ⟨rfl, S4, L4, rfl, hF4, hL4, hC4, fun x' q' e => by cases e⟩
    | ok r =>
      obtain ⟨x', q'⟩ := r
      rw [hr] at hC4 hVQ hN4
      have hN4' := hN4 q' rfl
      obtain ⟨q2, hp1, hr⟩ := pB_inv hr
      obtain ⟨⟨n3, q3⟩, hp2, hr⟩ := pB_inv hr
      obtain ⟨q4, hp3, hr⟩ := pB_inv hr
      cases hr
      have hv' : v = nI n3 := hv n3 q3 (by rw [hp1]; exact hp2)
      have hqm : q.1 ≤ q'.1 := by
        obtain ⟨q5, hm1, he⟩ := pB_inv hp1
        obtain ⟨-, hq5, -⟩ := pMust_inv hm1
        obtain ⟨-, hq6, -⟩ := pMust_inv hp3
        cases he
        have h3 : q3.1 = q5.1 + 1 := by
          exact (pNum_inv hp2).1
        have h5 : q5.1 = q1.1 + 1 := by rw [hq5]
        rw [hq6]; show q.1 ≤ q3.1 + 1
        omega
      have h13' := mC.good (q := q') hC4
      have h19b : S4 b 19 = nI sd := by rw [hfa.f rfl]; exact h19
      have h19wb : S4 (b + 19) sd = nI (xW x).length := by rw [hfa.at (o := 19) rfl rfl]; exact h19w
      have e20 : ∀ j, S4 (b + 20) j = if j = k then nI n3 else S (b + 20) j := fun j => by rw [hf4.at (o := 20) rfl rfl, zu_rowj, hf3.at (o := 20) rfl rfl, hf2.at (o := 20) rfl rfl, hf1.at (o := 20) rfl rfl, hv']
      refine sX10_tellOne_251 _ _ _ _ _ ?_
      simp (disch := omega) only [oAld, oAld1, oAst1, oBin, oDup2, oGI, oGR, oIf, oNop, oPush, hM.1, hM.r32, hM.t32, hM.n32, h13', h19b, h19wb, List.getElem?_cons_zero, List.getElem?_cons_succ, List.set_cons_zero, List.set_cons_succ, List.drop_succ_cons, List.drop_zero, List.take_succ_cons, List.take_zero, List.length_cons, List.length_nil, List.reverse_cons, List.reverse_nil, List.nil_append, List.cons_append, Option.toList_some, Option.toList_none, va_rf_s, true_and, and_true, true_implies, false_implies, not_true_eq_false, not_false_eq_true, Nat.reduceAdd, Nat.reduceLeDiff, Nat.le_add_left, Nat.zero_le, Nat.le_refl, znew, true_or, or_true, b01_t, b01_f, b01_ok, bool_ft, vp_b01, vp_b0, vp_b1, b01_eq0, b01_eq1, implies_true, nI_add, nI_clamp, zi_in, zi_le_t, zi_le_f, zi_lt_t, zi_lt_f, zi_eq_t, zi_eq_f, nI_leI, nI_ltI, nI_eq, z_in, pk_mul, zu_same, zu_rw, zu_ix, zi_ne0, zi_sub, zi_m1, Nat.add_sub_cancel, Nat.reduceMul, Nat.reduceSub]
      refine sX10_tellOne_389 _ _ _ _ _ ?_
      simp (disch := omega) only [oRV, List.getElem?_cons_zero, List.getElem?_cons_succ, List.set_cons_zero, List.set_cons_succ, List.drop_succ_cons, List.drop_zero, List.take_succ_cons, List.take_zero, List.length_cons, List.length_nil, List.reverse_cons, List.reverse_nil, List.nil_append, List.cons_append, Option.toList_some, Option.toList_none, va_rf_s, true_and, and_true, true_implies, false_implies, not_true_eq_false, not_false_eq_true, Nat.reduceAdd, Nat.reduceLeDiff, Nat.le_add_left, Nat.zero_le, Nat.le_refl, znew, true_or, or_true, b01_t, b01_f, b01_ok, bool_ft, vp_b01, vp_b0, vp_b1, b01_eq0, b01_eq1, implies_true, nI_add, nI_clamp, zi_in, zi_le_t, zi_le_f, zi_lt_t, zi_lt_f, zi_eq_t, zi_eq_f, nI_leI, nI_ltI, nI_eq, z_in, pk_mul, zu_same, zu_rw, zu_ix, zi_ne0, zi_sub, zi_m1, Nat.add_sub_cancel, Nat.reduceMul, Nat.reduceSub]
      have hff : zfr [19] [] b S4 (zu S4 (b + 19) sd (nI ((xW x).length + 1))) := zfr.rf.row (by decide) (by decide)
      have hfall : zfr [9, 19, 20] [11, 13, 14, 15, 16, 20] b S (zu S4 (b + 19) sd (nI ((xW x).length + 1))) := hfa.tr hff rfl rfl rfl rfl
      refine hVQ _ _ ⟨rfl, _, L4, rfl, hF4.row hsd 1 rfl (by decide) (by omega) (by omega), hL4, mC.row (st := .ok q') hC4 (by omega), fun x' q' e => ?_⟩
      cases e
      refine ⟨mC.row (st := .ok q') hC4 (by omega), ⟨⟨⟨by rw [hfall.f rfl]; exact h19, hsd⟩, ⟨by rw [hfall.at (o := 10) rfl rfl]; exact h10, hc7⟩, ⟨by rw [hfall.at (o := 11) rfl rfl]; exact h11, hs10⟩, ⟨by rw [hfall.at (o := 15) rfl rfl]; exact h15, hy6⟩, ⟨by rw [zu_same]; show nI ((xW x).length + 1) = nI (xW x ++ [_]).length; rw [List.length_append]; rfl, by show (xW x ++ [_]).length ≤ 5; rw [List.length_append]; simp; omega⟩⟩, ?_, ?_, ?_, ?_, N ++ [(tkN A q1.1, 10)], hN4'.fr hff rfl rfl, ?_, ?_, ?_⟩, by rw [hfall.f rfl]; exact h12, nb, nc, hL.fr hfall rfl rfl rfl, Nat.le_trans hnb hqm, Nat.le_trans hnc hqm⟩
      · intro s hs
        rw [hfall.at (o := 12) rfl rfl, hfall.at (o := 13) rfl rfl, hfall.at (o := 14) rfl rfl]; exact hSS s hs
      · intro y hy
        rw [hfall.at (o := 16) rfl rfl, hfall.at (o := 17) rfl rfl, hfall.at (o := 18) rfl rfl]; exact hYY y hy
      · intro w hw
        have hw' : w < (xW x).length + 1 := by
          have : w < (xW x ++ [(tkN A q1.1, n3)]).length := hw
          rw [List.length_append] at this; exact this
        rw [hff.at (o := 20) rfl rfl, e20]
        show _ = nI ((xW x ++ [(tkN A q1.1, n3)]).getD w w0).2
        rw [getD_snW]
        by_cases he : w = (xW x).length
        · have e1 : 5 * sd + w = k := by omega
          rw [if_pos e1, if_pos he]
        · have e1 : ¬ 5 * sd + w = k := by omega
          have e2 : w < (xW x).length := by omega
          rw [if_neg e1, if_neg he, if_pos e2]; exact hWW w e2
      · rw [hfall.at (o := 21) rfl rfl, hfall.at (o := 22) rfl rfl, hfall.at (o := 23) rfl rfl]; exact hGG
      · rw [List.length_append, hNl]; show _ = (xC x).length + (xY x).length + (xW x ++ [_]).length; rw [List.length_append]; simp; omega
      · intro w; rw [hasN_snoc, hNh]; exact (xHas_W (y := (tkN A q1.1, n3))).symm
      · intro w; rw [ixK_10, hNk]; rfl
end NG
