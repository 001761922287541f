/-! reading: sums, levels -/
section MZ
variable {l : Launch} {E : zE} {V : zV} {b z : Nat} {h : Nat → Option zSh} {S S0 : Nat → Nat → Int32} {L : Nat → Nat → Int64} {A : List zTk} {c0 sd : Nat}
def exA (V : zV) (b z : Nat) (h : Nat → Option zSh) (S0 : Nat → Nat → Int32) (L : Nat → Nat → Int64) (A : List zTk) (c0 sd lv : Nat) : Prop := ∀ (W : List Nat) (C : zCd) (q : zCu) (S : Nat → Nat → Int32), exF b S0 S c0 sd → exS b S L A c0 sd (6 - lv) W C q → W.length ≤ 3 * (6 - lv) + 2 → exE V b z h S0 L A c0 sd (rdW A lv q) →
  (∀ c q' S', rdW A lv q = .ok (c, q') → exF b S0 S' c0 sd → exS b S' L A c0 sd (6 - lv) W (C ++ c) q' → zW V YX10_expression 96 (exL b) [] (z, h, S', L) 0 0) → zW V YX10_expression 23 (exL b) [] (z, h, S, L) 0 0
def exB (V : zV) (b z : Nat) (h : Nat → Option zSh) (S0 : Nat → Nat → Int32) (L : Nat → Nat → Int64) (A : List zTk) (c0 sd lv : Nat) : Prop := ∀ (W : List Nat) (C : zCd) (q : zCu) (S : Nat → Nat → Int32), exF b S0 S c0 sd → exS b S L A c0 sd (6 - lv) W C q → W.length ≤ 3 * (6 - lv) → poR false W = W → exE V b z h S0 L A c0 sd (rdX A lv q) →
  (∀ c q' ops D S', rdX A lv q = .ok (c, q') → ¬ isOp (tkK A q'.1) → exF b S0 S' c0 sd → exS b S' L A c0 sd (6 - lv) (ops ++ W) (C ++ D) q' → D ++ cdW ops = c → (∀ w ∈ ops, isOp w) → ops.length ≤ 2 → zW V YX10_expression 96 (exL b) [] (z, h, S', L) 0 0) → zW V YX10_expression 23 (exL b) [] (z, h, S, L) 0 0
theorem poR_6 (W : List Nat) : poR false (6 :: W) = 6 :: W := by
  have h : stopB false 6 = true := rfl
  rw [poR, if_pos h]
theorem stop_op {w : Nat} (h : isOp w) : stopB false w = false := by
  rcases h with rfl | rfl | rfl | rfl <;> rfl
theorem ex_A (hVl : V.1 = l) (hVE : V.2.1 = E) (hVd : V.2.2.1 = 3) (hM : isM h b) (hA : tkW A) (hsd : sd < 2) (hc0 : 420 * sd ≤ c0) (lv : Nat) (hlv : lv ≤ 6) (hB : ∀ m, lv = m + 1 → exB V b z h S0 L A c0 sd m) : exA V b z h S0 L A c0 sd lv := by
  intro W C q S hF hS hWl hE hn
  obtain ⟨hC, h12, ⟨h49, hW, hw⟩, ⟨h45, hca⟩, hb⟩ := id hS
  obtain ⟨-, h13, h11, h4, hal, -⟩ := id hC
  have hk100 := (hA.2.2 q.1).1
  by_cases h6 : tkK A q.1 = 6
  · have eb : isB A 6 (.ok q) = true := decide_eq_true h6
    have hk2 : ¬ tkK A q.1 = 2 := by omega
    have hk34 : ¬ (34 ≤ tkK A q.1 ∧ tkK A q.1 ≤ 42) := by omega
    refine sX10_expression_23 _ _ _ _ _ ?_
    simp (disch := omega) only [oAld, oCV, oPush, hM.1, List.getElem?_cons_zero, List.getElem?_cons_succ, List.set_cons_zero, List.set_cons_succ, List.drop_succ_cons, List.drop_zero, List.take_succ_cons, List.take_zero, List.length_cons, List.length_nil, List.reverse_cons, List.reverse_nil, List.nil_append, List.cons_append, Option.toList_some, Option.toList_none, va_rf_s, true_and, and_true, true_implies, false_implies, not_true_eq_false, not_false_eq_true, Nat.reduceAdd, Nat.reduceLeDiff, Nat.le_add_left, Nat.zero_le, Nat.le_refl, znew, true_or, or_true, b01_t, b01_f, b01_ok, bool_ft, vp_b01, vp_b0, vp_b1, b01_eq0, b01_eq1, implies_true, nI_add, nI_clamp, zi_in, zi_le_t, zi_le_f, zi_lt_t, zi_lt_f, zi_eq_t, zi_eq_f, nI_leI, nI_ltI, nI_eq, z_in, pk_mul, zu_same, zu_rw, zu_ix, zi_ne0, zi_sub, zi_m1, Nat.add_sub_cancel, Nat.reduceMul, Nat.reduceSub]
    refine zC.of0 (zX10_is hM hA hC (by omega)) (by omega) (Nat.zero_le _) (Nat.zero_le _) ?_
    rintro _ _ ⟨rfl, rfl⟩
    cases lv with
    | zero =>
      have eW : rdW A 0 q = .error (2, tkP A q.1) := by
        show rdU A 0 _ q = _
        rw [rdU, if_neg hk2, if_neg hk34, if_pos h6, if_pos rfl]; rfl
      refine sX10_expression_29 _ _ _ _ _ ?_
      simp (disch := omega) only [oAld, oCV, oGI, oIf, oIfc, oPush, hM.1, eb, h12, List.getElem?_cons_zero, List.getElem?_cons_succ, List.set_cons_zero, List.set_cons_succ, List.drop_succ_cons, List.drop_zero, List.take_succ_cons, List.take_zero, List.length_cons, List.length_nil, List.reverse_cons, List.reverse_nil, List.nil_append, List.cons_append, Option.toList_some, Option.toList_none, va_rf_s, true_and, and_true, true_implies, false_implies, not_true_eq_false, not_false_eq_true, Nat.reduceAdd, Nat.reduceLeDiff, Nat.le_add_left, Nat.zero_le, Nat.le_refl, znew, true_or, or_true, b01_t, b01_f, b01_ok, bool_ft, vp_b01, vp_b0, vp_b1, b01_eq0, b01_eq1, implies_true, nI_add, nI_clamp, zi_in, zi_le_t, zi_le_f, zi_lt_t, zi_lt_f, zi_eq_t, zi_eq_f, nI_leI, nI_ltI, nI_eq, z_in, pk_mul, zu_same, zu_rw, zu_ix, zi_ne0, zi_sub, zi_m1, Nat.add_sub_cancel, Nat.reduceMul, Nat.reduceSub]
      refine zC.of0 (zX10_fail hM hC (by omega) (by omega)) (by omega) (Nat.zero_le _) (Nat.zero_le _) ?_
      rintro _ _ ⟨rfl, S1, rfl, hf1, hC1⟩
      have h12' : S1 b 12 = nI 6 := by rw [hf1.f rfl]; exact h12
      have h49' : S1 b 49 = nI W.length := by rw [hf1.f rfl]; exact h49
      refine sX10_expression_46 _ _ _ _ _ ?_
      simp (disch := omega) only [oAld, oBin, oCV, oDup, oGI, oPI, oPush, hM.1, h12', List.getElem?_cons_zero, List.getElem?_cons_succ, List.set_cons_zero, List.set_cons_succ, List.drop_succ_cons, List.drop_zero, List.take_succ_cons, List.take_zero, List.length_cons, List.length_nil, List.reverse_cons, List.reverse_nil, List.nil_append, List.cons_append, Option.toList_some, Option.toList_none, va_rf_s, true_and, and_true, true_implies, false_implies, not_true_eq_false, not_false_eq_true, Nat.reduceAdd, Nat.reduceLeDiff, Nat.le_add_left, Nat.zero_le, Nat.le_refl, znew, true_or, or_true, b01_t, b01_f, b01_ok, bool_ft, vp_b01, vp_b0, vp_b1, b01_eq0, b01_eq1, implies_true, nI_add, nI_clamp, zi_in, zi_le_t, zi_le_f, zi_lt_t, zi_lt_f, zi_eq_t, zi_eq_f, nI_leI, nI_ltI, nI_eq, z_in, pk_mul, zu_same, zu_rw, zu_ix, zi_ne0, zi_sub, zi_m1, Nat.add_sub_cancel, Nat.reduceMul, Nat.reduceSub]
      have hf2 : zfr [] [12] b S1 (zu S1 b 12 (nI 7)) := zfr.rf.fld (by decide)
      have hC2 : mC b (zu S1 b 12 (nI 7)) L A (pFail A 2 (.ok q)) := hC1.frL hf2 rfl rfl (fun _ _ => rfl)
      refine zC.of0 (zX10_goesOn hM hA hC2 (fun q' e => by cases e)) (by omega) (Nat.zero_le _) (Nat.zero_le _) ?_
      rintro _ _ ⟨rfl, S3, rfl, hf3, hC3⟩
      have h49'' : S3 b 49 = nI W.length := by rw [hf3.f rfl, hf2.f rfl]; exact h49'
      refine sX10_expression_60 _ _ _ _ _ ?_
      simp (disch := omega) only [oAld, oAst1, oBin, oDup, oGI, oGR, oNop, oPI, oPush, hM.1, hM.r48, hM.t48, hM.n48, h49'', List.getElem?_cons_zero, List.getElem?_cons_succ, List.set_cons_zero, List.set_cons_succ, List.drop_succ_cons, List.drop_zero, List.take_succ_cons, List.take_zero, List.length_cons, List.length_nil, List.reverse_cons, List.reverse_nil, List.nil_append, List.cons_append, Option.toList_some, Option.toList_none, va_rf_s, true_and, and_true, true_implies, false_implies, not_true_eq_false, not_false_eq_true, Nat.reduceAdd, Nat.reduceLeDiff, Nat.le_add_left, Nat.zero_le, Nat.le_refl, znew, true_or, or_true, b01_t, b01_f, b01_ok, bool_ft, vp_b01, vp_b0, vp_b1, b01_eq0, b01_eq1, implies_true, nI_add, nI_clamp, zi_in, zi_le_t, zi_le_f, zi_lt_t, zi_lt_f, zi_eq_t, zi_eq_f, nI_leI, nI_ltI, nI_eq, z_in, pk_mul, zu_same, zu_rw, zu_ix, zi_ne0, zi_sub, zi_m1, Nat.add_sub_cancel, Nat.reduceMul, Nat.reduceSub]
      have hf4 : zfr [33] [49] b S3 (zu (zu S3 (b + 33) W.length (nI 6)) b 49 (nI (W.length + 1))) := (zfr.rf.row (by decide) (by decide)).fld (by decide)
      have hFa : zfr [33] [11, 12, 13, 14, 49] b S (zu (zu S3 (b + 33) W.length (nI 6)) b 49 (nI (W.length + 1))) := (((hf1.tr hf2 rfl rfl rfl rfl (D2 := []) (F2 := [12, 13, 14])).tr hf3 rfl rfl rfl rfl (D2 := []) (F2 := [11, 12, 13, 14])).tr hf4 rfl rfl rfl rfl)
      refine ex_e23 hVl hVE hVd hM hA hsd (hF.go hFa rfl rfl (hFa.cd rfl rfl (c := c0) (d := c0)) (Nat.le_refl _) (by omega)) (e := (2, tkP A q.1)) (hC3.frL hf4 rfl rfl (fun _ _ => rfl)) (d := c0 + C.length) (by rw [hFa.f rfl]; exact h45) (by omega) (by omega) (hE _ eW)
    | succ m =>
      have eW : rdW A (m + 1) q = pB (pGo A q) (fun q1 => pB (rdX A m q1) (fun r => pB (pMust A 7 r.2) (fun q3 => .ok (r.1, q3)))) := by
        show rdU A (m + 1) _ q = _
        rw [rdU, if_neg hk2, if_neg hk34, if_pos h6, if_neg (by omega)]
      rw [eW] at hE hn
      have ho : 6 - (m + 1) + 1 = 6 - m := by omega
      refine sX10_expression_29 _ _ _ _ _ ?_
      simp (disch := omega) only [oAld, oCV, oGI, oIf, oIfc, oPush, hM.1, eb, h12, List.getElem?_cons_zero, List.getElem?_cons_succ, List.set_cons_zero, List.set_cons_succ, List.drop_succ_cons, List.drop_zero, List.take_succ_cons, List.take_zero, List.length_cons, List.length_nil, List.reverse_cons, List.reverse_nil, List.nil_append, List.cons_append, Option.toList_some, Option.toList_none, va_rf_s, true_and, and_true, true_implies, false_implies, not_true_eq_false, not_false_eq_true, Nat.reduceAdd, Nat.reduceLeDiff, Nat.le_add_left, Nat.zero_le, Nat.le_refl, znew, true_or, or_true, b01_t, b01_f, b01_ok, bool_ft, vp_b01, vp_b0, vp_b1, b01_eq0, b01_eq1, implies_true, nI_add, nI_clamp, zi_in, zi_le_t, zi_le_f, zi_lt_t, zi_lt_f, zi_eq_t, zi_eq_f, nI_leI, nI_ltI, nI_eq, z_in, pk_mul, zu_same, zu_rw, zu_ix, zi_ne0, zi_sub, zi_m1, Nat.add_sub_cancel, Nat.reduceMul, Nat.reduceSub]
      refine sX10_expression_46 _ _ _ _ _ ?_
      simp (disch := omega) only [oAld, oBin, oCV, oDup, oGI, oPI, oPush, hM.1, h12, ho, List.getElem?_cons_zero, List.getElem?_cons_succ, List.set_cons_zero, List.set_cons_succ, List.drop_succ_cons, List.drop_zero, List.take_succ_cons, List.take_zero, List.length_cons, List.length_nil, List.reverse_cons, List.reverse_nil, List.nil_append, List.cons_append, Option.toList_some, Option.toList_none, va_rf_s, true_and, and_true, true_implies, false_implies, not_true_eq_false, not_false_eq_true, Nat.reduceAdd, Nat.reduceLeDiff, Nat.le_add_left, Nat.zero_le, Nat.le_refl, znew, true_or, or_true, b01_t, b01_f, b01_ok, bool_ft, vp_b01, vp_b0, vp_b1, b01_eq0, b01_eq1, implies_true, nI_add, nI_clamp, zi_in, zi_le_t, zi_le_f, zi_lt_t, zi_lt_f, zi_eq_t, zi_eq_f, nI_leI, nI_ltI, nI_eq, z_in, pk_mul, zu_same, zu_rw, zu_ix, zi_ne0, zi_sub, zi_m1, Nat.add_sub_cancel, Nat.reduceMul, Nat.reduceSub]
      have hf2 : zfr [] [12] b S (zu S b 12 (nI (6 - m))) := zfr.rf.fld (by decide)
      have hC2 : mC b (zu S b 12 (nI (6 - m))) L A (.ok q) := hC.frL hf2 rfl rfl (fun _ _ => rfl)
      have h12' : zu S b 12 (nI (6 - m)) b 12 = nI (6 - m) := zu_same _ _ _ _
      generalize hS2 : zu S b 12 (nI (6 - m)) = S2 at hf2 hC2 h12' ⊢
      refine zC.of0 (zX10_goesOn hM hA hC2 (fun q' e => by cases e; omega)) (by omega) (Nat.zero_le _) (Nat.zero_le _) ?_
      rintro _ _ ⟨rfl, S3, rfl, hf3, hC3⟩
      have h49'' : S3 b 49 = nI W.length := by rw [hf3.f rfl, hf2.f rfl]; exact h49
      rw [pB_ok] at hC3
      refine sX10_expression_60 _ _ _ _ _ ?_
      simp (disch := omega) only [oAld, oAst1, oBin, oDup, oGI, oGR, oNop, oPI, oPush, hM.1, hM.r48, hM.t48, hM.n48, h49'', List.getElem?_cons_zero, List.getElem?_cons_succ, List.set_cons_zero, List.set_cons_succ, List.drop_succ_cons, List.drop_zero, List.take_succ_cons, List.take_zero, List.length_cons, List.length_nil, List.reverse_cons, List.reverse_nil, List.nil_append, List.cons_append, Option.toList_some, Option.toList_none, va_rf_s, true_and, and_true, true_implies, false_implies, not_true_eq_false, not_false_eq_true, Nat.reduceAdd, Nat.reduceLeDiff, Nat.le_add_left, Nat.zero_le, Nat.le_refl, znew, true_or, or_true, b01_t, b01_f, b01_ok, bool_ft, vp_b01, vp_b0, vp_b1, b01_eq0, b01_eq1, implies_true, nI_add, nI_clamp, zi_in, zi_le_t, zi_le_f, zi_lt_t, zi_lt_f, zi_eq_t, zi_eq_f, nI_leI, nI_ltI, nI_eq, z_in, pk_mul, zu_same, zu_rw, zu_ix, zi_ne0, zi_sub, zi_m1, Nat.add_sub_cancel, Nat.reduceMul, Nat.reduceSub]
      have hf4 : zfr [33] [49] b S3 (zu (zu S3 (b + 33) W.length (nI 6)) b 49 (nI (W.length + 1))) := (zfr.rf.row (by decide) (by decide)).fld (by decide)
      generalize hS4 : zu (zu S3 (b + 33) W.length (nI 6)) b 49 (nI (W.length + 1)) = S4 at hf4 ⊢
      have hFa : zfr [33] [11, 12, 13, 14, 49] b S S4 := ((hf2.tr hf3 rfl rfl rfl rfl (D2 := []) (F2 := [11, 12, 13, 14])).tr hf4 rfl rfl rfl rfl)
      have hF4 := hF.go hFa rfl rfl (hFa.cd rfl rfl (c := c0) (d := c0)) (Nat.le_refl _) (by omega)
      have hC4 := hC3.frL hf4 rfl rfl (fun _ _ => rfl)
      have h45' : S4 b 45 = nI (c0 + C.length) := by rw [hFa.f rfl]; exact h45
      cases hg : pGo A q with
      | error e =>
        rw [hg] at hC4 hE
        exact ex_e23 hVl hVE hVd hM hA hsd hF4 hC4 h45' (by omega) (by omega) (hE _ rfl)
      | ok q1 =>
        rw [hg] at hC4 hE hn
        rw [pB_ok] at hE hn
        have hq1 := (pGo_ok hg).1
        have hS4' : exS b S4 L A c0 sd (6 - m) (6 :: W) C q1 := by
          refine ⟨hC4, by rw [hf4.f rfl, hf3.f rfl]; exact h12', ⟨by rw [← hS4]; simp (disch := omega) only [List.getElem?_cons_zero, List.getElem?_cons_succ, List.set_cons_zero, List.set_cons_succ, List.drop_succ_cons, List.drop_zero, List.take_succ_cons, List.take_zero, List.length_cons, List.length_nil, List.reverse_cons, List.reverse_nil, List.nil_append, List.cons_append, Option.toList_some, Option.toList_none, va_rf_s, true_and, and_true, true_implies, false_implies, not_true_eq_false, not_false_eq_true, Nat.reduceAdd, Nat.reduceLeDiff, Nat.le_add_left, Nat.zero_le, Nat.le_refl, znew, true_or, or_true, b01_t, b01_f, b01_ok, bool_ft, vp_b01, vp_b0, vp_b1, b01_eq0, b01_eq1, implies_true, nI_add, nI_clamp, zi_in, zi_le_t, zi_le_f, zi_lt_t, zi_lt_f, zi_eq_t, zi_eq_f, nI_leI, nI_ltI, nI_eq, z_in, pk_mul, zu_same, zu_rw, zu_ix, zi_ne0, zi_sub, zi_m1, Nat.add_sub_cancel, Nat.reduceMul, Nat.reduceSub, ], ⟨by rw [← hS4]; simp (disch := omega) only [List.getElem?_cons_zero, List.getElem?_cons_succ, List.set_cons_zero, List.set_cons_succ, List.drop_succ_cons, List.drop_zero, List.take_succ_cons, List.take_zero, List.length_cons, List.length_nil, List.reverse_cons, List.reverse_nil, List.nil_append, List.cons_append, Option.toList_some, Option.toList_none, va_rf_s, true_and, and_true, true_implies, false_implies, not_true_eq_false, not_false_eq_true, Nat.reduceAdd, Nat.reduceLeDiff, Nat.le_add_left, Nat.zero_le, Nat.le_refl, znew, true_or, or_true, b01_t, b01_f, b01_ok, bool_ft, vp_b01, vp_b0, vp_b1, b01_eq0, b01_eq1, implies_true, nI_add, nI_clamp, zi_in, zi_le_t, zi_le_f, zi_lt_t, zi_lt_f, zi_eq_t, zi_eq_f, nI_leI, nI_ltI, nI_eq, z_in, pk_mul, zu_same, zu_rw, zu_ix, zi_ne0, zi_sub, zi_m1, Nat.add_sub_cancel, Nat.reduceMul, Nat.reduceSub, ], hW.keep (fun j hj => ?_)⟩, fun w hw2 => ?_⟩, ⟨h45', by rw [hFa.at (o := 31) rfl rfl, hFa.at (o := 32) rfl rfl]; exact hca⟩, ?_⟩
          · rw [← hS4]
            have e33 : S3 (b + 33) j = S (b + 33) j := by rw [hf3.at (o := 33) rfl rfl, hf2.at (o := 33) rfl rfl]
            simp (disch := omega) only [List.getElem?_cons_zero, List.getElem?_cons_succ, List.set_cons_zero, List.set_cons_succ, List.drop_succ_cons, List.drop_zero, List.take_succ_cons, List.take_zero, List.length_cons, List.length_nil, List.reverse_cons, List.reverse_nil, List.nil_append, List.cons_append, Option.toList_some, Option.toList_none, va_rf_s, true_and, and_true, true_implies, false_implies, not_true_eq_false, not_false_eq_true, Nat.reduceAdd, Nat.reduceLeDiff, Nat.le_add_left, Nat.zero_le, Nat.le_refl, znew, true_or, or_true, b01_t, b01_f, b01_ok, bool_ft, vp_b01, vp_b0, vp_b1, b01_eq0, b01_eq1, implies_true, nI_add, nI_clamp, zi_in, zi_le_t, zi_le_f, zi_lt_t, zi_lt_f, zi_eq_t, zi_eq_f, nI_leI, nI_ltI, nI_eq, z_in, pk_mul, zu_same, zu_rw, zu_ix, zi_ne0, zi_sub, zi_m1, Nat.add_sub_cancel, Nat.reduceMul, Nat.reduceSub, e33]
          · rcases List.mem_cons.mp hw2 with rfl | hw2
            · omega
            · exact hw w hw2
          · rw [opC, if_pos rfl, hq1]; show _ ≤ 420 * sd + (q.1 + 1); omega
        refine hB m rfl (6 :: W) C q1 S4 hF4 hS4' (by rw [List.length_cons]; omega) (poR_6 W) (fun e he S' => hE e (by rw [he]; rfl) S') ?_
        intro c q' ops D S5 hx hno hF5 hS5 hDc hops hol
        rw [hx, pB_ok] at hE hn
        obtain ⟨hC5, h12a, ⟨h49a, hWa, hwa⟩, ⟨h45a, hcaa⟩, hba⟩ := id hS5
        have hpo : poR false (ops ++ 6 :: W) = 6 :: W ∧ poC false (ops ++ 6 :: W) = cdW ops := by
          obtain ⟨e1, e2⟩ := po_app (s := false) (W := 6 :: W) (ps := ops) (fun w hw => stop_op (hops w hw))
          exact ⟨e1.trans (poR_6 W), by rw [e2, poC_nil (poR_6 W), List.append_nil]⟩
        have hocc : opC (ops ++ 6 :: W) = opC ops + opC W := by rw [opC_app, opC, if_pos rfl]
        have hq4 : q'.1 ≤ 400 := hC5.2.2.2.1
        have hlw : (ops ++ 6 :: W).length ≤ 40 := by rw [List.length_append, List.length_cons]; omega
        by_cases h7 : tkK A q'.1 = 7
        · have eb7 : isB A 7 (.ok q') = true := decide_eq_true h7
          rw [show pMust A 7 (c, q').2 = pGo A q' from pMust_go h7] at hE hn
          refine sX10_expression_96 _ _ _ _ _ ?_
          simp (disch := omega) only [oAld, oCV, oPush, hM.1, List.getElem?_cons_zero, List.getElem?_cons_succ, List.set_cons_zero, List.set_cons_succ, List.drop_succ_cons, List.drop_zero, List.take_succ_cons, List.take_zero, List.length_cons, List.length_nil, List.reverse_cons, List.reverse_nil, List.nil_append, List.cons_append, Option.toList_some, Option.toList_none, va_rf_s, true_and, and_true, true_implies, false_implies, not_true_eq_false, not_false_eq_true, Nat.reduceAdd, Nat.reduceLeDiff, Nat.le_add_left, Nat.zero_le, Nat.le_refl, znew, true_or, or_true, b01_t, b01_f, b01_ok, bool_ft, vp_b01, vp_b0, vp_b1, b01_eq0, b01_eq1, implies_true, nI_add, nI_clamp, zi_in, zi_le_t, zi_le_f, zi_lt_t, zi_lt_f, zi_eq_t, zi_eq_f, nI_leI, nI_ltI, nI_eq, z_in, pk_mul, zu_same, zu_rw, zu_ix, zi_ne0, zi_sub, zi_m1, Nat.add_sub_cancel, Nat.reduceMul, Nat.reduceSub]
          refine zC.of0 (zX10_is hM hA hC5 (by omega)) (by omega) (Nat.zero_le _) (Nat.zero_le _) ?_
          rintro _ _ ⟨rfl, rfl⟩
          refine sX10_expression_102 _ _ _ _ _ ?_
          simp (disch := omega) only [oAld, oCV, oGI, oIf, oIfc, oIld, oPush, hM.1, eb7, h12a, List.getElem?_cons_zero, List.getElem?_cons_succ, List.set_cons_zero, List.set_cons_succ, List.drop_succ_cons, List.drop_zero, List.take_succ_cons, List.take_zero, List.length_cons, List.length_nil, List.reverse_cons, List.reverse_nil, List.nil_append, List.cons_append, Option.toList_some, Option.toList_none, va_rf_s, true_and, and_true, true_implies, false_implies, not_true_eq_false, not_false_eq_true, Nat.reduceAdd, Nat.reduceLeDiff, Nat.le_add_left, Nat.zero_le, Nat.le_refl, znew, true_or, or_true, b01_t, b01_f, b01_ok, bool_ft, vp_b01, vp_b0, vp_b1, b01_eq0, b01_eq1, implies_true, nI_add, nI_clamp, zi_in, zi_le_t, zi_le_f, zi_lt_t, zi_lt_f, zi_eq_t, zi_eq_f, nI_leI, nI_ltI, nI_eq, z_in, pk_mul, zu_same, zu_rw, zu_ix, zi_ne0, zi_sub, zi_m1, Nat.add_sub_cancel, Nat.reduceMul, Nat.reduceSub]
          have e0 : nI 0 = b01 false := rfl
          rw [e0]
          refine zC.of0 (zX10_comesOutM hM false hwa h49a hWa (by omega) h45a (by rw [List.length_append] at hba ⊢; omega)) (by omega) (Nat.zero_le _) (Nat.zero_le _) ?_
          rintro _ _ ⟨rfl, S6, rfl, hf6, h49b, h45b, hcab, hcdb⟩
          rw [hpo.1, List.length_cons] at h49b
          rw [hpo.2] at h45b hcab hcdb
          have h12b : S6 b 12 = nI (6 - m) := by rw [hf6.f rfl]; exact h12a
          have ho2 : 6 - m - 1 = 6 - (m + 1) := by omega
          refine sX10_expression_118 _ _ _ _ _ ?_
          simp (disch := omega) only [oAld, oBin, oCV, oDup, oGI, oPI, oPush, hM.1, h49b, h12b, ho2, List.getElem?_cons_zero, List.getElem?_cons_succ, List.set_cons_zero, List.set_cons_succ, List.drop_succ_cons, List.drop_zero, List.take_succ_cons, List.take_zero, List.length_cons, List.length_nil, List.reverse_cons, List.reverse_nil, List.nil_append, List.cons_append, Option.toList_some, Option.toList_none, va_rf_s, true_and, and_true, true_implies, false_implies, not_true_eq_false, not_false_eq_true, Nat.reduceAdd, Nat.reduceLeDiff, Nat.le_add_left, Nat.zero_le, Nat.le_refl, znew, true_or, or_true, b01_t, b01_f, b01_ok, bool_ft, vp_b01, vp_b0, vp_b1, b01_eq0, b01_eq1, implies_true, nI_add, nI_clamp, zi_in, zi_le_t, zi_le_f, zi_lt_t, zi_lt_f, zi_eq_t, zi_eq_f, nI_leI, nI_ltI, nI_eq, z_in, pk_mul, zu_same, zu_rw, zu_ix, zi_ne0, zi_sub, zi_m1, Nat.add_sub_cancel, Nat.reduceMul, Nat.reduceSub]
          have hpl : (cdW ops).length = ops.length := by unfold cdW; rw [List.length_map]
          have hoo : opC ops = ops.length := by
            have : ∀ (o : List Nat), (∀ w ∈ o, isOp w) → opC o = o.length := by
              intro o
              induction o with
              | nil => intro _; rfl
              | cons x r ih => intro hx; rw [opC, if_neg (by rcases hx x (List.mem_cons_self ..) with q | q | q | q <;> omega), ih (fun w hw => hx w (List.mem_cons_of_mem _ hw)), List.length_cons]
            exact this ops hops
          have hF6 := hF5.go hf6 rfl rfl hcdb (by omega) (by rw [List.length_append] at hba; rw [List.length_append]; omega)
          have hC6 : mC b S6 L A (.ok q') := hC5.frL hf6 rfl rfl (fun _ _ => rfl)
          have hf7 : zfr [] [12, 49] b S6 (zu (zu S6 b 49 (nI W.length)) b 12 (nI (6 - (m + 1)))) := (zfr.rf.fld (by decide)).fld (by decide)
          generalize hS7 : zu (zu S6 b 49 (nI W.length)) b 12 (nI (6 - (m + 1))) = S7 at hf7 ⊢
          have hC7 : mC b S7 L A (.ok q') := hC6.frL hf7 rfl rfl (fun _ _ => rfl)
          refine zC.of0 (zX10_goesOn hM hA hC7 (fun q' e => by cases e; omega)) (by omega) (Nat.zero_le _) (Nat.zero_le _) ?_
          rintro _ _ ⟨rfl, S8, rfl, hf8, hC8⟩
          have hF8 := (hF6.go hf7 rfl rfl (hf7.cd rfl rfl (c := c0) (d := c0)) (Nat.le_refl _) (by omega)).go hf8 rfl rfl (hf8.cd rfl rfl (c := c0) (d := c0)) (Nat.le_refl _) (by omega)
          rw [pB_ok] at hC8
          have h12c : S8 b 12 = nI (6 - (m + 1)) := by rw [hf8.f rfl, ← hS7]; simp (disch := omega) only [List.getElem?_cons_zero, List.getElem?_cons_succ, List.set_cons_zero, List.set_cons_succ, List.drop_succ_cons, List.drop_zero, List.take_succ_cons, List.take_zero, List.length_cons, List.length_nil, List.reverse_cons, List.reverse_nil, List.nil_append, List.cons_append, Option.toList_some, Option.toList_none, va_rf_s, true_and, and_true, true_implies, false_implies, not_true_eq_false, not_false_eq_true, Nat.reduceAdd, Nat.reduceLeDiff, Nat.le_add_left, Nat.zero_le, Nat.le_refl, znew, true_or, or_true, b01_t, b01_f, b01_ok, bool_ft, vp_b01, vp_b0, vp_b1, b01_eq0, b01_eq1, implies_true, nI_add, nI_clamp, zi_in, zi_le_t, zi_le_f, zi_lt_t, zi_lt_f, zi_eq_t, zi_eq_f, nI_leI, nI_ltI, nI_eq, z_in, pk_mul, zu_same, zu_rw, zu_ix, zi_ne0, zi_sub, zi_m1, Nat.add_sub_cancel, Nat.reduceMul, Nat.reduceSub, ]
          have h49c : S8 b 49 = nI W.length := by rw [hf8.f rfl, ← hS7]; simp (disch := omega) only [List.getElem?_cons_zero, List.getElem?_cons_succ, List.set_cons_zero, List.set_cons_succ, List.drop_succ_cons, List.drop_zero, List.take_succ_cons, List.take_zero, List.length_cons, List.length_nil, List.reverse_cons, List.reverse_nil, List.nil_append, List.cons_append, Option.toList_some, Option.toList_none, va_rf_s, true_and, and_true, true_implies, false_implies, not_true_eq_false, not_false_eq_true, Nat.reduceAdd, Nat.reduceLeDiff, Nat.le_add_left, Nat.zero_le, Nat.le_refl, znew, true_or, or_true, b01_t, b01_f, b01_ok, bool_ft, vp_b01, vp_b0, vp_b1, b01_eq0, b01_eq1, implies_true, nI_add, nI_clamp, zi_in, zi_le_t, zi_le_f, zi_lt_t, zi_lt_f, zi_eq_t, zi_eq_f, nI_leI, nI_ltI, nI_eq, z_in, pk_mul, zu_same, zu_rw, zu_ix, zi_ne0, zi_sub, zi_m1, Nat.add_sub_cancel, Nat.reduceMul, Nat.reduceSub, ]
          have h45c : S8 b 45 = nI (c0 + (C ++ c).length) := by
            rw [hf8.f rfl, hf7.f rfl, h45b, ← hDc]; congr 1; simp only [List.length_append]; omega
          have hWc : wAt (S8 (b + 33)) W := by
            rw [hf8.at (o := 33) rfl rfl, hf7.at (o := 33) rfl rfl, hf6.at (o := 33) rfl rfl]
            have := hWa.po false
            rw [hpo.1] at this
            exact this.2
          have hlen : c.length = D.length + ops.length := by rw [← hDc, List.length_append, hpl]
          refine sX10_expression_142 _ _ _ _ _ ?_
          simp (disch := omega) only [oNop, List.getElem?_cons_zero, List.getElem?_cons_succ, List.set_cons_zero, List.set_cons_succ, List.drop_succ_cons, List.drop_zero, List.take_succ_cons, List.take_zero, List.length_cons, List.length_nil, List.reverse_cons, List.reverse_nil, List.nil_append, List.cons_append, Option.toList_some, Option.toList_none, va_rf_s, true_and, and_true, true_implies, false_implies, not_true_eq_false, not_false_eq_true, Nat.reduceAdd, Nat.reduceLeDiff, Nat.le_add_left, Nat.zero_le, Nat.le_refl, znew, true_or, or_true, b01_t, b01_f, b01_ok, bool_ft, vp_b01, vp_b0, vp_b1, b01_eq0, b01_eq1, implies_true, nI_add, nI_clamp, zi_in, zi_le_t, zi_le_f, zi_lt_t, zi_lt_f, zi_eq_t, zi_eq_f, nI_leI, nI_ltI, nI_eq, z_in, pk_mul, zu_same, zu_rw, zu_ix, zi_ne0, zi_sub, zi_m1, Nat.add_sub_cancel, Nat.reduceMul, Nat.reduceSub]
          cases hg7 : pGo A q' with
          | error e =>
            rw [hg7] at hC8 hE
            rw [List.length_append, hocc] at hba
            refine ex_e96 hVl hVE hVd hM hA hsd hF8 hC8 h12c (by omega) h45c (by omega) ?_ h49c hWc hw (by omega) (hE e rfl)
            rw [List.length_append, hlen]
            omega
          | ok q3 =>
            rw [hg7] at hC8 hn
            have hq3 := (pGo_ok hg7).1
            refine hn c q3 S8 rfl hF8 ⟨hC8, h12c, ⟨h49c, hWc, hw⟩, ⟨h45c, ?_⟩, ?_⟩
            · rw [hf8.at (o := 31) rfl rfl, hf8.at (o := 32) rfl rfl, hf7.at (o := 31) rfl rfl, hf7.at (o := 32) rfl rfl, ← hDc, ← List.append_assoc]
              exact codeAt_app (codeAt_keep hcaa (fun j _ hj => hcdb j (by omega))) hcab
            · rw [List.length_append, hocc] at hba
              rw [List.length_append, hlen, hq3]
              show _ ≤ 420 * sd + (q'.1 + 1)
              omega
        · rw [show pMust A 7 (c, q').2 = .error (1, tkP A q'.1) from if_neg h7] at hE
          have nb : ∀ j, tkK A q'.1 ≠ j → isB A j (.ok q') = false := fun j hj => decide_eq_false hj
          have no := fun j (hj : isOp j) => nb j (fun e => hno (e ▸ hj))
          refine ex_none hVl hVE hVd hM hA hC5 h12a (by omega) (Or.inl (nb 7 h7)) (no 8 (Or.inl rfl)) (no 9 (Or.inr (Or.inl rfl))) (no 10 (Or.inr (Or.inr (Or.inl rfl)))) (no 15 (Or.inr (Or.inr (Or.inr rfl)))) ?_
          refine sX10_expression_186 _ _ _ _ _ ?_
          simp (disch := omega) only [oAld, oCV, oGI, oIf, oIfc, oIld, oIst, oPush, hM.1, h12a, List.getElem?_cons_zero, List.getElem?_cons_succ, List.set_cons_zero, List.set_cons_succ, List.drop_succ_cons, List.drop_zero, List.take_succ_cons, List.take_zero, List.length_cons, List.length_nil, List.reverse_cons, List.reverse_nil, List.nil_append, List.cons_append, Option.toList_some, Option.toList_none, va_rf_s, true_and, and_true, true_implies, false_implies, not_true_eq_false, not_false_eq_true, Nat.reduceAdd, Nat.reduceLeDiff, Nat.le_add_left, Nat.zero_le, Nat.le_refl, znew, true_or, or_true, b01_t, b01_f, b01_ok, bool_ft, vp_b01, vp_b0, vp_b1, b01_eq0, b01_eq1, implies_true, nI_add, nI_clamp, zi_in, zi_le_t, zi_le_f, zi_lt_t, zi_lt_f, zi_eq_t, zi_eq_f, nI_leI, nI_ltI, nI_eq, z_in, pk_mul, zu_same, zu_rw, zu_ix, zi_ne0, zi_sub, zi_m1, Nat.add_sub_cancel, Nat.reduceMul, Nat.reduceSub]
          refine zC.of0 (zX10_fail hM hC5 (by omega) (by omega)) (by omega) (Nat.zero_le _) (Nat.zero_le _) ?_
          rintro _ _ ⟨rfl, S6, rfl, hf6, hC6⟩
          rw [List.length_append] at hba
          have hpc := poC_len false (ops ++ 6 :: W)
          refine ex_204 hVl hVE hVd hM hsd _ (hF5.go hf6 rfl rfl (hf6.cd rfl rfl (c := c0) (d := c0)) (Nat.le_refl _) (by omega)) hC6 (d := c0 + (C ++ D).length) (by rw [hf6.f rfl]; exact h45a) (by omega) (by rw [List.length_append]; omega) (by rw [hf6.f rfl]; exact h49a) (by rw [hf6.at (o := 33) rfl rfl]; exact hWa) hwa (by omega) ?_
          intro S9 hF9 hC9 _ h45d _ _
          exact hE _ rfl S9 hF9 hC9 ⟨_, h45d, by omega, by rw [List.length_append]; omega⟩
  · have eb : isB A 6 (.ok q) = false := decide_eq_false h6
    rw [rdW_ne h6] at hE hn
    refine sX10_expression_23 _ _ _ _ _ ?_
    simp (disch := omega) only [oAld, oCV, oPush, hM.1, List.getElem?_cons_zero, List.getElem?_cons_succ, List.set_cons_zero, List.set_cons_succ, List.drop_succ_cons, List.drop_zero, List.take_succ_cons, List.take_zero, List.length_cons, List.length_nil, List.reverse_cons, List.reverse_nil, List.nil_append, List.cons_append, Option.toList_some, Option.toList_none, va_rf_s, true_and, and_true, true_implies, false_implies, not_true_eq_false, not_false_eq_true, Nat.reduceAdd, Nat.reduceLeDiff, Nat.le_add_left, Nat.zero_le, Nat.le_refl, znew, true_or, or_true, b01_t, b01_f, b01_ok, bool_ft, vp_b01, vp_b0, vp_b1, b01_eq0, b01_eq1, implies_true, nI_add, nI_clamp, zi_in, zi_le_t, zi_le_f, zi_lt_t, zi_lt_f, zi_eq_t, zi_eq_f, nI_leI, nI_ltI, nI_eq, z_in, pk_mul, zu_same, zu_rw, zu_ix, zi_ne0, zi_sub, zi_m1, Nat.add_sub_cancel, Nat.reduceMul, Nat.reduceSub]
    refine zC.of0 (zX10_is hM hA hC (by omega)) (by omega) (Nat.zero_le _) (Nat.zero_le _) ?_
    rintro _ _ ⟨rfl, rfl⟩
    refine sX10_expression_29 _ _ _ _ _ ?_
    simp (disch := omega) only [oAld, oCV, oGI, oIf, oIfc, oPush, hM.1, eb, List.getElem?_cons_zero, List.getElem?_cons_succ, List.set_cons_zero, List.set_cons_succ, List.drop_succ_cons, List.drop_zero, List.take_succ_cons, List.take_zero, List.length_cons, List.length_nil, List.reverse_cons, List.reverse_nil, List.nil_append, List.cons_append, Option.toList_some, Option.toList_none, va_rf_s, true_and, and_true, true_implies, false_implies, not_true_eq_false, not_false_eq_true, Nat.reduceAdd, Nat.reduceLeDiff, Nat.le_add_left, Nat.zero_le, Nat.le_refl, znew, true_or, or_true, b01_t, b01_f, b01_ok, bool_ft, vp_b01, vp_b0, vp_b1, b01_eq0, b01_eq1, implies_true, nI_add, nI_clamp, zi_in, zi_le_t, zi_le_f, zi_lt_t, zi_lt_f, zi_eq_t, zi_eq_f, nI_leI, nI_ltI, nI_eq, z_in, pk_mul, zu_same, zu_rw, zu_ix, zi_ne0, zi_sub, zi_m1, Nat.add_sub_cancel, Nat.reduceMul, Nat.reduceSub]
    refine zC.of0 (zX10_unit hM hA hC h45 (by omega)) (by omega) (Nat.zero_le _) (Nat.zero_le _) ?_
    rintro _ _ ⟨rfl, S1, d1, rfl, hf1, hC1, hcd, ⟨h45', hd3, hd4⟩, hok⟩
    have hF1 := hF.go hf1 rfl rfl hcd (by omega) (by omega)
    rw [pB_ok] at hC1 hok
    cases hg : pUn A q with
    | error e =>
      rw [hg] at hC1 hE
      obtain ⟨n, h13', hn', hn5⟩ := mC.bad (e := e) hC1
      refine sX10_expression_88 _ _ _ _ _ ?_
      simp (disch := omega) only [oAld, oGI, oIf, oRV, hM.1, h13', List.getElem?_cons_zero, List.getElem?_cons_succ, List.set_cons_zero, List.set_cons_succ, List.drop_succ_cons, List.drop_zero, List.take_succ_cons, List.take_zero, List.length_cons, List.length_nil, List.reverse_cons, List.reverse_nil, List.nil_append, List.cons_append, Option.toList_some, Option.toList_none, va_rf_s, true_and, and_true, true_implies, false_implies, not_true_eq_false, not_false_eq_true, Nat.reduceAdd, Nat.reduceLeDiff, Nat.le_add_left, Nat.zero_le, Nat.le_refl, znew, true_or, or_true, b01_t, b01_f, b01_ok, bool_ft, vp_b01, vp_b0, vp_b1, b01_eq0, b01_eq1, implies_true, nI_add, nI_clamp, zi_in, zi_le_t, zi_le_f, zi_lt_t, zi_lt_f, zi_eq_t, zi_eq_f, nI_leI, nI_ltI, nI_eq, z_in, pk_mul, zu_same, zu_rw, zu_ix, zi_ne0, zi_sub, zi_m1, Nat.add_sub_cancel, Nat.reduceMul, Nat.reduceSub]
      exact hE e rfl S1 hF1 hC1 ⟨d1, h45', by omega, by omega⟩
    | ok r =>
      obtain ⟨cl, q1⟩ := r
      rw [hg] at hC1 hn hok
      obtain ⟨hdl, hcl⟩ := hok cl q1 rfl
      obtain ⟨hl1, hq1, -⟩ := pUn_ok hg
      have h13' := mC.good (q := q1) hC1
      refine sX10_expression_88 _ _ _ _ _ ?_
      simp (disch := omega) only [oAld, oGI, oIf, oRV, hM.1, h13', List.getElem?_cons_zero, List.getElem?_cons_succ, List.set_cons_zero, List.set_cons_succ, List.drop_succ_cons, List.drop_zero, List.take_succ_cons, List.take_zero, List.length_cons, List.length_nil, List.reverse_cons, List.reverse_nil, List.nil_append, List.cons_append, Option.toList_some, Option.toList_none, va_rf_s, true_and, and_true, true_implies, false_implies, not_true_eq_false, not_false_eq_true, Nat.reduceAdd, Nat.reduceLeDiff, Nat.le_add_left, Nat.zero_le, Nat.le_refl, znew, true_or, or_true, b01_t, b01_f, b01_ok, bool_ft, vp_b01, vp_b0, vp_b1, b01_eq0, b01_eq1, implies_true, nI_add, nI_clamp, zi_in, zi_le_t, zi_le_f, zi_lt_t, zi_lt_f, zi_eq_t, zi_eq_f, nI_leI, nI_ltI, nI_eq, z_in, pk_mul, zu_same, zu_rw, zu_ix, zi_ne0, zi_sub, zi_m1, Nat.add_sub_cancel, Nat.reduceMul, Nat.reduceSub]
      refine hn cl q1 S1 rfl hF1 ⟨hC1, by rw [hf1.f rfl]; exact h12, ⟨by rw [hf1.f rfl]; exact h49, by rw [hf1.at (o := 33) rfl rfl]; exact hW, hw⟩, ⟨?_, codeAt_app (codeAt_keep hca (fun j _ hj => hcd j (by omega))) hcl⟩, ?_⟩
      · rw [h45', hdl, List.length_append]; congr 1; omega
      · rw [List.length_append, hq1]; show _ ≤ 420 * sd + (q.1 + 1); omega
end MZ
