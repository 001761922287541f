/-! the component: best -/
section DD
variable {l : Launch} {E : zE} {z : Nat} {h : Nat → Option zSh} {S : Nat → Nat → Int32} {L : Nat → Nat → Int64} {c D ta : Nat} {t : ZT} {q0 T : Nat → Int32} {A : zTA}
theorem bs_home {t : ZT} {T : Nat → Int32} {j : Nat} (h : T (12 + j) = nI 1) : ∀ k, 0 < k → (bsW t T k).2 j = -2
  | 0, h0 => absurd h0 (by omega)
  | k + 1, _ => by
    by_cases hlt : (bsW t T k).1 < nwy t T k
    · rw [bsW_t hlt]
      show standF T (asn t T k) j = -2
      rw [standF, if_pos h]
    · rw [bsW_f hlt]
      rcases Nat.eq_zero_or_pos k with e | e
      · subst e; exact absurd bsW_first hlt
      · exact bs_home h k e
theorem zX0_best (hQ : cQ h S c z D ta t q0 A T) (i : Int32) : zM l E 12 YX0_best [.ref c, .int i] (z, h, S, L) 0 0 (fun r X => ∃ S', X = (z, h, S', L) ∧ cqF c S S' ∧ r = some (.int (bestR t T i))) (fun _ _ => False) := by
  obtain ⟨hB, hTa, hX, hT, hI, hTI⟩ := id hQ
  obtain ⟨h7, h10, h6, h5⟩ := hX.b
  obtain ⟨at', hC⟩ := hI.2.2.2.2.1
  have hH := hI.2.2.1
  have hWy : 0 < wyL t T (tny t) := by
    rw [← wy_top]
    exact wyN_pos _ (fun y hy _ => by have := (hC y hy).2; omega)
  refine zM.go rfl rfl (Nat.le_of_ble_eq_true rfl) (ls := [some (.ref c), some (.int i), none]) rfl ?_
  intro V hVl hVE hVd hVc hVs hVQ hVX
  have last : ∀ S', cqF c S S' → S' c 15 = (bsW t T (wyL t T (tny t))).1 → (∀ j, j < tny t → outF T j = true → S' (c + 71) j = (bsW t T (wyL t T (tny t))).2 j) → (i = -1 ∨ ∃ j, j < tny t ∧ i = nI j) → ∀ x2, zW V YX0_best 110 [some (.ref c), some (.int i), x2] [] (z, h, S', L) 0 0 := by
    intro S' hF e15 e71 hi x2
    have hQ' := hQ.fr hF
    have hW := hB.tn
    rcases hi with rfl | ⟨j, hj, rfl⟩
    · refine sX0_best_110 _ _ _ _ _ ?_
      simp (disch := omega) only [oAld, oCV, oGI, oGR, oIfc, oIld, oNop, oPush, oRI, hB.k, hB.r7, hW.k, e15, List.getElem?_cons_zero, List.getElem?_cons_succ, List.set_cons_zero, List.set_cons_succ, List.drop_succ_cons, List.drop_zero, List.take_succ_cons, List.take_zero, List.length_cons, List.length_nil, List.reverse_cons, List.reverse_nil, List.nil_append, List.cons_append, Option.toList_some, Option.toList_none, va_rf_s, true_and, and_true, true_implies, false_implies, not_true_eq_false, not_false_eq_true, Nat.reduceAdd, Nat.reduceLeDiff, Nat.le_add_left, Nat.zero_le, Nat.le_refl, znew, true_or, or_true, b01_t, b01_f, b01_ok, bool_ft, vp_b01, vp_b0, vp_b1, b01_eq0, b01_eq1, implies_true, nI_add, nI_clamp, zi_in, zi_le_t, zi_le_f, zi_lt_t, zi_lt_f, zi_eq_t, zi_eq_f, nI_leI, nI_ltI, nI_eq, z_in, pk_mul, zu_same, zu_rw, zu_ix, zi_ne0, zi_sub, zi_m1, Nat.add_sub_cancel, Nat.reduceMul, Nat.reduceSub]
      exact hVQ _ _ ⟨S', rfl, hF, by rw [bestR, if_pos rfl, wy_top]⟩
    · have hne : ¬ nI j = -1 := nI_nm1 (by omega)
      have hne' : (nI j = -1) = False := eq_false hne
      have hR : bestR t T (nI j) = (bsW t T (wyL t T (tny t))).2 j := by
        rw [bestR, if_neg hne, if_pos ((okI_iff (by omega)).mpr ⟨j, hj, rfl⟩), nI_clamp (by omega), wy_top]
      rw [hR] at hVQ
      refine sX0_best_110 _ _ _ _ _ ?_
      simp (disch := omega) only [oAld, oCV, oGI, oGR, oIfc, oIld, oNop, oPush, oRI, hB.k, hB.r7, hW.k, hne', List.getElem?_cons_zero, List.getElem?_cons_succ, List.set_cons_zero, List.set_cons_succ, List.drop_succ_cons, List.drop_zero, List.take_succ_cons, List.take_zero, List.length_cons, List.length_nil, List.reverse_cons, List.reverse_nil, List.nil_append, List.cons_append, Option.toList_some, Option.toList_none, va_rf_s, true_and, and_true, true_implies, false_implies, not_true_eq_false, not_false_eq_true, Nat.reduceAdd, Nat.reduceLeDiff, Nat.le_add_left, Nat.zero_le, Nat.le_refl, znew, true_or, or_true, b01_t, b01_f, b01_ok, bool_ft, vp_b01, vp_b0, vp_b1, b01_eq0, b01_eq1, implies_true, nI_add, nI_clamp, zi_in, zi_le_t, zi_le_f, zi_lt_t, zi_lt_f, zi_eq_t, zi_eq_f, nI_leI, nI_ltI, nI_eq, z_in, pk_mul, zu_same, zu_rw, zu_ix, zi_ne0, zi_sub, zi_m1, Nat.add_sub_cancel, Nat.reduceMul, Nat.reduceSub]
      refine zC.of0 (zX0_home hQ' hj) (by omega) (Nat.zero_le _) (Nat.zero_le _) ?_
      rintro _ _ ⟨rfl, rfl⟩
      by_cases h0 : T (12 + j) = nI 0
      · rw [if_pos h0]
        have e1 := e71 j hj (decide_eq_true h0)
        refine sX0_best_130 _ _ _ _ _ ?_
        simp (disch := omega) only [oAld, oAld1, oGR, oIf, oIld, oNop, oPush, oRI, hB.k, hB.r14, hB.t14, hB.n14, e1, List.getElem?_cons_zero, List.getElem?_cons_succ, List.set_cons_zero, List.set_cons_succ, List.drop_succ_cons, List.drop_zero, List.take_succ_cons, List.take_zero, List.length_cons, List.length_nil, List.reverse_cons, List.reverse_nil, List.nil_append, List.cons_append, Option.toList_some, Option.toList_none, va_rf_s, true_and, and_true, true_implies, false_implies, not_true_eq_false, not_false_eq_true, Nat.reduceAdd, Nat.reduceLeDiff, Nat.le_add_left, Nat.zero_le, Nat.le_refl, znew, true_or, or_true, b01_t, b01_f, b01_ok, bool_ft, vp_b01, vp_b0, vp_b1, b01_eq0, b01_eq1, implies_true, nI_add, nI_clamp, zi_in, zi_le_t, zi_le_f, zi_lt_t, zi_lt_f, zi_eq_t, zi_eq_f, nI_leI, nI_ltI, nI_eq, z_in, pk_mul, zu_same, zu_rw, zu_ix, zi_ne0, zi_sub, zi_m1, Nat.add_sub_cancel, Nat.reduceMul, Nat.reduceSub]
        exact hVQ _ _ ⟨S', rfl, hF, rfl⟩
      · rw [if_neg h0]
        have h1 : T (12 + j) = nI 1 := by
          rcases hH j hj with q | q
          · exact absurd q h0
          · exact q
        rw [bs_home h1 _ hWy] at hVQ
        refine sX0_best_130 _ _ _ _ _ ?_
        simp (disch := omega) only [oAld, oAld1, oGR, oIf, oIld, oNop, oPush, oRI, hB.k, hB.r14, hB.t14, hB.n14, List.getElem?_cons_zero, List.getElem?_cons_succ, List.set_cons_zero, List.set_cons_succ, List.drop_succ_cons, List.drop_zero, List.take_succ_cons, List.take_zero, List.length_cons, List.length_nil, List.reverse_cons, List.reverse_nil, List.nil_append, List.cons_append, Option.toList_some, Option.toList_none, va_rf_s, true_and, and_true, true_implies, false_implies, not_true_eq_false, not_false_eq_true, Nat.reduceAdd, Nat.reduceLeDiff, Nat.le_add_left, Nat.zero_le, Nat.le_refl, znew, true_or, or_true, b01_t, b01_f, b01_ok, bool_ft, vp_b01, vp_b0, vp_b1, b01_eq0, b01_eq1, implies_true, nI_add, nI_clamp, zi_in, zi_le_t, zi_le_f, zi_lt_t, zi_lt_f, zi_eq_t, zi_eq_f, nI_leI, nI_ltI, nI_eq, z_in, pk_mul, zu_same, zu_rw, zu_ix, zi_ne0, zi_sub, zi_m1, Nat.add_sub_cancel, Nat.reduceMul, Nat.reduceSub]
        exact hVQ _ _ ⟨S', rfl, hF, rfl⟩
  have mid : ∀ S1, twF (c + 26) S S1 → tw S1 (c + 26) t (tsd t) T → (i = -1 ∨ ∃ j, j < tny t ∧ i = nI j) → zW V YX0_best 26 [some (.ref c), some (.int i), none] [] (z, h, S1, L) 0 0 := by
    intro S1 hF1 hT1 hi
    have f1 : cqF c S S1 := cqF.t hF1
    have loop2 : ∀ y, y ≤ tny t → ∀ S', (∀ a, a ≠ c → a ≠ c + 72 → S' a = S1 a) → (∀ j, j ≠ 15 → S' c j = S1 c j) → S' c 15 = -1 → (∀ q, q < tnc t → S' (c + 72) q = sumI (fun j => if laB T T 0 q j = true then T (6 + j) else nI 0) y) → zW V YX0_best 54 [some (.ref c), some (.int i), some (.int (nI y))] [] (z, h, S', L) 0 0 := by
      refine z_down ?_ (fun y hy ih => ?_)
      · intro S' g1 g2 g3 g4
        have f2 : cqF c S1 S' := ⟨fun a h1 h2 h3 => g1 a h1 (by omega), g2⟩
        have hQ' := hQ.fr (f1.tr f2)
        have hQ1 := hQ.fr f1
        have hW := hB.tn
        have r27 : ∀ j, j < tny t → S' (c + 27) j = T j := fun j hj => by
          rw [g1 _ (by omega) (by omega)]
          have := hT1.1 j (by omega)
          rw [if_pos hj] at this
          exact this
        have hs : lyS c t T S1 S' 0 (0 * wyL t T (tny t)) (0 * wyL t T (tny t)) := by
          refine ⟨f2, fun a h1 h2 h3 h4 => g1 a h1 h4, fun j hj _ => r27 j hj, fun j hj => absurd hj (by omega), fun q hq => ?_, ?_, fun h0 => absurd h0 (by omega)⟩
          · rw [g4 q hq]
            refine sumI_ext (fun j hj => ?_)
            have : laB T (S' (c + 27)) 0 q j = laB T T 0 q j := by unfold laB; rw [r27 j hj]
            show _ = if laB T (S' (c + 27)) 0 q j = true then T (6 + j) else nI 0
            rw [this]
          · rw [Nat.zero_mul, bsW_0]; exact g3
        refine sX0_best_54 _ _ _ _ _ ?_
        simp (disch := omega) only [oAld, oCV, oIld, hB.k, List.getElem?_cons_zero, List.getElem?_cons_succ, List.set_cons_zero, List.set_cons_succ, List.drop_succ_cons, List.drop_zero, List.take_succ_cons, List.take_zero, List.length_cons, List.length_nil, List.reverse_cons, List.reverse_nil, List.nil_append, List.cons_append, Option.toList_some, Option.toList_none, va_rf_s, true_and, and_true, true_implies, false_implies, not_true_eq_false, not_false_eq_true, Nat.reduceAdd, Nat.reduceLeDiff, Nat.le_add_left, Nat.zero_le, Nat.le_refl, znew, true_or, or_true, b01_t, b01_f, b01_ok, bool_ft, vp_b01, vp_b0, vp_b1, b01_eq0, b01_eq1, implies_true, nI_add, nI_clamp, zi_in, zi_le_t, zi_le_f, zi_lt_t, zi_lt_f, zi_eq_t, zi_eq_f, nI_leI, nI_ltI, nI_eq, z_in, pk_mul, zu_same, zu_rw, zu_ix, zi_ne0, zi_sub, zi_m1, Nat.add_sub_cancel, Nat.reduceMul, Nat.reduceSub]
        refine zC.of0 (zX0_youngs hQ') (by omega) (Nat.zero_le _) (Nat.zero_le _) ?_
        rintro _ _ ⟨rfl, rfl⟩
        refine sX0_best_59 _ _ _ _ _ ?_
        simp (disch := omega) only [oAld, oCV, oGR, oIfc, oIld, oPush, hB.k, hB.r7, hW.k, List.getElem?_cons_zero, List.getElem?_cons_succ, List.set_cons_zero, List.set_cons_succ, List.drop_succ_cons, List.drop_zero, List.take_succ_cons, List.take_zero, List.length_cons, List.length_nil, List.reverse_cons, List.reverse_nil, List.nil_append, List.cons_append, Option.toList_some, Option.toList_none, va_rf_s, true_and, and_true, true_implies, false_implies, not_true_eq_false, not_false_eq_true, Nat.reduceAdd, Nat.reduceLeDiff, Nat.le_add_left, Nat.zero_le, Nat.le_refl, znew, true_or, or_true, b01_t, b01_f, b01_ok, bool_ft, vp_b01, vp_b0, vp_b1, b01_eq0, b01_eq1, implies_true, nI_add, nI_clamp, zi_in, zi_le_t, zi_le_f, zi_lt_t, zi_lt_f, zi_eq_t, zi_eq_f, nI_leI, nI_ltI, nI_eq, z_in, pk_mul, zu_same, zu_rw, zu_ix, zi_ne0, zi_sub, zi_m1, Nat.add_sub_cancel, Nat.reduceMul, Nat.reduceSub]
        have hL := zX0_laysFrom (l := V.1) (E := V.2.1) (L := L) hQ1 (fun j hj => hT1.2.1 j hj) (tny t) 0 0 S' (by omega) hs
        refine zC.of0 (hL) (by omega) (Nat.zero_le _) (Nat.zero_le _) ?_
        rintro _ _ ⟨rfl, S2, rfl, ⟨b1, b2, b3, b4, b5, b6, b7⟩, -⟩
        rw [Nat.zero_add, Nat.one_mul] at b6 b7
        exact last S2 (f1.tr b1) b6 (b7 hWy) hi _
      · intro S' g1 g2 g3 g4
        have f2 : cqF c S1 S' := ⟨fun a h1 h2 h3 => g1 a h1 (by omega), g2⟩
        have hQ' := hQ.fr (f1.tr f2)
        have hW := hB.tn
        refine sX0_best_54 _ _ _ _ _ ?_
        simp (disch := omega) only [oAld, oCV, oIld, hB.k, List.getElem?_cons_zero, List.getElem?_cons_succ, List.set_cons_zero, List.set_cons_succ, List.drop_succ_cons, List.drop_zero, List.take_succ_cons, List.take_zero, List.length_cons, List.length_nil, List.reverse_cons, List.reverse_nil, List.nil_append, List.cons_append, Option.toList_some, Option.toList_none, va_rf_s, true_and, and_true, true_implies, false_implies, not_true_eq_false, not_false_eq_true, Nat.reduceAdd, Nat.reduceLeDiff, Nat.le_add_left, Nat.zero_le, Nat.le_refl, znew, true_or, or_true, b01_t, b01_f, b01_ok, bool_ft, vp_b01, vp_b0, vp_b1, b01_eq0, b01_eq1, implies_true, nI_add, nI_clamp, zi_in, zi_le_t, zi_le_f, zi_lt_t, zi_lt_f, zi_eq_t, zi_eq_f, nI_leI, nI_ltI, nI_eq, z_in, pk_mul, zu_same, zu_rw, zu_ix, zi_ne0, zi_sub, zi_m1, Nat.add_sub_cancel, Nat.reduceMul, Nat.reduceSub]
        refine zC.of0 (zX0_youngs hQ') (by omega) (Nat.zero_le _) (Nat.zero_le _) ?_
        rintro _ _ ⟨rfl, rfl⟩
        refine sX0_best_59 _ _ _ _ _ ?_
        simp (disch := omega) only [oAld, oCV, oGR, oIfc, oIld, oPush, hB.k, hB.r7, hW.k, List.getElem?_cons_zero, List.getElem?_cons_succ, List.set_cons_zero, List.set_cons_succ, List.drop_succ_cons, List.drop_zero, List.take_succ_cons, List.take_zero, List.length_cons, List.length_nil, List.reverse_cons, List.reverse_nil, List.nil_append, List.cons_append, Option.toList_some, Option.toList_none, va_rf_s, true_and, and_true, true_implies, false_implies, not_true_eq_false, not_false_eq_true, Nat.reduceAdd, Nat.reduceLeDiff, Nat.le_add_left, Nat.zero_le, Nat.le_refl, znew, true_or, or_true, b01_t, b01_f, b01_ok, bool_ft, vp_b01, vp_b0, vp_b1, b01_eq0, b01_eq1, implies_true, nI_add, nI_clamp, zi_in, zi_le_t, zi_le_f, zi_lt_t, zi_lt_f, zi_eq_t, zi_eq_f, nI_leI, nI_ltI, nI_eq, z_in, pk_mul, zu_same, zu_rw, zu_ix, zi_ne0, zi_sub, zi_m1, Nat.add_sub_cancel, Nat.reduceMul, Nat.reduceSub]
        refine zC.of0 (zX0_home hQ' hy) (by omega) (Nat.zero_le _) (Nat.zero_le _) ?_
        rintro _ _ ⟨rfl, rfl⟩
        obtain ⟨ea, la⟩ := hC y hy
        by_cases h0 : T (12 + y) = nI 0
        · rw [if_pos h0]
          refine sX0_best_70 _ _ _ _ _ ?_
          simp (disch := omega) only [oAld, oAld1, oAst1, oBin, oDup2, oGR, oIf, oIld, oInc, oNop, hB.k, hB.r16, hB.t16, hB.n16, hB.r8, hW.k, hW.r0, hW.t0, hW.n0, hW.r1, hW.t1, hW.n1, List.getElem?_cons_zero, List.getElem?_cons_succ, List.set_cons_zero, List.set_cons_succ, List.drop_succ_cons, List.drop_zero, List.take_succ_cons, List.take_zero, List.length_cons, List.length_nil, List.reverse_cons, List.reverse_nil, List.nil_append, List.cons_append, Option.toList_some, Option.toList_none, va_rf_s, true_and, and_true, true_implies, false_implies, not_true_eq_false, not_false_eq_true, Nat.reduceAdd, Nat.reduceLeDiff, Nat.le_add_left, Nat.zero_le, Nat.le_refl, znew, true_or, or_true, b01_t, b01_f, b01_ok, bool_ft, vp_b01, vp_b0, vp_b1, b01_eq0, b01_eq1, implies_true, nI_add, nI_clamp, zi_in, zi_le_t, zi_le_f, zi_lt_t, zi_lt_f, zi_eq_t, zi_eq_f, nI_leI, nI_ltI, nI_eq, z_in, pk_mul, zu_same, zu_rw, zu_ix, zi_ne0, zi_sub, zi_m1, Nat.add_sub_cancel, Nat.reduceMul, Nat.reduceSub]
          refine ih _ g1 g2 g3 (fun q hq => ?_)
          have : laB T T 0 q y = false := by unfold laB; rw [show outF T y = true from decide_eq_true h0]; rfl
          rw [g4 q hq, sumI, this, if_neg (by decide), i_add0]
        · rw [if_neg h0]
          have hW := hB.tr
          have e1 : S' (c + 26 + 1) y = nI (at' y) := by
            rw [g1 _ (by omega) (by omega)]
            have := hT1.1 y (by omega)
            rw [if_pos hy] at this
            rw [← ea]; exact this
          have e2 : S' (c + 26 + 2) y = T (6 + y) := by
            rw [g1 _ (by omega) (by omega)]; exact hT1.2.1 y (by omega)
          generalize at' y = p at ea la e1
          refine sX0_best_70 _ _ _ _ _ ?_
          simp (disch := omega) only [oAld, oAld1, oAst1, oBin, oDup2, oGR, oIf, oIld, oInc, oNop, hB.k, hB.r16, hB.t16, hB.n16, hB.r8, hW.k, hW.r0, hW.t0, hW.n0, hW.r1, hW.t1, hW.n1, e1, e2, List.getElem?_cons_zero, List.getElem?_cons_succ, List.set_cons_zero, List.set_cons_succ, List.drop_succ_cons, List.drop_zero, List.take_succ_cons, List.take_zero, List.length_cons, List.length_nil, List.reverse_cons, List.reverse_nil, List.nil_append, List.cons_append, Option.toList_some, Option.toList_none, va_rf_s, true_and, and_true, true_implies, false_implies, not_true_eq_false, not_false_eq_true, Nat.reduceAdd, Nat.reduceLeDiff, Nat.le_add_left, Nat.zero_le, Nat.le_refl, znew, true_or, or_true, b01_t, b01_f, b01_ok, bool_ft, vp_b01, vp_b0, vp_b1, b01_eq0, b01_eq1, implies_true, nI_add, nI_clamp, zi_in, zi_le_t, zi_le_f, zi_lt_t, zi_lt_f, zi_eq_t, zi_eq_f, nI_leI, nI_ltI, nI_eq, z_in, pk_mul, zu_same, zu_rw, zu_ix, zi_ne0, zi_sub, zi_m1, Nat.add_sub_cancel, Nat.reduceMul, Nat.reduceSub]
          refine ih _ (fun a h1 h2 => by rw [zu_rw _ _ h2]; exact g1 a h1 h2) (fun j hj => by rw [zu_rw _ _ (by omega)]; exact g2 j hj) (by rw [zu_rw _ _ (by omega)]; exact g3) (fun q hq => ?_)
          have hla : laB T T 0 q y = decide (q = p) := by
            unfold laB
            rw [show outF T y = false from decide_eq_false h0, ea]
            show (true && _) = _
            rw [Bool.true_and]
            congr 1
            rw [nI_eq (by omega) (by omega)]
            exact propext ⟨Eq.symm, Eq.symm⟩
          rw [sumI, hla, ← g4 q hq]
          by_cases e : q = p
          · rw [decide_eq_true e, if_pos rfl, e, zu_same]
          · rw [decide_eq_false e, if_neg (by decide), i_add0, zu_ix _ _ e]
    have loop1 : ∀ q, q ≤ 7 → ∀ S', (∀ a, a ≠ c → a ≠ c + 72 → S' a = S1 a) → (∀ j, j ≠ 15 → S' c j = S1 c j) → S' c 15 = -1 → (∀ j, j < q → S' (c + 72) j = nI 0) → zW V YX0_best 33 [some (.ref c), some (.int i), some (.int (nI q))] [] (z, h, S', L) 0 0 := by
      refine z_down ?_ (fun q hq ih => ?_)
      · intro S' g1 g2 g3 g4
        refine sX0_best_33 _ _ _ _ _ ?_
        simp (disch := omega) only [oAld, oAst1, oGR, oIfc, oIld, oInc, oIst, oNop, oPush, hB.k, hB.r16, hB.t16, hB.n16, List.getElem?_cons_zero, List.getElem?_cons_succ, List.set_cons_zero, List.set_cons_succ, List.drop_succ_cons, List.drop_zero, List.take_succ_cons, List.take_zero, List.length_cons, List.length_nil, List.reverse_cons, List.reverse_nil, List.nil_append, List.cons_append, Option.toList_some, Option.toList_none, va_rf_s, true_and, and_true, true_implies, false_implies, not_true_eq_false, not_false_eq_true, Nat.reduceAdd, Nat.reduceLeDiff, Nat.le_add_left, Nat.zero_le, Nat.le_refl, znew, true_or, or_true, b01_t, b01_f, b01_ok, bool_ft, vp_b01, vp_b0, vp_b1, b01_eq0, b01_eq1, implies_true, nI_add, nI_clamp, zi_in, zi_le_t, zi_le_f, zi_lt_t, zi_lt_f, zi_eq_t, zi_eq_f, nI_leI, nI_ltI, nI_eq, z_in, pk_mul, zu_same, zu_rw, zu_ix, zi_ne0, zi_sub, zi_m1, Nat.add_sub_cancel, Nat.reduceMul, Nat.reduceSub]
        exact loop2 0 (by omega) S' g1 g2 g3 (fun q hq => g4 q (by omega))
      · intro S' g1 g2 g3 g4
        refine sX0_best_33 _ _ _ _ _ ?_
        simp (disch := omega) only [oAld, oAst1, oGR, oIfc, oIld, oInc, oIst, oNop, oPush, hB.k, hB.r16, hB.t16, hB.n16, List.getElem?_cons_zero, List.getElem?_cons_succ, List.set_cons_zero, List.set_cons_succ, List.drop_succ_cons, List.drop_zero, List.take_succ_cons, List.take_zero, List.length_cons, List.length_nil, List.reverse_cons, List.reverse_nil, List.nil_append, List.cons_append, Option.toList_some, Option.toList_none, va_rf_s, true_and, and_true, true_implies, false_implies, not_true_eq_false, not_false_eq_true, Nat.reduceAdd, Nat.reduceLeDiff, Nat.le_add_left, Nat.zero_le, Nat.le_refl, znew, true_or, or_true, b01_t, b01_f, b01_ok, bool_ft, vp_b01, vp_b0, vp_b1, b01_eq0, b01_eq1, implies_true, nI_add, nI_clamp, zi_in, zi_le_t, zi_le_f, zi_lt_t, zi_lt_f, zi_eq_t, zi_eq_f, nI_leI, nI_ltI, nI_eq, z_in, pk_mul, zu_same, zu_rw, zu_ix, zi_ne0, zi_sub, zi_m1, Nat.add_sub_cancel, Nat.reduceMul, Nat.reduceSub]
        refine ih _ (fun a h1 h2 => by rw [zu_rw _ _ h2]; exact g1 a h1 h2) (fun j hj => by rw [zu_rw _ _ (by omega)]; exact g2 j hj) (by rw [zu_rw _ _ (by omega)]; exact g3) (fun j hj => ?_)
        by_cases e : j = q
        · rw [e, zu_same]
        · rw [zu_ix _ _ e]; exact g4 j (by omega)
    refine sX0_best_26 _ _ _ _ _ ?_
    simp (disch := omega) only [oAld, oIst, oPI, oPush, hB.k, List.getElem?_cons_zero, List.getElem?_cons_succ, List.set_cons_zero, List.set_cons_succ, List.drop_succ_cons, List.drop_zero, List.take_succ_cons, List.take_zero, List.length_cons, List.length_nil, List.reverse_cons, List.reverse_nil, List.nil_append, List.cons_append, Option.toList_some, Option.toList_none, va_rf_s, true_and, and_true, true_implies, false_implies, not_true_eq_false, not_false_eq_true, Nat.reduceAdd, Nat.reduceLeDiff, Nat.le_add_left, Nat.zero_le, Nat.le_refl, znew, true_or, or_true, b01_t, b01_f, b01_ok, bool_ft, vp_b01, vp_b0, vp_b1, b01_eq0, b01_eq1, implies_true, nI_add, nI_clamp, zi_in, zi_le_t, zi_le_f, zi_lt_t, zi_lt_f, zi_eq_t, zi_eq_f, nI_leI, nI_ltI, nI_eq, z_in, pk_mul, zu_same, zu_rw, zu_ix, zi_ne0, zi_sub, zi_m1, Nat.add_sub_cancel, Nat.reduceMul, Nat.reduceSub]
    exact loop1 0 (by omega) _ (fun a h1 h2 => zu_rw _ _ h1) (fun j hj => zu_ix _ _ hj) (zu_same _ _ _ _) (fun j hj => absurd hj (by omega))
  have hW := hB.tr
  by_cases him : i = -1
  · subst him
    refine sX0_best_0 _ _ _ _ _ ?_
    simp (disch := omega) only [oAld, oCV, oGR, oIfc, oIld, oPush, hB.k, hB.r8, hB.r7, hW.k, List.getElem?_cons_zero, List.getElem?_cons_succ, List.set_cons_zero, List.set_cons_succ, List.drop_succ_cons, List.drop_zero, List.take_succ_cons, List.take_zero, List.length_cons, List.length_nil, List.reverse_cons, List.reverse_nil, List.nil_append, List.cons_append, Option.toList_some, Option.toList_none, va_rf_s, true_and, and_true, true_implies, false_implies, not_true_eq_false, not_false_eq_true, Nat.reduceAdd, Nat.reduceLeDiff, Nat.le_add_left, Nat.zero_le, Nat.le_refl, znew, true_or, or_true, b01_t, b01_f, b01_ok, bool_ft, vp_b01, vp_b0, vp_b1, b01_eq0, b01_eq1, implies_true, nI_add, nI_clamp, zi_in, zi_le_t, zi_le_f, zi_lt_t, zi_lt_f, zi_eq_t, zi_eq_f, nI_leI, nI_ltI, nI_eq, z_in, pk_mul, zu_same, zu_rw, zu_ix, zi_ne0, zi_sub, zi_m1, Nat.add_sub_cancel, Nat.reduceMul, Nat.reduceSub]
    refine zC.of0 (zX5_takes hW hB.tn (Or.inl (by omega))) (by omega) (Nat.zero_le _) (Nat.zero_le _) ?_
    rintro _ _ ⟨rfl, S1, rfl, hF, hTT⟩
    exact mid S1 hF (hTT _ _ _ hT) (Or.inl rfl)
  · have him' : (i = -1) = False := eq_false him
    refine sX0_best_0 _ _ _ _ _ ?_
    simp (disch := omega) only [oAld, oCV, oGR, oIfc, oIld, oPush, hB.k, hB.r8, hB.r7, hW.k, him', List.getElem?_cons_zero, List.getElem?_cons_succ, List.set_cons_zero, List.set_cons_succ, List.drop_succ_cons, List.drop_zero, List.take_succ_cons, List.take_zero, List.length_cons, List.length_nil, List.reverse_cons, List.reverse_nil, List.nil_append, List.cons_append, Option.toList_some, Option.toList_none, va_rf_s, true_and, and_true, true_implies, false_implies, not_true_eq_false, not_false_eq_true, Nat.reduceAdd, Nat.reduceLeDiff, Nat.le_add_left, Nat.zero_le, Nat.le_refl, znew, true_or, or_true, b01_t, b01_f, b01_ok, bool_ft, vp_b01, vp_b0, vp_b1, b01_eq0, b01_eq1, implies_true, nI_add, nI_clamp, zi_in, zi_le_t, zi_le_f, zi_lt_t, zi_lt_f, zi_eq_t, zi_eq_f, nI_leI, nI_ltI, nI_eq, z_in, pk_mul, zu_same, zu_rw, zu_ix, zi_ne0, zi_sub, zi_m1, Nat.add_sub_cancel, Nat.reduceMul, Nat.reduceSub]
    refine zC.of0 (zX0_isYoung hQ _) (by omega) (Nat.zero_le _) (Nat.zero_le _) ?_
    rintro _ _ ⟨rfl, rfl⟩
    cases hok : okI i (tny t) with
    | false =>
      refine sX0_best_10 _ _ _ _ _ ?_
      simp (disch := omega) only [oAld, oCV, oGR, oIf, oPush, oRI, hB.k, hB.r8, hB.r7, hW.k, List.getElem?_cons_zero, List.getElem?_cons_succ, List.set_cons_zero, List.set_cons_succ, List.drop_succ_cons, List.drop_zero, List.take_succ_cons, List.take_zero, List.length_cons, List.length_nil, List.reverse_cons, List.reverse_nil, List.nil_append, List.cons_append, Option.toList_some, Option.toList_none, va_rf_s, true_and, and_true, true_implies, false_implies, not_true_eq_false, not_false_eq_true, Nat.reduceAdd, Nat.reduceLeDiff, Nat.le_add_left, Nat.zero_le, Nat.le_refl, znew, true_or, or_true, b01_t, b01_f, b01_ok, bool_ft, vp_b01, vp_b0, vp_b1, b01_eq0, b01_eq1, implies_true, nI_add, nI_clamp, zi_in, zi_le_t, zi_le_f, zi_lt_t, zi_lt_f, zi_eq_t, zi_eq_f, nI_leI, nI_ltI, nI_eq, z_in, pk_mul, zu_same, zu_rw, zu_ix, zi_ne0, zi_sub, zi_m1, Nat.add_sub_cancel, Nat.reduceMul, Nat.reduceSub]
      exact hVQ _ _ ⟨S, rfl, cqF.rf, by rw [bestR, if_neg him, if_neg (by rw [hok]; decide)]⟩
    | true =>
      obtain ⟨j, hj, e⟩ := (okI_iff (by omega)).mp hok
      refine sX0_best_10 _ _ _ _ _ ?_
      simp (disch := omega) only [oAld, oCV, oGR, oIf, oPush, oRI, hB.k, hB.r8, hB.r7, hW.k, List.getElem?_cons_zero, List.getElem?_cons_succ, List.set_cons_zero, List.set_cons_succ, List.drop_succ_cons, List.drop_zero, List.take_succ_cons, List.take_zero, List.length_cons, List.length_nil, List.reverse_cons, List.reverse_nil, List.nil_append, List.cons_append, Option.toList_some, Option.toList_none, va_rf_s, true_and, and_true, true_implies, false_implies, not_true_eq_false, not_false_eq_true, Nat.reduceAdd, Nat.reduceLeDiff, Nat.le_add_left, Nat.zero_le, Nat.le_refl, znew, true_or, or_true, b01_t, b01_f, b01_ok, bool_ft, vp_b01, vp_b0, vp_b1, b01_eq0, b01_eq1, implies_true, nI_add, nI_clamp, zi_in, zi_le_t, zi_le_f, zi_lt_t, zi_lt_f, zi_eq_t, zi_eq_f, nI_leI, nI_ltI, nI_eq, z_in, pk_mul, zu_same, zu_rw, zu_ix, zi_ne0, zi_sub, zi_m1, Nat.add_sub_cancel, Nat.reduceMul, Nat.reduceSub]
      refine zC.of0 (zX5_takes hW hB.tn (Or.inl (by omega))) (by omega) (Nat.zero_le _) (Nat.zero_le _) ?_
      rintro _ _ ⟨rfl, S1, rfl, hF, hTT⟩
      exact mid S1 hF (hTT _ _ _ hT) (Or.inr ⟨j, hj, e⟩)
end DD
