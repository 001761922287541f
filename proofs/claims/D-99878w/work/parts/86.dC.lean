/-! the component: laysFrom, all of it -/
section DC
variable {l : Launch} {E : zE} {z : Nat} {h : Nat → Option zSh} {S S0 : Nat → Nat → Int32} {L : Nat → Nat → Int64} {c D ta : Nat} {t : ZT} {q0 T : Nat → Int32} {A : zTA}
theorem zX0_laysFrom (hQ0 : cQ h S0 c z D ta t q0 A T) (hg : ∀ j, j < 6 → S0 (c + 28) j = T (6 + j)) : ∀ m y p S, y + m = tny t → lyS c t T S0 S y (p * wyL t T m) (p * wyL t T m) → zM l E (4 + m) YX0_laysFrom [.ref c, .int (nI y)] (z, h, S, L) 0 0 (fun r X => r = none ∧ ∃ S', X = (z, h, S', L) ∧ lyS c t T S0 S' y (p * wyL t T m) ((p + 1) * wyL t T m) ∧ ∀ j, j < y → S' (c + 27) j = S (c + 27) j) (fun _ _ => False) := by
  obtain ⟨hB, hTa, hX, hT, hI, hTI⟩ := id hQ0
  obtain ⟨h7, h10, h6, h5⟩ := hX.b
  obtain ⟨at', hC⟩ := hI.2.2.2.2.1
  intro m
  induction m with
  | zero =>
    intro y p S hy hs
    obtain rfl : y = tny t := by omega
    rw [show wyL t T 0 = 1 from rfl, Nat.mul_one] at hs
    rw [show wyL t T 0 = 1 from rfl, Nat.mul_one, Nat.mul_one]
    exact (zX0_leaf hQ0 hs).weak (fun r X ⟨e1, S', e2, e3, e4⟩ => ⟨e1, S', e2, e3, fun j _ => by rw [e4]⟩)
  | succ m ih =>
    intro y p S hy hs
    have hyN : y < tny t := by omega
    have hW := hB.tr
    have hQ := hQ0.fr hs.1
    have hn : 0 < tnc t := by have := (hC y hyN).2; omega
    have ei : tny t - m - 1 = y := by omega
    refine zM.go rfl rfl (Nat.le_of_ble_eq_true rfl) (ls := [some (.ref c), some (.int (nI y)), none, none]) rfl ?_
    intro V hVl hVE hVd hVc hVs hVQ hVX
    refine sX0_laysFrom_0 _ _ _ _ _ ?_
    simp (disch := omega) only [oAld, oCV, oIld, hB.k, List.getElem?_cons_zero, List.getElem?_cons_succ, List.set_cons_zero, List.set_cons_succ, List.drop_succ_cons, List.drop_zero, List.take_succ_cons, List.take_zero, List.length_cons, List.length_nil, List.reverse_cons, List.reverse_nil, List.nil_append, List.cons_append, Option.toList_some, Option.toList_none, va_rf_s, true_and, and_true, true_implies, false_implies, not_true_eq_false, not_false_eq_true, Nat.reduceAdd, Nat.reduceLeDiff, Nat.le_add_left, Nat.zero_le, Nat.le_refl, znew, true_or, or_true, b01_t, b01_f, b01_ok, bool_ft, vp_b01, vp_b0, vp_b1, b01_eq0, b01_eq1, implies_true, nI_add, nI_clamp, zi_in, zi_le_t, zi_le_f, zi_lt_t, zi_lt_f, zi_eq_t, zi_eq_f, nI_leI, nI_ltI, nI_eq, z_in, pk_mul, zu_same, zu_rw, zu_ix, zi_ne0, zi_sub, zi_m1, Nat.add_sub_cancel, Nat.reduceMul, Nat.reduceSub]
    refine zC.of0 (zX0_youngs hQ) (by omega) (Nat.zero_le _) (Nat.zero_le _) ?_
    rintro _ _ ⟨rfl, rfl⟩
    have hW := hB.tn
    refine sX0_laysFrom_5 _ _ _ _ _ ?_
    simp (disch := omega) only [oAld, oCV, oGR, oIfc, oIld, hB.k, hB.r7, hW.k, List.getElem?_cons_zero, List.getElem?_cons_succ, List.set_cons_zero, List.set_cons_succ, List.drop_succ_cons, List.drop_zero, List.take_succ_cons, List.take_zero, List.length_cons, List.length_nil, List.reverse_cons, List.reverse_nil, List.nil_append, List.cons_append, Option.toList_some, Option.toList_none, va_rf_s, true_and, and_true, true_implies, false_implies, not_true_eq_false, not_false_eq_true, Nat.reduceAdd, Nat.reduceLeDiff, Nat.le_add_left, Nat.zero_le, Nat.le_refl, znew, true_or, or_true, b01_t, b01_f, b01_ok, bool_ft, vp_b01, vp_b0, vp_b1, b01_eq0, b01_eq1, implies_true, nI_add, nI_clamp, zi_in, zi_le_t, zi_le_f, zi_lt_t, zi_lt_f, zi_eq_t, zi_eq_f, nI_leI, nI_ltI, nI_eq, z_in, pk_mul, zu_same, zu_rw, zu_ix, zi_ne0, zi_sub, zi_m1, Nat.add_sub_cancel, Nat.reduceMul, Nat.reduceSub]
    refine zC.of0 (zX0_home hQ hyN) (by omega) (Nat.zero_le _) (Nat.zero_le _) ?_
    rintro _ _ ⟨rfl, rfl⟩
    by_cases h0 : T (12 + y) = nI 0
    · have ho : outF T y = true := decide_eq_true h0
      have ew : wyL t T (m + 1) = tnc t * wyL t T m := by rw [wyL, ei, if_pos ho]
      have e28 : ∀ S' : Nat → Nat → Int32, (∀ a, a ≠ c → a ≠ c + 27 → a ≠ c + 71 → a ≠ c + 72 → S' a = S0 a) → S' (c + 28) y = T (6 + y) := fun S' hS' => by rw [hS' _ (by omega) (by omega) (by omega) (by omega)]; exact hg y (by omega)
      have loop : ∀ q, q ≤ tnc t → ∀ S' x3, lyS c t T S0 S' y (p * wyL t T (m + 1)) ((p * tnc t + q) * wyL t T m) → (∀ j, j < y → S' (c + 27) j = S (c + 27) j) → zW V YX0_laysFrom 78 [some (.ref c), some (.int (nI y)), some (.int (nI q)), x3] [] (z, h, S', L) 0 0 := by
        refine z_down ?_ (fun q hq ihq => ?_)
        · intro S' x3 hs' hk
          have hQ' := hQ0.fr hs'.1
          refine sX0_laysFrom_78 _ _ _ _ _ ?_
          simp (disch := omega) only [oAld, oCV, oIld, hB.k, List.getElem?_cons_zero, List.getElem?_cons_succ, List.set_cons_zero, List.set_cons_succ, List.drop_succ_cons, List.drop_zero, List.take_succ_cons, List.take_zero, List.length_cons, List.length_nil, List.reverse_cons, List.reverse_nil, List.nil_append, List.cons_append, Option.toList_some, Option.toList_none, va_rf_s, true_and, and_true, true_implies, false_implies, not_true_eq_false, not_false_eq_true, Nat.reduceAdd, Nat.reduceLeDiff, Nat.le_add_left, Nat.zero_le, Nat.le_refl, znew, true_or, or_true, b01_t, b01_f, b01_ok, bool_ft, vp_b01, vp_b0, vp_b1, b01_eq0, b01_eq1, implies_true, nI_add, nI_clamp, zi_in, zi_le_t, zi_le_f, zi_lt_t, zi_lt_f, zi_eq_t, zi_eq_f, nI_leI, nI_ltI, nI_eq, z_in, pk_mul, zu_same, zu_rw, zu_ix, zi_ne0, zi_sub, zi_m1, Nat.add_sub_cancel, Nat.reduceMul, Nat.reduceSub]
          refine zC.of0 (zX0_corners hQ') (by omega) (Nat.zero_le _) (Nat.zero_le _) ?_
          rintro _ _ ⟨rfl, rfl⟩
          refine sX0_laysFrom_83 _ _ _ _ _ ?_
          simp (disch := omega) only [oAld, oCV, oGI, oIfc, oRV, hB.k, List.getElem?_cons_zero, List.getElem?_cons_succ, List.set_cons_zero, List.set_cons_succ, List.drop_succ_cons, List.drop_zero, List.take_succ_cons, List.take_zero, List.length_cons, List.length_nil, List.reverse_cons, List.reverse_nil, List.nil_append, List.cons_append, Option.toList_some, Option.toList_none, va_rf_s, true_and, and_true, true_implies, false_implies, not_true_eq_false, not_false_eq_true, Nat.reduceAdd, Nat.reduceLeDiff, Nat.le_add_left, Nat.zero_le, Nat.le_refl, znew, true_or, or_true, b01_t, b01_f, b01_ok, bool_ft, vp_b01, vp_b0, vp_b1, b01_eq0, b01_eq1, implies_true, nI_add, nI_clamp, zi_in, zi_le_t, zi_le_f, zi_lt_t, zi_lt_f, zi_eq_t, zi_eq_f, nI_leI, nI_ltI, nI_eq, z_in, pk_mul, zu_same, zu_rw, zu_ix, zi_ne0, zi_sub, zi_m1, Nat.add_sub_cancel, Nat.reduceMul, Nat.reduceSub]
          refine hVQ _ _ ⟨rfl, S', rfl, ?_, hk⟩
          have e : (p + 1) * wyL t T (m + 1) = (p * tnc t + tnc t) * wyL t T m := by rw [ew, ← Nat.mul_assoc, Nat.add_mul, Nat.one_mul]
          rw [e]; exact hs'
        · intro S' x3 hs' hk
          have hQ' := hQ0.fr hs'.1
          obtain ⟨a1, a2, a3, a4, a5, a6, a7⟩ := id hs'
          have e28' : S' (c + 26 + 2) y = T (6 + y) := e28 S' a2
          have eK : (p + 1) * wyL t T (m + 1) = (p * tnc t + q) * wyL t T m + (tnc t - q) * wyL t T m := by
            rw [← Nat.add_mul, ew, ← Nat.mul_assoc, Nat.add_mul, Nat.one_mul, Nat.add_assoc, show q + (tnc t - q) = tnc t by omega]
          have hW := hB.tr
          have hs2 : lyS c t T S0 (zu (zu S' (c + 26 + 1) y (nI q)) (c + 72) q (S' (c + 72) q + T (6 + y))) (y + 1) ((p * tnc t + q) * wyL t T m) ((p * tnc t + q) * wyL t T m) := by
            have r27 : ∀ j, zu (zu S' (c + 26 + 1) y (nI q)) (c + 72) q (S' (c + 72) q + T (6 + y)) (c + 27) j = if j = y then nI q else S' (c + 27) j := fun j => by
              rw [zu_rw _ _ (by omega)]
              by_cases e : j = y
              · rw [if_pos e, e]; exact zu_same _ _ _ _
              · rw [if_neg e]; exact zu_ix _ _ e
            have rO : ∀ a, a ≠ c + 27 → a ≠ c + 72 → zu (zu S' (c + 26 + 1) y (nI q)) (c + 72) q (S' (c + 72) q + T (6 + y)) a = S' a := fun a h1 h2 => by rw [zu_rw _ _ h2, zu_rw _ _ h1]
            refine ⟨a1.tr ⟨fun a h1 h2 h3 => rO a (by omega) (by omega), fun j _ => by rw [rO c (by omega) (by omega)]⟩, fun a h1 h2 h3 h4 => (rO a h2 h4).trans (a2 a h1 h2 h3 h4), fun j hj hoj => ?_, fun j hj hoj => ?_, fun r hr => ?_, ?_, fun hk' j hj hoj => ?_⟩
            · rw [r27, if_neg (fun e => by rw [e, ho] at hoj; cases hoj)]; exact a3 j hj hoj
            · rw [r27]
              by_cases e : j = y
              · rw [if_pos e, e]
                have := dig_y (T := T) hn (p := p) (q := q) (m := m) hq (by omega)
                rw [show tny t - 1 - m = y by omega] at this
                rw [this]
              · rw [if_neg e, a4 j (by omega) hoj, dig_e hn hq (by omega) (by rw [ei]; exact ho) (by omega)]
            · have := la_add (t := t) (T := T) (R := S' (c + 27)) (R' := zu (zu S' (c + 26 + 1) y (nI q)) (c + 72) q (S' (c + 72) q + T (6 + y)) (c + 27)) (y := y) (cn := r) (q := q) hyN ho (by omega) (by omega) (by rw [r27, if_pos rfl]) (fun j hj => by rw [r27, if_neg hj])
              rw [this, ← a5 r hr]
              by_cases e : r = q
              · rw [if_pos e, e]; exact zu_same _ _ _ _
              · rw [if_neg e, i_add0, zu_ix _ _ e, zu_rw _ _ (by omega)]
            · rw [rO c (by omega) (by omega)]; exact a6
            · rw [rO _ (by omega) (by omega)]; exact a7 hk' j hj hoj
          have ih1 := ih (y + 1) (p * tnc t + q) _ (by omega) hs2
          rw [← hVl, ← hVE] at ih1
          refine sX0_laysFrom_78 _ _ _ _ _ ?_
          simp (disch := omega) only [oAld, oCV, oIld, hB.k, List.getElem?_cons_zero, List.getElem?_cons_succ, List.set_cons_zero, List.set_cons_succ, List.drop_succ_cons, List.drop_zero, List.take_succ_cons, List.take_zero, List.length_cons, List.length_nil, List.reverse_cons, List.reverse_nil, List.nil_append, List.cons_append, Option.toList_some, Option.toList_none, va_rf_s, true_and, and_true, true_implies, false_implies, not_true_eq_false, not_false_eq_true, Nat.reduceAdd, Nat.reduceLeDiff, Nat.le_add_left, Nat.zero_le, Nat.le_refl, znew, true_or, or_true, b01_t, b01_f, b01_ok, bool_ft, vp_b01, vp_b0, vp_b1, b01_eq0, b01_eq1, implies_true, nI_add, nI_clamp, zi_in, zi_le_t, zi_le_f, zi_lt_t, zi_lt_f, zi_eq_t, zi_eq_f, nI_leI, nI_ltI, nI_eq, z_in, pk_mul, zu_same, zu_rw, zu_ix, zi_ne0, zi_sub, zi_m1, Nat.add_sub_cancel, Nat.reduceMul, Nat.reduceSub]
          refine zC.of0 (zX0_corners hQ') (by omega) (Nat.zero_le _) (Nat.zero_le _) ?_
          rintro _ _ ⟨rfl, rfl⟩
          generalize hmo : (bsW t T ((p * tnc t + q) * wyL t T m)).1 = mo at a6
          refine sX0_laysFrom_83 _ _ _ _ _ ?_
          simp (disch := omega) only [oAld, oCV, oGI, oIfc, oRV, hB.k, a6, List.getElem?_cons_zero, List.getElem?_cons_succ, List.set_cons_zero, List.set_cons_succ, List.drop_succ_cons, List.drop_zero, List.take_succ_cons, List.take_zero, List.length_cons, List.length_nil, List.reverse_cons, List.reverse_nil, List.nil_append, List.cons_append, Option.toList_some, Option.toList_none, va_rf_s, true_and, and_true, true_implies, false_implies, not_true_eq_false, not_false_eq_true, Nat.reduceAdd, Nat.reduceLeDiff, Nat.le_add_left, Nat.zero_le, Nat.le_refl, znew, true_or, or_true, b01_t, b01_f, b01_ok, bool_ft, vp_b01, vp_b0, vp_b1, b01_eq0, b01_eq1, implies_true, nI_add, nI_clamp, zi_in, zi_le_t, zi_le_f, zi_lt_t, zi_lt_f, zi_eq_t, zi_eq_f, nI_leI, nI_ltI, nI_eq, z_in, pk_mul, zu_same, zu_rw, zu_ix, zi_ne0, zi_sub, zi_m1, Nat.add_sub_cancel, Nat.reduceMul, Nat.reduceSub]
          refine zC.of0 (zX0_streets hQ') (by omega) (Nat.zero_le _) (Nat.zero_le _) ?_
          rintro _ _ ⟨rfl, rfl⟩
          refine sX0_laysFrom_94 _ _ _ _ _ ?_
          simp (disch := omega) only [oAld, oAld1, oAst1, oBin, oCV, oDup2, oGR, oIfc, oIld, oPush, oRV, hB.k, hB.r8, hW.k, hW.r0, hW.t0, hW.n0, hB.r16, hB.t16, hB.n16, hW.r1, hW.t1, hW.n1, e28', List.getElem?_cons_zero, List.getElem?_cons_succ, List.set_cons_zero, List.set_cons_succ, List.drop_succ_cons, List.drop_zero, List.take_succ_cons, List.take_zero, List.length_cons, List.length_nil, List.reverse_cons, List.reverse_nil, List.nil_append, List.cons_append, Option.toList_some, Option.toList_none, va_rf_s, true_and, and_true, true_implies, false_implies, not_true_eq_false, not_false_eq_true, Nat.reduceAdd, Nat.reduceLeDiff, Nat.le_add_left, Nat.zero_le, Nat.le_refl, znew, true_or, or_true, b01_t, b01_f, b01_ok, bool_ft, vp_b01, vp_b0, vp_b1, b01_eq0, b01_eq1, implies_true, nI_add, nI_clamp, zi_in, zi_le_t, zi_le_f, zi_lt_t, zi_lt_f, zi_eq_t, zi_eq_f, nI_leI, nI_ltI, nI_eq, z_in, pk_mul, zu_same, zu_rw, zu_ix, zi_ne0, zi_sub, zi_m1, Nat.add_sub_cancel, Nat.reduceMul, Nat.reduceSub]
          refine ⟨fun h1 => ?_, fun h1 => ?_⟩
          · have hfu : bsW t T ((p + 1) * wyL t T (m + 1)) = bsW t T ((p * tnc t + q) * wyL t T m) := by rw [eK]; exact bs_full h10 (by rw [hmo]; exact h1) _
            have hpos : 0 < (p * tnc t + q) * wyL t T m := by
              rcases Nat.eq_zero_or_pos ((p * tnc t + q) * wyL t T m) with e0 | e0
              · rw [e0, bsW_0] at hmo
                rw [← hmo, Int32.le_iff_toInt_le, nI_toInt (by omega)] at h1
                exact absurd h1 (by simp; omega)
              · exact e0
            exact hVQ _ _ ⟨rfl, S', rfl, ⟨a1, a2, a3, a4, a5, by rw [hfu, hmo]; exact a6, fun _ j hj hoj => by rw [hfu]; exact a7 hpos j hj hoj⟩, hk⟩
          · refine zC.of0 (ih1) (by omega) (Nat.zero_le _) (Nat.zero_le _) ?_
            rintro _ _ ⟨rfl, S1, rfl, ⟨b1, b2, b3, b4, b5, b6, b7⟩, hk1⟩
            have r28 : S1 (c + 26 + 2) y = T (6 + y) := e28 S1 b2
            refine sX0_laysFrom_132 _ _ _ _ _ ?_
            simp (disch := omega) only [oAld, oAld1, oAst1, oBin, oDup2, oGR, oIld, oInc, oNop, hB.k, hB.r16, hB.t16, hB.n16, hB.r8, hW.k, hW.r1, hW.t1, hW.n1, r28, List.getElem?_cons_zero, List.getElem?_cons_succ, List.set_cons_zero, List.set_cons_succ, List.drop_succ_cons, List.drop_zero, List.take_succ_cons, List.take_zero, List.length_cons, List.length_nil, List.reverse_cons, List.reverse_nil, List.nil_append, List.cons_append, Option.toList_some, Option.toList_none, va_rf_s, true_and, and_true, true_implies, false_implies, not_true_eq_false, not_false_eq_true, Nat.reduceAdd, Nat.reduceLeDiff, Nat.le_add_left, Nat.zero_le, Nat.le_refl, znew, true_or, or_true, b01_t, b01_f, b01_ok, bool_ft, vp_b01, vp_b0, vp_b1, b01_eq0, b01_eq1, implies_true, nI_add, nI_clamp, zi_in, zi_le_t, zi_le_f, zi_lt_t, zi_lt_f, zi_eq_t, zi_eq_f, nI_leI, nI_ltI, nI_eq, z_in, pk_mul, zu_same, zu_rw, zu_ix, zi_ne0, zi_sub, zi_m1, Nat.add_sub_cancel, Nat.reduceMul, Nat.reduceSub]
            have e1 : S1 (c + 27) y = nI q := by
              rw [hk1 y (by omega), zu_rw _ _ (by omega)]; exact zu_same _ _ _ _
            have rO : ∀ v, ∀ a, a ≠ c + 72 → zu S1 (c + 72) q v a = S1 a := fun v a h1 => zu_rw _ _ h1
            have kj : ∀ j, j < y → S1 (c + 27) j = S' (c + 27) j := fun j hj => by
              rw [hk1 j (by omega), zu_rw _ _ (by omega)]; exact zu_ix _ _ (by omega)
            refine ihq _ _ ⟨b1.tr ⟨fun a h1 h2 h3 => rO _ a (by omega), fun j _ => by rw [rO _ c (by omega)]⟩, fun a h1 h2 h3 h4 => (rO _ a h4).trans (b2 a h1 h2 h3 h4), fun j hj hoj => by rw [rO _ _ (by omega)]; exact b3 j hj hoj, fun j hj hoj => by rw [rO _ _ (by omega), kj j hj]; exact a4 j hj hoj, fun r hr => ?_, by rw [rO _ c (by omega)]; exact b6, fun hk' j hj hoj => by rw [rO _ _ (by omega)]; exact b7 hk' j hj hoj⟩ (fun j hj => by rw [rO _ _ (by omega), kj j hj]; exact hk j hj)
            have := la_add (t := t) (T := T) (R := S1 (c + 27)) (R' := S1 (c + 27)) (y := y) (cn := r) (q := q) hyN ho (by omega) (by omega) e1 (fun j _ => rfl)
            rw [rO _ (c + 27) (by omega)]
            by_cases e : r = q
            · subst e
              rw [zu_same, b5 r hr, this, if_pos rfl, Int32.add_sub_cancel]
            · rw [zu_ix _ _ e, b5 r hr, this, if_neg e, i_add0]
      rw [if_pos h0]
      refine sX0_laysFrom_65 _ _ _ _ _ ?_
      simp (disch := omega) only [oAld, oBin, oCV, oIf, oIld, oIst, oPush, hB.k, List.getElem?_cons_zero, List.getElem?_cons_succ, List.set_cons_zero, List.set_cons_succ, List.drop_succ_cons, List.drop_zero, List.take_succ_cons, List.take_zero, List.length_cons, List.length_nil, List.reverse_cons, List.reverse_nil, List.nil_append, List.cons_append, Option.toList_some, Option.toList_none, va_rf_s, true_and, and_true, true_implies, false_implies, not_true_eq_false, not_false_eq_true, Nat.reduceAdd, Nat.reduceLeDiff, Nat.le_add_left, Nat.zero_le, Nat.le_refl, znew, true_or, or_true, b01_t, b01_f, b01_ok, bool_ft, vp_b01, vp_b0, vp_b1, b01_eq0, b01_eq1, implies_true, nI_add, nI_clamp, zi_in, zi_le_t, zi_le_f, zi_lt_t, zi_lt_f, zi_eq_t, zi_eq_f, nI_leI, nI_ltI, nI_eq, z_in, pk_mul, zu_same, zu_rw, zu_ix, zi_ne0, zi_sub, zi_m1, Nat.add_sub_cancel, Nat.reduceMul, Nat.reduceSub]
      refine loop 0 (by omega) S _ ?_ (fun _ _ => rfl)
      have e : (p * tnc t + 0) * wyL t T m = p * wyL t T (m + 1) := by rw [ew, Nat.add_zero, Nat.mul_assoc]
      rw [e]; exact hs
    · have ho : outF T y = false := decide_eq_false h0
      have ew : wyL t T (m + 1) = wyL t T m := by rw [wyL, ei, if_neg (by rw [ho]; decide)]
      rw [ew] at hs hVQ
      rw [if_neg h0]
      refine sX0_laysFrom_65 _ _ _ _ _ ?_
      simp (disch := omega) only [oAld, oBin, oCV, oIf, oIld, oIst, oPush, hB.k, List.getElem?_cons_zero, List.getElem?_cons_succ, List.set_cons_zero, List.set_cons_succ, List.drop_succ_cons, List.drop_zero, List.take_succ_cons, List.take_zero, List.length_cons, List.length_nil, List.reverse_cons, List.reverse_nil, List.nil_append, List.cons_append, Option.toList_some, Option.toList_none, va_rf_s, true_and, and_true, true_implies, false_implies, not_true_eq_false, not_false_eq_true, Nat.reduceAdd, Nat.reduceLeDiff, Nat.le_add_left, Nat.zero_le, Nat.le_refl, znew, true_or, or_true, b01_t, b01_f, b01_ok, bool_ft, vp_b01, vp_b0, vp_b1, b01_eq0, b01_eq1, implies_true, nI_add, nI_clamp, zi_in, zi_le_t, zi_le_f, zi_lt_t, zi_lt_f, zi_eq_t, zi_eq_f, nI_leI, nI_ltI, nI_eq, z_in, pk_mul, zu_same, zu_rw, zu_ix, zi_ne0, zi_sub, zi_m1, Nat.add_sub_cancel, Nat.reduceMul, Nat.reduceSub]
      obtain ⟨a1, a2, a3, a4, a5, a6, a7⟩ := hs
      have hs1 : lyS c t T S0 S (y + 1) (p * wyL t T m) (p * wyL t T m) := by
        refine ⟨a1, a2, a3, fun j hj hoj => ?_, fun q hq => by rw [la_home ho]; exact a5 q hq, a6, a7⟩
        by_cases e : j = y
        · rw [e, ho] at hoj; cases hoj
        · exact a4 j (by omega) hoj
      have ih1 := ih (y + 1) p S (by omega) hs1
      rw [← hVl, ← hVE] at ih1
      refine zC.of0 (ih1) (by omega) (Nat.zero_le _) (Nat.zero_le _) ?_
      rintro _ _ ⟨rfl, S1, rfl, ⟨b1, b2, b3, b4, b5, b6, b7⟩, hk⟩
      refine sX0_laysFrom_75 _ _ _ _ _ ?_
      simp (disch := omega) only [oRV, List.getElem?_cons_zero, List.getElem?_cons_succ, List.set_cons_zero, List.set_cons_succ, List.drop_succ_cons, List.drop_zero, List.take_succ_cons, List.take_zero, List.length_cons, List.length_nil, List.reverse_cons, List.reverse_nil, List.nil_append, List.cons_append, Option.toList_some, Option.toList_none, va_rf_s, true_and, and_true, true_implies, false_implies, not_true_eq_false, not_false_eq_true, Nat.reduceAdd, Nat.reduceLeDiff, Nat.le_add_left, Nat.zero_le, Nat.le_refl, znew, true_or, or_true, b01_t, b01_f, b01_ok, bool_ft, vp_b01, vp_b0, vp_b1, b01_eq0, b01_eq1, implies_true, nI_add, nI_clamp, zi_in, zi_le_t, zi_le_f, zi_lt_t, zi_lt_f, zi_eq_t, zi_eq_f, nI_leI, nI_ltI, nI_eq, z_in, pk_mul, zu_same, zu_rw, zu_ix, zi_ne0, zi_sub, zi_m1, Nat.add_sub_cancel, Nat.reduceMul, Nat.reduceSub]
      exact hVQ _ _ ⟨rfl, S1, rfl, ⟨b1, b2, b3, fun j hj hoj => b4 j (by omega) hoj, fun q hq => by rw [b5 q hq, la_home ho], b6, b7⟩, fun j hj => hk j (by omega)⟩
end DC
