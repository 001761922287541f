/-! the component: slots, what is told, the tape -/
def cH (S : Nat → Nat → Int32) (c : Nat) (t : ZT) (H : Nat → Option (Nat → Int32)) : Prop := ∀ s, s < 3 → S (c + 70) s = b01 (H s).isSome ∧ ∀ R, H s = some R → tw S (c + 38 + 10 * s) t (tsd t) R
theorem cH.fr {S S' : Nat → Nat → Int32} {c : Nat} {t : ZT} {H : Nat → Option (Nat → Int32)} (h : cH S c t H) (he : ∀ a, c + 38 ≤ a → a ≤ c + 70 → S' a = S a) : cH S' c t H := fun s hs => ⟨by rw [he _ (by omega) (by omega)]; exact (h s hs).1, fun R hR => ((h s hs).2 R hR).fr (fun o ho => he _ (by omega) (by omega))⟩
def cK (S : Nat → Nat → Int32) (c : Nat) (K : List (Nat × Nat × Bool)) : Prop := S c 19 = nI K.length ∧ K.length ≤ 20 ∧ ∀ i, i < K.length → S (c + 203) i = nI (K.getD i (0, 0, false)).1 ∧ S (c + 204) i = nI (K.getD i (0, 0, false)).2.1 ∧ S (c + 205) i = b01 (K.getD i (0, 0, false)).2.2
theorem cK.fr {S S' : Nat → Nat → Int32} {c : Nat} {K : List (Nat × Nat × Bool)} (h : cK S c K) (h1 : S' c 19 = S c 19) (he : ∀ a, c + 203 ≤ a → a ≤ c + 205 → S' a = S a) : cK S' c K := by
  unfold cK
  rw [h1, he _ (by omega) (by omega), he _ (by omega) (by omega), he _ (by omega) (by omega)]
  exact h
def cP (S : Nat → Nat → Int32) (c : Nat) (P : List Int32) : Prop := S (c + 2) 2 = nI P.length ∧ P.length ≤ 2000 ∧ ∀ i, i < P.length → S (c + 4) i = P.getD i 0
theorem cP.fr {S S' : Nat → Nat → Int32} {c : Nat} {P : List Int32} (h : cP S c P) (h1 : S' (c + 2) = S (c + 2)) (h2 : S' (c + 4) = S (c + 4)) : cP S' c P := by
  unfold cP
  rw [h1, h2]; exact h
theorem cP.add {S : Nat → Nat → Int32} {c : Nat} {P : List Int32} (h : cP S c P) (v : Int32) (hl : P.length < 2000) : cP (zu (zu S (c + 4) P.length v) (c + 2) 2 (nI (P.length + 1))) c (P ++ [v]) := by
  refine ⟨by rw [zu_same]; simp, by simp; omega, fun i hi => ?_⟩
  rw [zu_rw _ _ (by omega), getD_snoc]
  by_cases he : i = P.length
  · subst he; rw [zu_same, if_pos rfl]
  · rw [zu_ix _ _ he, if_neg he, if_pos (by simp at hi; omega)]
    exact h.2.2 i (by simp at hi; omega)
section CN
variable {l : Launch} {E : zE} {z : Nat} {h : Nat → Option zSh} {S : Nat → Nat → Int32} {L : Nat → Nat → Int64} {c D ta : Nat} {t : ZT} {q0 T : Nat → Int32} {A : zTA} {U : List (Nat → Int32)} {H : Nat → Option (Nat → Int32)} {K : List (Nat × Nat × Bool)} {P : List Int32}
theorem zX0_hold (hB : isC h c) (hT : tw S (c + 16) t (tsd t) T) (hH : cH S c t H) (s : Int32) : zM l E 3 YX0_hold [.ref c, .int s] (z, h, S, L) 0 0 (fun r X => ∃ S', X = (z, h, S', L) ∧ (∀ a, a ≠ c + 70 → ¬ (c + 38 ≤ a ∧ a < c + 68) → S' a = S a) ∧ ((okI s 3 = false ∧ r = some (.int (nI 0)) ∧ cH S' c t H) ∨ (okI s 3 = true ∧ r = some (.int (nI 1)) ∧ cH S' c t (fun j => if j = s.toNatClampNeg then some T else H j)))) (fun _ _ => False) := by
  refine zM.go rfl rfl (Nat.le_of_ble_eq_true rfl) (ls := [some (.ref c), some (.int s)]) rfl ?_
  intro V hVl hVE hVd hVc hVs hVQ hVX
  refine sX0_hold_0 _ _ _ _ _ ?_
  simp (disch := omega) only [oCS, oIld, oPush, List.getElem?_cons_zero, List.getElem?_cons_succ, List.set_cons_zero, List.set_cons_succ, List.drop_succ_cons, List.drop_zero, List.take_succ_cons, List.take_zero, List.length_cons, List.length_nil, List.reverse_cons, List.reverse_nil, List.nil_append, List.cons_append, Option.toList_some, Option.toList_none, va_rf_s, true_and, and_true, true_implies, false_implies, not_true_eq_false, not_false_eq_true, Nat.reduceAdd, Nat.reduceLeDiff, Nat.le_add_left, Nat.zero_le, Nat.le_refl, znew, true_or, or_true, b01_t, b01_f, b01_ok, bool_ft, vp_b01, vp_b0, vp_b1, b01_eq0, b01_eq1, implies_true, nI_add, nI_clamp, zi_in, zi_le_t, zi_le_f, zi_lt_t, zi_lt_f, zi_eq_t, zi_eq_f, nI_leI, nI_ltI, nI_eq, z_in, pk_mul, zu_same, zu_rw, zu_ix, zi_ne0, zi_sub, zi_m1, Nat.add_sub_cancel, Nat.reduceMul, Nat.reduceSub]
  refine zC.of0 (zX0_isIn _ _ _ _) (by omega) (Nat.zero_le _) (Nat.zero_le _) ?_
  rintro _ _ ⟨rfl, rfl⟩
  rw [okI_dec2 (by omega)]
  have hW := hB.tn
  cases hok : okI s (2 + 1) with
  | false =>
    refine sX0_hold_6 _ _ _ _ _ ?_
    simp (disch := omega) only [oAld, oAld9, oCV, oGR, oIf, oIld, oPush, oRZ, hB.k, hB.r10, hB.t10, hB.n10, hB.r7, hW.k, List.getElem?_cons_zero, List.getElem?_cons_succ, List.set_cons_zero, List.set_cons_succ, List.drop_succ_cons, List.drop_zero, List.take_succ_cons, List.take_zero, List.length_cons, List.length_nil, List.reverse_cons, List.reverse_nil, List.nil_append, List.cons_append, Option.toList_some, Option.toList_none, va_rf_s, true_and, and_true, true_implies, false_implies, not_true_eq_false, not_false_eq_true, Nat.reduceAdd, Nat.reduceLeDiff, Nat.le_add_left, Nat.zero_le, Nat.le_refl, znew, true_or, or_true, b01_t, b01_f, b01_ok, bool_ft, vp_b01, vp_b0, vp_b1, b01_eq0, b01_eq1, implies_true, nI_add, nI_clamp, zi_in, zi_le_t, zi_le_f, zi_lt_t, zi_lt_f, zi_eq_t, zi_eq_f, nI_leI, nI_ltI, nI_eq, z_in, pk_mul, zu_same, zu_rw, zu_ix, zi_ne0, zi_sub, zi_m1, Nat.add_sub_cancel, Nat.reduceMul, Nat.reduceSub]
    exact hVQ _ _ ⟨S, rfl, fun _ _ _ => rfl, Or.inl ⟨hok, rfl, hH⟩⟩
  | true =>
    obtain ⟨m, hm, rfl⟩ := (okI_iff (by omega)).mp hok
    obtain ⟨p1, p2⟩ := hB.sl (show m < 3 by omega)
    refine sX0_hold_6 _ _ _ _ _ ?_
    simp (disch := omega) only [oAld, oAld9, oCV, oGR, oIf, oIld, oPush, oRZ, hB.k, hB.r10, hB.t10, hB.n10, hB.r7, hW.k, p1, p2.k, List.getElem?_cons_zero, List.getElem?_cons_succ, List.set_cons_zero, List.set_cons_succ, List.drop_succ_cons, List.drop_zero, List.take_succ_cons, List.take_zero, List.length_cons, List.length_nil, List.reverse_cons, List.reverse_nil, List.nil_append, List.cons_append, Option.toList_some, Option.toList_none, va_rf_s, true_and, and_true, true_implies, false_implies, not_true_eq_false, not_false_eq_true, Nat.reduceAdd, Nat.reduceLeDiff, Nat.le_add_left, Nat.zero_le, Nat.le_refl, znew, true_or, or_true, b01_t, b01_f, b01_ok, bool_ft, vp_b01, vp_b0, vp_b1, b01_eq0, b01_eq1, implies_true, nI_add, nI_clamp, zi_in, zi_le_t, zi_le_f, zi_lt_t, zi_lt_f, zi_eq_t, zi_eq_f, nI_leI, nI_ltI, nI_eq, z_in, pk_mul, zu_same, zu_rw, zu_ix, zi_ne0, zi_sub, zi_m1, Nat.add_sub_cancel, Nat.reduceMul, Nat.reduceSub]
    refine zC.of0 (zX5_takes p2 hW (Or.inl (by omega))) (by omega) (Nat.zero_le _) (Nat.zero_le _) ?_
    rintro _ _ ⟨rfl, S1, rfl, hF, hTT⟩
    refine sX0_hold_24 _ _ _ _ _ ?_
    simp (disch := omega) only [oAld, oAst1, oGR, oIld, oPush, oRZ, hB.k, hB.r13, hB.t13, hB.n13, List.getElem?_cons_zero, List.getElem?_cons_succ, List.set_cons_zero, List.set_cons_succ, List.drop_succ_cons, List.drop_zero, List.take_succ_cons, List.take_zero, List.length_cons, List.length_nil, List.reverse_cons, List.reverse_nil, List.nil_append, List.cons_append, Option.toList_some, Option.toList_none, va_rf_s, true_and, and_true, true_implies, false_implies, not_true_eq_false, not_false_eq_true, Nat.reduceAdd, Nat.reduceLeDiff, Nat.le_add_left, Nat.zero_le, Nat.le_refl, znew, true_or, or_true, b01_t, b01_f, b01_ok, bool_ft, vp_b01, vp_b0, vp_b1, b01_eq0, b01_eq1, implies_true, nI_add, nI_clamp, zi_in, zi_le_t, zi_le_f, zi_lt_t, zi_lt_f, zi_eq_t, zi_eq_f, nI_leI, nI_ltI, nI_eq, z_in, pk_mul, zu_same, zu_rw, zu_ix, zi_ne0, zi_sub, zi_m1, Nat.add_sub_cancel, Nat.reduceMul, Nat.reduceSub]
    refine hVQ _ _ ⟨_, rfl, fun a h1 h2 => ?_, Or.inr ⟨hok, rfl, fun j hj => ?_⟩⟩
    · rw [zu_rw _ _ h1]; exact hF a (by omega)
    · rw [nI_clamp (by omega)]
      by_cases hjm : j = m
      · subst hjm
        simp only [if_true]
        exact ⟨zu_same _ _ _ _, fun R hR => by cases hR; exact (hTT _ _ _ hT).fr (fun o ho => zu_rw _ _ (by omega))⟩
      · simp only [if_neg hjm]
        refine ⟨by rw [zu_ix _ _ hjm, hF _ (by omega)]; exact (hH j hj).1, fun R hR => ((hH j hj).2 R hR).fr (fun o ho => ?_)⟩
        rw [zu_rw _ _ (by omega)]; exact hF _ (by omega)
theorem zX0_restore (hB : isC h c) (hT : tw S (c + 16) t (tsd t) T) (hU0 : cU S c t U) (hH : cH S c t H) (s : Int32) : zM l E 3 YX0_restore [.ref c, .int s] (z, h, S, L) 0 0 (fun r X => ∃ S', X = (z, h, S', L) ∧ cDo c S S' ∧ (((okI s 3 = false ∨ H s.toNatClampNeg = none) ∧ r = some (.int (nI 0)) ∧ tw S' (c + 16) t (tsd t) T ∧ cU S' c t U) ∨ ∃ R, okI s 3 = true ∧ H s.toNatClampNeg = some R ∧ r = some (.int (nI 1)) ∧ tw S' (c + 16) t (tsd t) R ∧ cU S' c t [])) (fun _ _ => False) := by
  refine zM.go rfl rfl (Nat.le_of_ble_eq_true rfl) (ls := [some (.ref c), some (.int s)]) rfl ?_
  intro V hVl hVE hVd hVc hVs hVQ hVX
  refine sX0_restore_0 _ _ _ _ _ ?_
  simp (disch := omega) only [oCS, oIld, oPush, List.getElem?_cons_zero, List.getElem?_cons_succ, List.set_cons_zero, List.set_cons_succ, List.drop_succ_cons, List.drop_zero, List.take_succ_cons, List.take_zero, List.length_cons, List.length_nil, List.reverse_cons, List.reverse_nil, List.nil_append, List.cons_append, Option.toList_some, Option.toList_none, va_rf_s, true_and, and_true, true_implies, false_implies, not_true_eq_false, not_false_eq_true, Nat.reduceAdd, Nat.reduceLeDiff, Nat.le_add_left, Nat.zero_le, Nat.le_refl, znew, true_or, or_true, b01_t, b01_f, b01_ok, bool_ft, vp_b01, vp_b0, vp_b1, b01_eq0, b01_eq1, implies_true, nI_add, nI_clamp, zi_in, zi_le_t, zi_le_f, zi_lt_t, zi_lt_f, zi_eq_t, zi_eq_f, nI_leI, nI_ltI, nI_eq, z_in, pk_mul, zu_same, zu_rw, zu_ix, zi_ne0, zi_sub, zi_m1, Nat.add_sub_cancel, Nat.reduceMul, Nat.reduceSub]
  refine zC.of0 (zX0_isIn _ _ _ _) (by omega) (Nat.zero_le _) (Nat.zero_le _) ?_
  rintro _ _ ⟨rfl, rfl⟩
  rw [okI_dec2 (by omega)]
  have hW := hB.tn
  cases hok : okI s (2 + 1) with
  | false =>
    refine sX0_restore_6 _ _ _ _ _ ?_
    simp (disch := omega) only [oAld, oAld1, oAld9, oCV, oGR, oIf, oIld, oPush, oRZ, hB.k, hB.r13, hB.t13, hB.n13, hB.r7, hB.r10, hB.t10, hB.n10, hW.k, List.getElem?_cons_zero, List.getElem?_cons_succ, List.set_cons_zero, List.set_cons_succ, List.drop_succ_cons, List.drop_zero, List.take_succ_cons, List.take_zero, List.length_cons, List.length_nil, List.reverse_cons, List.reverse_nil, List.nil_append, List.cons_append, Option.toList_some, Option.toList_none, va_rf_s, true_and, and_true, true_implies, false_implies, not_true_eq_false, not_false_eq_true, Nat.reduceAdd, Nat.reduceLeDiff, Nat.le_add_left, Nat.zero_le, Nat.le_refl, znew, true_or, or_true, b01_t, b01_f, b01_ok, bool_ft, vp_b01, vp_b0, vp_b1, b01_eq0, b01_eq1, implies_true, nI_add, nI_clamp, zi_in, zi_le_t, zi_le_f, zi_lt_t, zi_lt_f, zi_eq_t, zi_eq_f, nI_leI, nI_ltI, nI_eq, z_in, pk_mul, zu_same, zu_rw, zu_ix, zi_ne0, zi_sub, zi_m1, Nat.add_sub_cancel, Nat.reduceMul, Nat.reduceSub]
    exact hVQ _ _ ⟨S, rfl, cDo.q cqF.rf, Or.inl ⟨Or.inl hok, rfl, hT, hU0⟩⟩
  | true =>
    obtain ⟨m, hm, rfl⟩ := (okI_iff (by omega)).mp hok
    obtain ⟨p1, p2⟩ := hB.sl (show m < 3 by omega)
    obtain ⟨e1, e2⟩ := hH m (by omega)
    cases hHm : H m with
    | none =>
      rw [hHm] at e1
      have e1 : S (c + 70) m = nI 0 := e1
      refine sX0_restore_6 _ _ _ _ _ ?_
      simp (disch := omega) only [oAld, oAld1, oAld9, oCV, oGR, oIf, oIld, oPush, oRZ, hB.k, hB.r13, hB.t13, hB.n13, hB.r7, hB.r10, hB.t10, hB.n10, hW.k, e1, List.getElem?_cons_zero, List.getElem?_cons_succ, List.set_cons_zero, List.set_cons_succ, List.drop_succ_cons, List.drop_zero, List.take_succ_cons, List.take_zero, List.length_cons, List.length_nil, List.reverse_cons, List.reverse_nil, List.nil_append, List.cons_append, Option.toList_some, Option.toList_none, va_rf_s, true_and, and_true, true_implies, false_implies, not_true_eq_false, not_false_eq_true, Nat.reduceAdd, Nat.reduceLeDiff, Nat.le_add_left, Nat.zero_le, Nat.le_refl, znew, true_or, or_true, b01_t, b01_f, b01_ok, bool_ft, vp_b01, vp_b0, vp_b1, b01_eq0, b01_eq1, implies_true, nI_add, nI_clamp, zi_in, zi_le_t, zi_le_f, zi_lt_t, zi_lt_f, zi_eq_t, zi_eq_f, nI_leI, nI_ltI, nI_eq, z_in, pk_mul, zu_same, zu_rw, zu_ix, zi_ne0, zi_sub, zi_m1, Nat.add_sub_cancel, Nat.reduceMul, Nat.reduceSub]
      exact hVQ _ _ ⟨S, rfl, cDo.q cqF.rf, Or.inl ⟨Or.inr (by rw [nI_clamp (by omega)]; exact hHm), rfl, hT, hU0⟩⟩
    | some R =>
      rw [hHm] at e1
      have e1 : S (c + 70) m = nI 1 := e1
      refine sX0_restore_6 _ _ _ _ _ ?_
      simp (disch := omega) only [oAld, oAld1, oAld9, oCV, oGR, oIf, oIld, oPush, oRZ, hB.k, hB.r13, hB.t13, hB.n13, hB.r7, hB.r10, hB.t10, hB.n10, hW.k, e1, p1, List.getElem?_cons_zero, List.getElem?_cons_succ, List.set_cons_zero, List.set_cons_succ, List.drop_succ_cons, List.drop_zero, List.take_succ_cons, List.take_zero, List.length_cons, List.length_nil, List.reverse_cons, List.reverse_nil, List.nil_append, List.cons_append, Option.toList_some, Option.toList_none, va_rf_s, true_and, and_true, true_implies, false_implies, not_true_eq_false, not_false_eq_true, Nat.reduceAdd, Nat.reduceLeDiff, Nat.le_add_left, Nat.zero_le, Nat.le_refl, znew, true_or, or_true, b01_t, b01_f, b01_ok, bool_ft, vp_b01, vp_b0, vp_b1, b01_eq0, b01_eq1, implies_true, nI_add, nI_clamp, zi_in, zi_le_t, zi_le_f, zi_lt_t, zi_lt_f, zi_eq_t, zi_eq_f, nI_leI, nI_ltI, nI_eq, z_in, pk_mul, zu_same, zu_rw, zu_ix, zi_ne0, zi_sub, zi_m1, Nat.add_sub_cancel, Nat.reduceMul, Nat.reduceSub]
      refine zC.of0 (zX5_takes hW p2 (Or.inr (show c + 16 + 10 ≤ c + 38 + 10 * m by omega))) (by omega) (Nat.zero_le _) (Nat.zero_le _) ?_
      rintro _ _ ⟨rfl, S1, rfl, hF, hTT⟩
      refine sX0_restore_33 _ _ _ _ _ ?_
      simp (disch := omega) only [oAld, oPI, oPush, oRZ, hB.k, List.getElem?_cons_zero, List.getElem?_cons_succ, List.set_cons_zero, List.set_cons_succ, List.drop_succ_cons, List.drop_zero, List.take_succ_cons, List.take_zero, List.length_cons, List.length_nil, List.reverse_cons, List.reverse_nil, List.nil_append, List.cons_append, Option.toList_some, Option.toList_none, va_rf_s, true_and, and_true, true_implies, false_implies, not_true_eq_false, not_false_eq_true, Nat.reduceAdd, Nat.reduceLeDiff, Nat.le_add_left, Nat.zero_le, Nat.le_refl, znew, true_or, or_true, b01_t, b01_f, b01_ok, bool_ft, vp_b01, vp_b0, vp_b1, b01_eq0, b01_eq1, implies_true, nI_add, nI_clamp, zi_in, zi_le_t, zi_le_f, zi_lt_t, zi_lt_f, zi_eq_t, zi_eq_f, nI_leI, nI_ltI, nI_eq, z_in, pk_mul, zu_same, zu_rw, zu_ix, zi_ne0, zi_sub, zi_m1, Nat.add_sub_cancel, Nat.reduceMul, Nat.reduceSub]
      obtain ⟨-, -, ua, u1, u2, -⟩ := hU0
      refine hVQ _ _ ⟨_, rfl, ⟨fun a h1 h2 h3 h4 => by rw [zu_rw _ _ h1]; exact hF a (by omega), fun j h1 h2 h3 => by rw [zu_ix _ _ h1, hF c (by omega)]⟩, Or.inr ⟨R, hok, by rw [nI_clamp (by omega)]; exact hHm, rfl, (hTT _ _ _ (e2 R hHm)).fr (fun o ho => zu_rw _ _ (by omega)), zu_same _ _ _ _, Nat.zero_le _, ua, u1, ?_, fun i hi => absurd hi (by simp)⟩⟩
      rw [zu_ix _ _ (by omega), hF c (by omega)]; exact u2
theorem zX0_tell (hQ : cQ h S c z D ta t q0 A T) (hK : cK S c K) (y v : Int32) (so : Bool) :
    zM l E 4 YX0_tell [.ref c, .int y, .int v, .int (b01 so)] (z, h, S, L) 0 0 (fun r X => ∃ S', X = (z, h, S', L) ∧ ((∀ a, a ≠ c → ¬ (c + 203 ≤ a ∧ a ≤ c + 205) → S' a = S a) ∧ ∀ j, j ≠ 19 → S' c j = S c j) ∧ ((¬ (K.length < 20 ∧ outB t T y = true ∧ okI v 1000 = true) ∧ r = some (.int (-1)) ∧ cK S' c K) ∨ ((K.length < 20 ∧ outB t T y = true ∧ okI v 1000 = true) ∧ r = some (.int (nI K.length)) ∧ cK S' c (K ++ [(y.toNatClampNeg, v.toNatClampNeg, so)])))) (fun _ _ => False) := by
  obtain ⟨hB, hTa, hX, hT, hI, hTI⟩ := id hQ
  obtain ⟨h7, h10, h6, h5⟩ := hX.b
  obtain ⟨hk, hk20, hi⟩ := id hK
  refine zM.go rfl rfl (Nat.le_of_ble_eq_true rfl) (ls := [some (.ref c), some (.int y), some (.int v), some (.int (b01 so))]) rfl ?_
  intro V hVl hVE hVd hVc hVs hVQ hVX
  have no : ¬ (K.length < 20 ∧ outB t T y = true ∧ okI v 1000 = true) → V.2.2.2.2.2.1 (some (.int (-1))) (z, h, S, L) := fun hn => hVQ _ _ ⟨S, rfl, ⟨fun _ _ _ => rfl, fun _ _ => rfl⟩, Or.inl ⟨hn, rfl, hK⟩⟩
  refine sX0_tell_0 _ _ _ _ _ ?_
  simp (disch := omega) only [oAld, oCV, oIld, hB.k, List.getElem?_cons_zero, List.getElem?_cons_succ, List.set_cons_zero, List.set_cons_succ, List.drop_succ_cons, List.drop_zero, List.take_succ_cons, List.take_zero, List.length_cons, List.length_nil, List.reverse_cons, List.reverse_nil, List.nil_append, List.cons_append, Option.toList_some, Option.toList_none, va_rf_s, true_and, and_true, true_implies, false_implies, not_true_eq_false, not_false_eq_true, Nat.reduceAdd, Nat.reduceLeDiff, Nat.le_add_left, Nat.zero_le, Nat.le_refl, znew, true_or, or_true, b01_t, b01_f, b01_ok, bool_ft, vp_b01, vp_b0, vp_b1, b01_eq0, b01_eq1, implies_true, nI_add, nI_clamp, zi_in, zi_le_t, zi_le_f, zi_lt_t, zi_lt_f, zi_eq_t, zi_eq_f, nI_leI, nI_ltI, nI_eq, z_in, pk_mul, zu_same, zu_rw, zu_ix, zi_ne0, zi_sub, zi_m1, Nat.add_sub_cancel, Nat.reduceMul, Nat.reduceSub]
  refine zC.of0 (zX0_isOut hQ _) (by omega) (Nat.zero_le _) (Nat.zero_le _) ?_
  rintro _ _ ⟨rfl, rfl⟩
  cases hok : outB t T y with
  | false =>
    refine sX0_tell_5 _ _ _ _ _ ?_
    simp (disch := omega) only [oCS, oIf, oIld, oPush, oRI, List.getElem?_cons_zero, List.getElem?_cons_succ, List.set_cons_zero, List.set_cons_succ, List.drop_succ_cons, List.drop_zero, List.take_succ_cons, List.take_zero, List.length_cons, List.length_nil, List.reverse_cons, List.reverse_nil, List.nil_append, List.cons_append, Option.toList_some, Option.toList_none, va_rf_s, true_and, and_true, true_implies, false_implies, not_true_eq_false, not_false_eq_true, Nat.reduceAdd, Nat.reduceLeDiff, Nat.le_add_left, Nat.zero_le, Nat.le_refl, znew, true_or, or_true, b01_t, b01_f, b01_ok, bool_ft, vp_b01, vp_b0, vp_b1, b01_eq0, b01_eq1, implies_true, nI_add, nI_clamp, zi_in, zi_le_t, zi_le_f, zi_lt_t, zi_lt_f, zi_eq_t, zi_eq_f, nI_leI, nI_ltI, nI_eq, z_in, pk_mul, zu_same, zu_rw, zu_ix, zi_ne0, zi_sub, zi_m1, Nat.add_sub_cancel, Nat.reduceMul, Nat.reduceSub]
    exact no (fun q => by rw [q.2.1] at hok; cases hok)
  | true =>
    obtain ⟨j, hj, rfl, h12⟩ := (outB_iff h6).mp hok
    refine sX0_tell_5 _ _ _ _ _ ?_
    simp (disch := omega) only [oCS, oIf, oIld, oPush, oRI, List.getElem?_cons_zero, List.getElem?_cons_succ, List.set_cons_zero, List.set_cons_succ, List.drop_succ_cons, List.drop_zero, List.take_succ_cons, List.take_zero, List.length_cons, List.length_nil, List.reverse_cons, List.reverse_nil, List.nil_append, List.cons_append, Option.toList_some, Option.toList_none, va_rf_s, true_and, and_true, true_implies, false_implies, not_true_eq_false, not_false_eq_true, Nat.reduceAdd, Nat.reduceLeDiff, Nat.le_add_left, Nat.zero_le, Nat.le_refl, znew, true_or, or_true, b01_t, b01_f, b01_ok, bool_ft, vp_b01, vp_b0, vp_b1, b01_eq0, b01_eq1, implies_true, nI_add, nI_clamp, zi_in, zi_le_t, zi_le_f, zi_lt_t, zi_lt_f, zi_eq_t, zi_eq_f, nI_leI, nI_ltI, nI_eq, z_in, pk_mul, zu_same, zu_rw, zu_ix, zi_ne0, zi_sub, zi_m1, Nat.add_sub_cancel, Nat.reduceMul, Nat.reduceSub]
    refine zC.of0 (zX0_isIn _ _ _ _) (by omega) (Nat.zero_le _) (Nat.zero_le _) ?_
    rintro _ _ ⟨rfl, rfl⟩
    rw [okI_dec2 (by omega)]
    cases hov : okI v (999 + 1) with
    | false =>
      refine sX0_tell_16 _ _ _ _ _ ?_
      simp (disch := omega) only [oAld, oAst1, oBin, oDup, oGI, oGR, oIf, oIfc, oIld, oPI, oPush, oRI, hB.k, hB.r20, hB.t20, hB.n20, hB.r21, hB.t21, hB.n21, hB.r22, hB.t22, hB.n22, List.getElem?_cons_zero, List.getElem?_cons_succ, List.set_cons_zero, List.set_cons_succ, List.drop_succ_cons, List.drop_zero, List.take_succ_cons, List.take_zero, List.length_cons, List.length_nil, List.reverse_cons, List.reverse_nil, List.nil_append, List.cons_append, Option.toList_some, Option.toList_none, va_rf_s, true_and, and_true, true_implies, false_implies, not_true_eq_false, not_false_eq_true, Nat.reduceAdd, Nat.reduceLeDiff, Nat.le_add_left, Nat.zero_le, Nat.le_refl, znew, true_or, or_true, b01_t, b01_f, b01_ok, bool_ft, vp_b01, vp_b0, vp_b1, b01_eq0, b01_eq1, implies_true, nI_add, nI_clamp, zi_in, zi_le_t, zi_le_f, zi_lt_t, zi_lt_f, zi_eq_t, zi_eq_f, nI_leI, nI_ltI, nI_eq, z_in, pk_mul, zu_same, zu_rw, zu_ix, zi_ne0, zi_sub, zi_m1, Nat.add_sub_cancel, Nat.reduceMul, Nat.reduceSub]
      exact no (fun q => by rw [q.2.2] at hov; cases hov)
    | true =>
      obtain ⟨m, hm, rfl⟩ := (okI_iff (by omega)).mp hov
      by_cases h20 : K.length = 20
      · rw [h20] at hk
        refine sX0_tell_16 _ _ _ _ _ ?_
        simp (disch := omega) only [oAld, oAst1, oBin, oDup, oGI, oGR, oIf, oIfc, oIld, oPI, oPush, oRI, hB.k, hB.r20, hB.t20, hB.n20, hB.r21, hB.t21, hB.n21, hB.r22, hB.t22, hB.n22, hk, List.getElem?_cons_zero, List.getElem?_cons_succ, List.set_cons_zero, List.set_cons_succ, List.drop_succ_cons, List.drop_zero, List.take_succ_cons, List.take_zero, List.length_cons, List.length_nil, List.reverse_cons, List.reverse_nil, List.nil_append, List.cons_append, Option.toList_some, Option.toList_none, va_rf_s, true_and, and_true, true_implies, false_implies, not_true_eq_false, not_false_eq_true, Nat.reduceAdd, Nat.reduceLeDiff, Nat.le_add_left, Nat.zero_le, Nat.le_refl, znew, true_or, or_true, b01_t, b01_f, b01_ok, bool_ft, vp_b01, vp_b0, vp_b1, b01_eq0, b01_eq1, implies_true, nI_add, nI_clamp, zi_in, zi_le_t, zi_le_f, zi_lt_t, zi_lt_f, zi_eq_t, zi_eq_f, nI_leI, nI_ltI, nI_eq, z_in, pk_mul, zu_same, zu_rw, zu_ix, zi_ne0, zi_sub, zi_m1, Nat.add_sub_cancel, Nat.reduceMul, Nat.reduceSub]
        exact no (fun q => by omega)
      refine sX0_tell_16 _ _ _ _ _ ?_
      simp (disch := omega) only [oAld, oAst1, oBin, oDup, oGI, oGR, oIf, oIfc, oIld, oPI, oPush, oRI, hB.k, hB.r20, hB.t20, hB.n20, hB.r21, hB.t21, hB.n21, hB.r22, hB.t22, hB.n22, hk, List.getElem?_cons_zero, List.getElem?_cons_succ, List.set_cons_zero, List.set_cons_succ, List.drop_succ_cons, List.drop_zero, List.take_succ_cons, List.take_zero, List.length_cons, List.length_nil, List.reverse_cons, List.reverse_nil, List.nil_append, List.cons_append, Option.toList_some, Option.toList_none, va_rf_s, true_and, and_true, true_implies, false_implies, not_true_eq_false, not_false_eq_true, Nat.reduceAdd, Nat.reduceLeDiff, Nat.le_add_left, Nat.zero_le, Nat.le_refl, znew, true_or, or_true, b01_t, b01_f, b01_ok, bool_ft, vp_b01, vp_b0, vp_b1, b01_eq0, b01_eq1, implies_true, nI_add, nI_clamp, zi_in, zi_le_t, zi_le_f, zi_lt_t, zi_lt_f, zi_eq_t, zi_eq_f, nI_leI, nI_ltI, nI_eq, z_in, pk_mul, zu_same, zu_rw, zu_ix, zi_ne0, zi_sub, zi_m1, Nat.add_sub_cancel, Nat.reduceMul, Nat.reduceSub]
      refine hVQ _ _ ⟨_, rfl, ⟨fun a h1 h2 => ?_, fun j hj => ?_⟩, Or.inr ⟨⟨by omega, hok, hov⟩, rfl, ?_, ?_, ?_⟩⟩
      · rw [zu_rw _ _ h1, zu_rw _ _ (by omega), zu_rw _ _ (by omega), zu_rw _ _ (by omega)]
      · rw [zu_ix _ _ hj, zu_rw _ _ (by omega), zu_rw _ _ (by omega), zu_rw _ _ (by omega)]
      · rw [zu_same]; simp
      · simp; omega
      · intro i hi2
        rw [getD_snoc, nI_clamp (by omega), nI_clamp (by omega)]
        simp only [List.length_append, List.length_cons, List.length_nil] at hi2
        by_cases he : i = K.length
        · subst he
          simp (disch := omega) only [List.getElem?_cons_zero, List.getElem?_cons_succ, List.set_cons_zero, List.set_cons_succ, List.drop_succ_cons, List.drop_zero, List.take_succ_cons, List.take_zero, List.length_cons, List.length_nil, List.reverse_cons, List.reverse_nil, List.nil_append, List.cons_append, Option.toList_some, Option.toList_none, va_rf_s, true_and, and_true, true_implies, false_implies, not_true_eq_false, not_false_eq_true, Nat.reduceAdd, Nat.reduceLeDiff, Nat.le_add_left, Nat.zero_le, Nat.le_refl, znew, true_or, or_true, b01_t, b01_f, b01_ok, bool_ft, vp_b01, vp_b0, vp_b1, b01_eq0, b01_eq1, implies_true, nI_add, nI_clamp, zi_in, zi_le_t, zi_le_f, zi_lt_t, zi_lt_f, zi_eq_t, zi_eq_f, nI_leI, nI_ltI, nI_eq, z_in, pk_mul, zu_same, zu_rw, zu_ix, zi_ne0, zi_sub, zi_m1, Nat.add_sub_cancel, Nat.reduceMul, Nat.reduceSub, if_true]
        · obtain ⟨q1, q2, q3⟩ := hi i (by omega)
          rw [if_neg he, if_pos (by omega)]
          refine ⟨?_, ?_, ?_⟩
          · simp (disch := omega) only [List.getElem?_cons_zero, List.getElem?_cons_succ, List.set_cons_zero, List.set_cons_succ, List.drop_succ_cons, List.drop_zero, List.take_succ_cons, List.take_zero, List.length_cons, List.length_nil, List.reverse_cons, List.reverse_nil, List.nil_append, List.cons_append, Option.toList_some, Option.toList_none, va_rf_s, true_and, and_true, true_implies, false_implies, not_true_eq_false, not_false_eq_true, Nat.reduceAdd, Nat.reduceLeDiff, Nat.le_add_left, Nat.zero_le, Nat.le_refl, znew, true_or, or_true, b01_t, b01_f, b01_ok, bool_ft, vp_b01, vp_b0, vp_b1, b01_eq0, b01_eq1, implies_true, nI_add, nI_clamp, zi_in, zi_le_t, zi_le_f, zi_lt_t, zi_lt_f, zi_eq_t, zi_eq_f, nI_leI, nI_ltI, nI_eq, z_in, pk_mul, zu_same, zu_rw, zu_ix, zi_ne0, zi_sub, zi_m1, Nat.add_sub_cancel, Nat.reduceMul, Nat.reduceSub, q1]
          · simp (disch := omega) only [List.getElem?_cons_zero, List.getElem?_cons_succ, List.set_cons_zero, List.set_cons_succ, List.drop_succ_cons, List.drop_zero, List.take_succ_cons, List.take_zero, List.length_cons, List.length_nil, List.reverse_cons, List.reverse_nil, List.nil_append, List.cons_append, Option.toList_some, Option.toList_none, va_rf_s, true_and, and_true, true_implies, false_implies, not_true_eq_false, not_false_eq_true, Nat.reduceAdd, Nat.reduceLeDiff, Nat.le_add_left, Nat.zero_le, Nat.le_refl, znew, true_or, or_true, b01_t, b01_f, b01_ok, bool_ft, vp_b01, vp_b0, vp_b1, b01_eq0, b01_eq1, implies_true, nI_add, nI_clamp, zi_in, zi_le_t, zi_le_f, zi_lt_t, zi_lt_f, zi_eq_t, zi_eq_f, nI_leI, nI_ltI, nI_eq, z_in, pk_mul, zu_same, zu_rw, zu_ix, zi_ne0, zi_sub, zi_m1, Nat.add_sub_cancel, Nat.reduceMul, Nat.reduceSub, q2]
          · simp (disch := omega) only [List.getElem?_cons_zero, List.getElem?_cons_succ, List.set_cons_zero, List.set_cons_succ, List.drop_succ_cons, List.drop_zero, List.take_succ_cons, List.take_zero, List.length_cons, List.length_nil, List.reverse_cons, List.reverse_nil, List.nil_append, List.cons_append, Option.toList_some, Option.toList_none, va_rf_s, true_and, and_true, true_implies, false_implies, not_true_eq_false, not_false_eq_true, Nat.reduceAdd, Nat.reduceLeDiff, Nat.le_add_left, Nat.zero_le, Nat.le_refl, znew, true_or, or_true, b01_t, b01_f, b01_ok, bool_ft, vp_b01, vp_b0, vp_b1, b01_eq0, b01_eq1, implies_true, nI_add, nI_clamp, zi_in, zi_le_t, zi_le_f, zi_lt_t, zi_lt_f, zi_eq_t, zi_eq_f, nI_leI, nI_ltI, nI_eq, z_in, pk_mul, zu_same, zu_rw, zu_ix, zi_ne0, zi_sub, zi_m1, Nat.add_sub_cancel, Nat.reduceMul, Nat.reduceSub, q3]
theorem zX0_forget (hB : isC h c) (hK : cK S c K) : zM l E 0 YX0_forget [.ref c] (z, h, S, L) 0 0 (fun r X => ∃ S', X = (z, h, S', L) ∧ ((∀ a, a ≠ c → S' a = S a) ∧ ∀ j, j ≠ 19 → S' c j = S c j) ∧ r = some (.int (nI K.length)) ∧ cK S' c []) (fun _ _ => False) := by
  refine zM.go rfl rfl (Nat.le_of_ble_eq_true rfl) (ls := [some (.ref c), none]) rfl ?_
  intro V hVl hVE hVd hVc hVs hVQ hVX
  refine sX0_forget_0 _ _ _ _ _ ?_
  simp (disch := omega) only [oAld, oGI, oIld, oIst, oPI, oPush, oRI, hB.k, hK.1, List.getElem?_cons_zero, List.getElem?_cons_succ, List.set_cons_zero, List.set_cons_succ, List.drop_succ_cons, List.drop_zero, List.take_succ_cons, List.take_zero, List.length_cons, List.length_nil, List.reverse_cons, List.reverse_nil, List.nil_append, List.cons_append, Option.toList_some, Option.toList_none, va_rf_s, true_and, and_true, true_implies, false_implies, not_true_eq_false, not_false_eq_true, Nat.reduceAdd, Nat.reduceLeDiff, Nat.le_add_left, Nat.zero_le, Nat.le_refl, znew, true_or, or_true, b01_t, b01_f, b01_ok, bool_ft, vp_b01, vp_b0, vp_b1, b01_eq0, b01_eq1, implies_true, nI_add, nI_clamp, zi_in, zi_le_t, zi_le_f, zi_lt_t, zi_lt_f, zi_eq_t, zi_eq_f, nI_leI, nI_ltI, nI_eq, z_in, pk_mul, zu_same, zu_rw, zu_ix, zi_ne0, zi_sub, zi_m1, Nat.add_sub_cancel, Nat.reduceMul, Nat.reduceSub]
  exact hVQ _ _ ⟨_, rfl, ⟨fun a ha => zu_rw _ _ ha, fun j hj => zu_ix _ _ hj⟩, rfl, by rw [zu_same]; rfl, by simp, fun i hi => absurd hi (by simp)⟩
theorem zX0_place (hB : isC h c) : zM l E 0 YX0_place [.ref c] (z, h, S, L) 0 0 (fun r X => r = some (.int (S c 4)) ∧ X = (z, h, S, L)) (fun _ _ => False) := by
  refine zM.go rfl rfl (Nat.le_of_ble_eq_true rfl) (ls := [some (.ref c)]) rfl ?_
  intro V hVl hVE hVd hVc hVs hVQ hVX
  refine sX0_place_0 _ _ _ _ _ ?_
  simp (disch := omega) only [oAld, oGI, oRI, hB.k, List.getElem?_cons_zero, List.getElem?_cons_succ, List.set_cons_zero, List.set_cons_succ, List.drop_succ_cons, List.drop_zero, List.take_succ_cons, List.take_zero, List.length_cons, List.length_nil, List.reverse_cons, List.reverse_nil, List.nil_append, List.cons_append, Option.toList_some, Option.toList_none, va_rf_s, true_and, and_true, true_implies, false_implies, not_true_eq_false, not_false_eq_true, Nat.reduceAdd, Nat.reduceLeDiff, Nat.le_add_left, Nat.zero_le, Nat.le_refl, znew, true_or, or_true, b01_t, b01_f, b01_ok, bool_ft, vp_b01, vp_b0, vp_b1, b01_eq0, b01_eq1, implies_true, nI_add, nI_clamp, zi_in, zi_le_t, zi_le_f, zi_lt_t, zi_lt_f, zi_eq_t, zi_eq_f, nI_leI, nI_ltI, nI_eq, z_in, pk_mul, zu_same, zu_rw, zu_ix, zi_ne0, zi_sub, zi_m1, Nat.add_sub_cancel, Nat.reduceMul, Nat.reduceSub]
  exact hVQ _ _ ⟨rfl, rfl⟩
def cpF (c : Nat) (S S' : Nat → Nat → Int32) : Prop := (∀ a, a ≠ c + 2 → a ≠ c + 4 → S' a = S a) ∧ ∀ j, j ≠ 2 → S' (c + 2) j = S (c + 2) j
theorem cpF.rf : cpF c S S := ⟨fun _ _ _ => rfl, fun _ _ => rfl⟩
theorem cpF.tr {S' S'' : Nat → Nat → Int32} (h : cpF c S S') (h' : cpF c S' S'') : cpF c S S'' := ⟨fun a h1 h2 => (h'.1 a h1 h2).trans (h.1 a h1 h2), fun j hj => (h'.2 j hj).trans (h.2 j hj)⟩
theorem zX0_back (hB : isC h c) (hP : cP S c P) (n : Int32) : zM l E 0 YX0_back [.ref c, .int n] (z, h, S, L) 0 0 (fun r X => ∃ S', X = (z, h, S', L) ∧ cpF c S S' ∧ ((okI n (P.length + 1) = false ∧ r = some (.int (-1)) ∧ cP S' c P) ∨ (okI n (P.length + 1) = true ∧ r = some (.int (nI (P.length - n.toNatClampNeg))) ∧ cP S' c (P.take (P.length - n.toNatClampNeg))))) (fun _ _ => False) := by
  refine zM.go rfl rfl (Nat.le_of_ble_eq_true rfl) (ls := [some (.ref c), some (.int n)]) rfl ?_
  intro V hVl hVE hVd hVc hVs hVQ hVX
  obtain ⟨h2, hl, hi⟩ := id hP
  have hd := okI_dec2 (c := n) (m := P.length) (by omega)
  cases hok : okI n (P.length + 1) with
  | false =>
    rw [hok, decide_eq_false_iff_not] at hd
    refine sX0_back_0 _ _ _ _ _ ?_
    simp (disch := omega) only [oAld, oBin, oDup, oGI, oGR, oIf, oIfc, oIld, oPI, oPush, oRI, hB.k, hB.r1, hB.tk, h2, List.getElem?_cons_zero, List.getElem?_cons_succ, List.set_cons_zero, List.set_cons_succ, List.drop_succ_cons, List.drop_zero, List.take_succ_cons, List.take_zero, List.length_cons, List.length_nil, List.reverse_cons, List.reverse_nil, List.nil_append, List.cons_append, Option.toList_some, Option.toList_none, va_rf_s, true_and, and_true, true_implies, false_implies, not_true_eq_false, not_false_eq_true, Nat.reduceAdd, Nat.reduceLeDiff, Nat.le_add_left, Nat.zero_le, Nat.le_refl, znew, true_or, or_true, b01_t, b01_f, b01_ok, bool_ft, vp_b01, vp_b0, vp_b1, b01_eq0, b01_eq1, implies_true, nI_add, nI_clamp, zi_in, zi_le_t, zi_le_f, zi_lt_t, zi_lt_f, zi_eq_t, zi_eq_f, nI_leI, nI_ltI, nI_eq, z_in, pk_mul, zu_same, zu_rw, zu_ix, zi_ne0, zi_sub, zi_m1, Nat.add_sub_cancel, Nat.reduceMul, Nat.reduceSub]
    have fin := hVQ (some (.int (-1))) (z, h, S, L) ⟨S, rfl, cpF.rf, Or.inl ⟨hok, rfl, hP⟩⟩
    refine ⟨fun _ => fin, fun q1 => ⟨fun q2 => absurd ⟨?_, q2⟩ hd, fun _ => fin⟩⟩
    rw [Int32.lt_iff_toInt_lt] at q1
    rw [Int32.le_iff_toInt_le]; omega
  | true =>
    obtain ⟨m, hm, rfl⟩ := (okI_iff (by omega)).mp hok
    refine sX0_back_0 _ _ _ _ _ ?_
    simp (disch := omega) only [oAld, oBin, oDup, oGI, oGR, oIf, oIfc, oIld, oPI, oPush, oRI, hB.k, hB.r1, hB.tk, h2, List.getElem?_cons_zero, List.getElem?_cons_succ, List.set_cons_zero, List.set_cons_succ, List.drop_succ_cons, List.drop_zero, List.take_succ_cons, List.take_zero, List.length_cons, List.length_nil, List.reverse_cons, List.reverse_nil, List.nil_append, List.cons_append, Option.toList_some, Option.toList_none, va_rf_s, true_and, and_true, true_implies, false_implies, not_true_eq_false, not_false_eq_true, Nat.reduceAdd, Nat.reduceLeDiff, Nat.le_add_left, Nat.zero_le, Nat.le_refl, znew, true_or, or_true, b01_t, b01_f, b01_ok, bool_ft, vp_b01, vp_b0, vp_b1, b01_eq0, b01_eq1, implies_true, nI_add, nI_clamp, zi_in, zi_le_t, zi_le_f, zi_lt_t, zi_lt_f, zi_eq_t, zi_eq_f, nI_leI, nI_ltI, nI_eq, z_in, pk_mul, zu_same, zu_rw, zu_ix, zi_ne0, zi_sub, zi_m1, Nat.add_sub_cancel, Nat.reduceMul, Nat.reduceSub]
    refine hVQ _ _ ⟨_, rfl, ⟨fun a h1 h2 => zu_rw _ _ h1, fun j hj => zu_ix _ _ hj⟩, Or.inr ⟨hok, by rw [nI_clamp (by omega)], ?_, ?_, fun i hi2 => ?_⟩⟩
    · rw [zu_same, nI_clamp (by omega)]; simp
    · simp; omega
    · rw [nI_clamp (by omega)] at hi2 ⊢
      simp only [List.length_take] at hi2
      rw [zu_rw _ _ (by omega), hi i (by omega)]
      simp only [List.getD_eq_getElem?_getD, List.getElem?_take]
      rw [if_pos (by omega)]
theorem zX0_typed (hB : isC h c) (hP : cP S c P) (hl : P.length + 4 ≤ 2000) (w : Int32) :
    zM l E 0 YX0_typed [.ref c, .int w] (z, h, S, L) 0 0 (fun r X => r = none ∧ ∃ S', X = (z, h, S', L) ∧ cpF c S S' ∧ cP S' c (P ++ put4 w)) (fun _ _ => False) := by
  refine zM.go rfl rfl (Nat.le_of_ble_eq_true rfl) (ls := [some (.ref c), some (.int w), none]) rfl ?_
  intro V hVl hVE hVd hVc hVs hVQ hVX
  have loop : ∀ k P', P'.length < 2000 → ∀ S', cpF c S S' → cP S' c P' → (∀ S'', cpF c S S'' → cP S'' c (P' ++ [bF w k]) → zW V YX0_typed 3 [some (.ref c), some (.int w), some (.int (nI k + (-8)))] [] (z, h, S'', L) 0 0) → k < 32 → zW V YX0_typed 3 [some (.ref c), some (.int w), some (.int (nI k))] [] (z, h, S', L) 0 0 := by
    intro k P' hl' S' hf hP' hn hk
    refine sX0_typed_3 _ _ _ _ _ ?_
    simp (disch := omega) only [oAld, oAst1, oBin, oDup, oGI, oGR, oIf, oIld, oInc, oNop, oPI, oPush, oRV, oUn, hB.k, hB.r1, hB.tk, hB.tr1, hB.tt1, hB.tn1, hP'.1, vp_nar_byte, i8_i8, List.getElem?_cons_zero, List.getElem?_cons_succ, List.set_cons_zero, List.set_cons_succ, List.drop_succ_cons, List.drop_zero, List.take_succ_cons, List.take_zero, List.length_cons, List.length_nil, List.reverse_cons, List.reverse_nil, List.nil_append, List.cons_append, Option.toList_some, Option.toList_none, va_rf_s, true_and, and_true, true_implies, false_implies, not_true_eq_false, not_false_eq_true, Nat.reduceAdd, Nat.reduceLeDiff, Nat.le_add_left, Nat.zero_le, Nat.le_refl, znew, true_or, or_true, b01_t, b01_f, b01_ok, bool_ft, vp_b01, vp_b0, vp_b1, b01_eq0, b01_eq1, implies_true, nI_add, nI_clamp, zi_in, zi_le_t, zi_le_f, zi_lt_t, zi_lt_f, zi_eq_t, zi_eq_f, nI_leI, nI_ltI, nI_eq, z_in, pk_mul, zu_same, zu_rw, zu_ix, zi_ne0, zi_sub, zi_m1, Nat.add_sub_cancel, Nat.reduceMul, Nat.reduceSub]
    refine hn _ (hf.tr ⟨fun a h1 h2 => ?_, fun j hj => ?_⟩) (hP'.add _ hl')
    · rw [zu_rw _ _ h1, zu_rw _ _ h2]
    · rw [zu_ix _ _ hj, zu_rw _ _ (by omega)]
  refine sX0_typed_0 _ _ _ _ _ ?_
  simp (disch := omega) only [oIst, oPush, List.getElem?_cons_zero, List.getElem?_cons_succ, List.set_cons_zero, List.set_cons_succ, List.drop_succ_cons, List.drop_zero, List.take_succ_cons, List.take_zero, List.length_cons, List.length_nil, List.reverse_cons, List.reverse_nil, List.nil_append, List.cons_append, Option.toList_some, Option.toList_none, va_rf_s, true_and, and_true, true_implies, false_implies, not_true_eq_false, not_false_eq_true, Nat.reduceAdd, Nat.reduceLeDiff, Nat.le_add_left, Nat.zero_le, Nat.le_refl, znew, true_or, or_true, b01_t, b01_f, b01_ok, bool_ft, vp_b01, vp_b0, vp_b1, b01_eq0, b01_eq1, implies_true, nI_add, nI_clamp, zi_in, zi_le_t, zi_le_f, zi_lt_t, zi_lt_f, zi_eq_t, zi_eq_f, nI_leI, nI_ltI, nI_eq, z_in, pk_mul, zu_same, zu_rw, zu_ix, zi_ne0, zi_sub, zi_m1, Nat.add_sub_cancel, Nat.reduceMul, Nat.reduceSub]
  refine loop 24 P (by omega) S cpF.rf hP (fun S1 hf1 hP1 => ?_) (by omega)
  refine loop 16 _ (by simp; omega) S1 hf1 hP1 (fun S2 hf2 hP2 => ?_) (by omega)
  refine loop 8 _ (by simp; omega) S2 hf2 hP2 (fun S3 hf3 hP3 => ?_) (by omega)
  refine loop 0 _ (by simp; omega) S3 hf3 hP3 (fun S4 hf4 hP4 => ?_) (by omega)
  have h8 : (nI 0 + (-8) < nI 0) = True := eq_true (by decide)
  refine sX0_typed_3 _ _ _ _ _ ?_
  simp (disch := omega) only [oAld, oAst1, oBin, oDup, oGI, oGR, oIf, oIld, oInc, oNop, oPI, oPush, oRV, oUn, hB.k, hB.r1, hB.tk, hB.tr1, hB.tt1, hB.tn1, h8, List.getElem?_cons_zero, List.getElem?_cons_succ, List.set_cons_zero, List.set_cons_succ, List.drop_succ_cons, List.drop_zero, List.take_succ_cons, List.take_zero, List.length_cons, List.length_nil, List.reverse_cons, List.reverse_nil, List.nil_append, List.cons_append, Option.toList_some, Option.toList_none, va_rf_s, true_and, and_true, true_implies, false_implies, not_true_eq_false, not_false_eq_true, Nat.reduceAdd, Nat.reduceLeDiff, Nat.le_add_left, Nat.zero_le, Nat.le_refl, znew, true_or, or_true, b01_t, b01_f, b01_ok, bool_ft, vp_b01, vp_b0, vp_b1, b01_eq0, b01_eq1, implies_true, nI_add, nI_clamp, zi_in, zi_le_t, zi_le_f, zi_lt_t, zi_lt_f, zi_eq_t, zi_eq_f, nI_leI, nI_ltI, nI_eq, z_in, pk_mul, zu_same, zu_rw, zu_ix, zi_ne0, zi_sub, zi_m1, Nat.add_sub_cancel, Nat.reduceMul, Nat.reduceSub]
  refine hVQ _ _ ⟨rfl, S4, rfl, hf4, ?_⟩
  have : P ++ put4 w = P ++ [bF w 24] ++ [bF w 16] ++ [bF w 8] ++ [bF w 0] := by simp [put4]
  rw [this]; exact hP4
theorem zX0_feed (hB : isC h c) (hP : cP S c P) (c1 c2 c3 c4 c5 : Int32) :
    zM l E 1 YX0_feed [.ref c, .int c1, .int c2, .int c3, .int c4, .int c5] (z, h, S, L) 0 0 (fun r X => ∃ S', X = (z, h, S', L) ∧ cpF c S S' ∧ ((P.length + 20 ≤ 2000 ∧ r = some (.int (nI (P.length + 20))) ∧ cP S' c (P ++ (put4 c1 ++ put4 c2 ++ put4 c3 ++ put4 c4 ++ put4 c5))) ∨ (¬ P.length + 20 ≤ 2000 ∧ r = some (.int (-1)) ∧ cP S' c P))) (fun _ _ => False) := by
  refine zM.go rfl rfl (Nat.le_of_ble_eq_true rfl) (ls := [some (.ref c), some (.int c1), some (.int c2), some (.int c3), some (.int c4), some (.int c5)]) rfl ?_
  intro V hVl hVE hVd hVc hVs hVQ hVX
  obtain ⟨h2, hl, hi⟩ := id hP
  have l4 : ∀ w, (put4 w).length = 4 := fun _ => rfl
  by_cases hle : P.length + 20 ≤ 2000
  · refine sX0_feed_0 _ _ _ _ _ ?_
    simp (disch := omega) only [oAld, oBin, oCV, oGI, oGR, oIfc, oIld, oPush, oRI, hB.k, hB.r1, hB.tk, h2, List.getElem?_cons_zero, List.getElem?_cons_succ, List.set_cons_zero, List.set_cons_succ, List.drop_succ_cons, List.drop_zero, List.take_succ_cons, List.take_zero, List.length_cons, List.length_nil, List.reverse_cons, List.reverse_nil, List.nil_append, List.cons_append, Option.toList_some, Option.toList_none, va_rf_s, true_and, and_true, true_implies, false_implies, not_true_eq_false, not_false_eq_true, Nat.reduceAdd, Nat.reduceLeDiff, Nat.le_add_left, Nat.zero_le, Nat.le_refl, znew, true_or, or_true, b01_t, b01_f, b01_ok, bool_ft, vp_b01, vp_b0, vp_b1, b01_eq0, b01_eq1, implies_true, nI_add, nI_clamp, zi_in, zi_le_t, zi_le_f, zi_lt_t, zi_lt_f, zi_eq_t, zi_eq_f, nI_leI, nI_ltI, nI_eq, z_in, pk_mul, zu_same, zu_rw, zu_ix, zi_ne0, zi_sub, zi_m1, Nat.add_sub_cancel, Nat.reduceMul, Nat.reduceSub]
    refine zC.of0 (zX0_typed hB hP (by omega) _) (by omega) (Nat.zero_le _) (Nat.zero_le _) ?_
    rintro _ _ ⟨rfl, S1, rfl, hf1, hP1⟩
    refine sX0_feed_23 _ _ _ _ _ ?_
    simp (disch := omega) only [oAld, oCV, oIld, hB.k, List.getElem?_cons_zero, List.getElem?_cons_succ, List.set_cons_zero, List.set_cons_succ, List.drop_succ_cons, List.drop_zero, List.take_succ_cons, List.take_zero, List.length_cons, List.length_nil, List.reverse_cons, List.reverse_nil, List.nil_append, List.cons_append, Option.toList_some, Option.toList_none, va_rf_s, true_and, and_true, true_implies, false_implies, not_true_eq_false, not_false_eq_true, Nat.reduceAdd, Nat.reduceLeDiff, Nat.le_add_left, Nat.zero_le, Nat.le_refl, znew, true_or, or_true, b01_t, b01_f, b01_ok, bool_ft, vp_b01, vp_b0, vp_b1, b01_eq0, b01_eq1, implies_true, nI_add, nI_clamp, zi_in, zi_le_t, zi_le_f, zi_lt_t, zi_lt_f, zi_eq_t, zi_eq_f, nI_leI, nI_ltI, nI_eq, z_in, pk_mul, zu_same, zu_rw, zu_ix, zi_ne0, zi_sub, zi_m1, Nat.add_sub_cancel, Nat.reduceMul, Nat.reduceSub]
    refine zC.of0 (zX0_typed hB hP1 (by simp [l4]; omega) _) (by omega) (Nat.zero_le _) (Nat.zero_le _) ?_
    rintro _ _ ⟨rfl, S2, rfl, hf2, hP2⟩
    refine sX0_feed_28 _ _ _ _ _ ?_
    simp (disch := omega) only [oAld, oCV, oIld, hB.k, List.getElem?_cons_zero, List.getElem?_cons_succ, List.set_cons_zero, List.set_cons_succ, List.drop_succ_cons, List.drop_zero, List.take_succ_cons, List.take_zero, List.length_cons, List.length_nil, List.reverse_cons, List.reverse_nil, List.nil_append, List.cons_append, Option.toList_some, Option.toList_none, va_rf_s, true_and, and_true, true_implies, false_implies, not_true_eq_false, not_false_eq_true, Nat.reduceAdd, Nat.reduceLeDiff, Nat.le_add_left, Nat.zero_le, Nat.le_refl, znew, true_or, or_true, b01_t, b01_f, b01_ok, bool_ft, vp_b01, vp_b0, vp_b1, b01_eq0, b01_eq1, implies_true, nI_add, nI_clamp, zi_in, zi_le_t, zi_le_f, zi_lt_t, zi_lt_f, zi_eq_t, zi_eq_f, nI_leI, nI_ltI, nI_eq, z_in, pk_mul, zu_same, zu_rw, zu_ix, zi_ne0, zi_sub, zi_m1, Nat.add_sub_cancel, Nat.reduceMul, Nat.reduceSub]
    refine zC.of0 (zX0_typed hB hP2 (by simp [l4]; omega) _) (by omega) (Nat.zero_le _) (Nat.zero_le _) ?_
    rintro _ _ ⟨rfl, S3, rfl, hf3, hP3⟩
    refine sX0_feed_33 _ _ _ _ _ ?_
    simp (disch := omega) only [oAld, oCV, oIld, hB.k, List.getElem?_cons_zero, List.getElem?_cons_succ, List.set_cons_zero, List.set_cons_succ, List.drop_succ_cons, List.drop_zero, List.take_succ_cons, List.take_zero, List.length_cons, List.length_nil, List.reverse_cons, List.reverse_nil, List.nil_append, List.cons_append, Option.toList_some, Option.toList_none, va_rf_s, true_and, and_true, true_implies, false_implies, not_true_eq_false, not_false_eq_true, Nat.reduceAdd, Nat.reduceLeDiff, Nat.le_add_left, Nat.zero_le, Nat.le_refl, znew, true_or, or_true, b01_t, b01_f, b01_ok, bool_ft, vp_b01, vp_b0, vp_b1, b01_eq0, b01_eq1, implies_true, nI_add, nI_clamp, zi_in, zi_le_t, zi_le_f, zi_lt_t, zi_lt_f, zi_eq_t, zi_eq_f, nI_leI, nI_ltI, nI_eq, z_in, pk_mul, zu_same, zu_rw, zu_ix, zi_ne0, zi_sub, zi_m1, Nat.add_sub_cancel, Nat.reduceMul, Nat.reduceSub]
    refine zC.of0 (zX0_typed hB hP3 (by simp [l4]; omega) _) (by omega) (Nat.zero_le _) (Nat.zero_le _) ?_
    rintro _ _ ⟨rfl, S4, rfl, hf4, hP4⟩
    refine sX0_feed_39 _ _ _ _ _ ?_
    simp (disch := omega) only [oAld, oCV, oIld, hB.k, List.getElem?_cons_zero, List.getElem?_cons_succ, List.set_cons_zero, List.set_cons_succ, List.drop_succ_cons, List.drop_zero, List.take_succ_cons, List.take_zero, List.length_cons, List.length_nil, List.reverse_cons, List.reverse_nil, List.nil_append, List.cons_append, Option.toList_some, Option.toList_none, va_rf_s, true_and, and_true, true_implies, false_implies, not_true_eq_false, not_false_eq_true, Nat.reduceAdd, Nat.reduceLeDiff, Nat.le_add_left, Nat.zero_le, Nat.le_refl, znew, true_or, or_true, b01_t, b01_f, b01_ok, bool_ft, vp_b01, vp_b0, vp_b1, b01_eq0, b01_eq1, implies_true, nI_add, nI_clamp, zi_in, zi_le_t, zi_le_f, zi_lt_t, zi_lt_f, zi_eq_t, zi_eq_f, nI_leI, nI_ltI, nI_eq, z_in, pk_mul, zu_same, zu_rw, zu_ix, zi_ne0, zi_sub, zi_m1, Nat.add_sub_cancel, Nat.reduceMul, Nat.reduceSub]
    refine zC.of0 (zX0_typed hB hP4 (by simp [l4]; omega) _) (by omega) (Nat.zero_le _) (Nat.zero_le _) ?_
    rintro _ _ ⟨rfl, S5, rfl, hf5, hP5⟩
    refine sX0_feed_45 _ _ _ _ _ ?_
    simp (disch := omega) only [oAld, oGI, oGR, oRI, hB.k, hB.r1, hB.tk, hP5.1, List.getElem?_cons_zero, List.getElem?_cons_succ, List.set_cons_zero, List.set_cons_succ, List.drop_succ_cons, List.drop_zero, List.take_succ_cons, List.take_zero, List.length_cons, List.length_nil, List.reverse_cons, List.reverse_nil, List.nil_append, List.cons_append, Option.toList_some, Option.toList_none, va_rf_s, true_and, and_true, true_implies, false_implies, not_true_eq_false, not_false_eq_true, Nat.reduceAdd, Nat.reduceLeDiff, Nat.le_add_left, Nat.zero_le, Nat.le_refl, znew, true_or, or_true, b01_t, b01_f, b01_ok, bool_ft, vp_b01, vp_b0, vp_b1, b01_eq0, b01_eq1, implies_true, nI_add, nI_clamp, zi_in, zi_le_t, zi_le_f, zi_lt_t, zi_lt_f, zi_eq_t, zi_eq_f, nI_leI, nI_ltI, nI_eq, z_in, pk_mul, zu_same, zu_rw, zu_ix, zi_ne0, zi_sub, zi_m1, Nat.add_sub_cancel, Nat.reduceMul, Nat.reduceSub]
    refine hVQ _ _ ⟨S5, rfl, (((hf1.tr hf2).tr hf3).tr hf4).tr hf5, Or.inl ⟨hle, ?_, ?_⟩⟩
    · simp [l4]
    · simpa [List.append_assoc] using hP5
  · refine sX0_feed_0 _ _ _ _ _ ?_
    simp (disch := omega) only [oAld, oBin, oCV, oGI, oGR, oIfc, oIld, oPush, oRI, hB.k, hB.r1, hB.tk, h2, List.getElem?_cons_zero, List.getElem?_cons_succ, List.set_cons_zero, List.set_cons_succ, List.drop_succ_cons, List.drop_zero, List.take_succ_cons, List.take_zero, List.length_cons, List.length_nil, List.reverse_cons, List.reverse_nil, List.nil_append, List.cons_append, Option.toList_some, Option.toList_none, va_rf_s, true_and, and_true, true_implies, false_implies, not_true_eq_false, not_false_eq_true, Nat.reduceAdd, Nat.reduceLeDiff, Nat.le_add_left, Nat.zero_le, Nat.le_refl, znew, true_or, or_true, b01_t, b01_f, b01_ok, bool_ft, vp_b01, vp_b0, vp_b1, b01_eq0, b01_eq1, implies_true, nI_add, nI_clamp, zi_in, zi_le_t, zi_le_f, zi_lt_t, zi_lt_f, zi_eq_t, zi_eq_f, nI_leI, nI_ltI, nI_eq, z_in, pk_mul, zu_same, zu_rw, zu_ix, zi_ne0, zi_sub, zi_m1, Nat.add_sub_cancel, Nat.reduceMul, Nat.reduceSub]
    exact hVQ _ _ ⟨S, rfl, cpF.rf, Or.inr ⟨hle, rfl, hP⟩⟩
end CN
