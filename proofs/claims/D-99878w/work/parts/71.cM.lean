/-! the component: deeds -/
theorem nI_add_sub (a b : Nat) : nI (a + b) - nI a = nI b := by
  rw [← nI_add, Int32.add_comm]
  simp
theorem end_to {t : ZT} {s v : Nat} (hv : v < 1000) (h1 : tone t s < 1000) (h2 : toth t s < 1000) (hq : tone t s = v ∨ toth t s = v) : endF t s (nI v) = nI (tone t s + toth t s) - nI v := by
  unfold endF
  by_cases e1 : v = tone t s
  · rw [if_pos (by rw [e1]), e1, nI_add_sub]
  · have e2 : v = toth t s := by omega
    rw [if_neg (fun q => e1 ((nI_eq (by omega) (by omega)).mp q)), if_pos (by rw [e2]), e2, Nat.add_comm, nI_add_sub]
theorem end_ge {t : ZT} {s v : Nat} (hv : v < 1000) (h1 : tone t s < 1000) (h2 : toth t s < 1000) : (nI 0 ≤ endF t s (nI v)) = (tone t s = v ∨ toth t s = v) := by
  have h := end_neg (t := t) (s := s) hv h1 h2
  apply propext
  rw [← Int32.not_lt, h, Classical.not_not]
theorem tw.ho {S S' : Nat → Nat → Int32} {w : Nat} {t : ZT} {sd : Int32} {T T' : Nat → Int32} (hT : tw S w t sd T) (h12 : ∀ y, y < tny t → T' (12 + y) = T (12 + y)) : S w 6 = homeR t T' := by
  rw [hT.2.2.2.2.2.1]
  exact setF_ext (fun k hk => by rw [h12 k hk])
theorem tw.ro {S S' : Nat → Nat → Int32} {w : Nat} {t : ZT} {sd : Int32} {T T' : Nat → Int32} (hT : tw S w t sd T) (h12 : ∀ y, y < tny t → T' (30 + y) = T (30 + y)) : S w 7 = rougeR t T' := by
  rw [hT.2.2.2.2.2.2.1]
  exact setF_ext (fun k hk => by rw [h12 k hk])
theorem tw.li0 {S : Nat → Nat → Int32} {w : Nat} {t : ZT} {sd : Int32} {T T' : Nat → Int32} (h6 : tny t ≤ 6) (hT : tw S w t sd T) (v : Int32) (p46 : T' 46 = v) (pe : ∀ j, j ≠ 46 → T' j = T j) : tw (zu S w 8 v) w t sd T' := by
  have hh : S w 6 = homeR t T' := tw.ho (S' := S) hT (fun y hy => pe _ (by omega))
  have hg : S w 7 = rougeR t T' := tw.ro (S' := S) hT (fun y hy => pe _ (by omega))
  obtain ⟨h1, h2, h3, h4, h5, -, -, h8, h9, h10⟩ := hT
  refine ⟨fun y hy => ?_, fun y hy => ?_, fun y hy => ?_, fun y hy => ?_, fun y hy => ?_, ?_, ?_, fun _ => ?_, ?_, ?_⟩
  · rw [zu_rw _ _ (by omega), pe _ (by omega)]; exact h1 y hy
  · rw [zu_rw _ _ (by omega), pe _ (by omega)]; exact h2 y hy
  · rw [zu_rw _ _ (by omega), pe _ (by omega)]; exact h3 y hy
  · rw [zu_rw _ _ (by omega), pe _ (by omega)]; exact h4 y hy
  · rw [zu_rw _ _ (by omega), zu_rw _ _ (by omega), pe _ (by omega), pe _ (by omega)]; exact h5 y hy
  · rw [zu_ix _ _ (by omega)]; exact hh
  · rw [zu_ix _ _ (by omega)]; exact hg
  · rw [zu_same, p46]
  · rw [zu_ix _ _ (by omega), pe _ (by omega)]; exact h9
  · rw [zu_ix _ _ (by omega)]; exact h10
theorem tw.li {S : Nat → Nat → Int32} {w : Nat} {t : ZT} {sd : Int32} {T : Nat → Int32} (h6 : tny t ≤ 6) (hT : tw S w t sd T) (v : Int32) : tw (zu S w 8 v) w t sd (fun j => if j = 46 then v else T j) := hT.li0 h6 v (if_pos rfl) (fun _ hj => if_neg hj)
theorem tw.mo {S : Nat → Nat → Int32} {w : Nat} {t : ZT} {sd : Int32} {T : Nat → Int32} (h6 : tny t ≤ 6) (hT : tw S w t sd T) {y : Nat} (hy : y < tny t) (v : Int32) : tw (zu S (w + 1) y v) w t sd (moveT T y v) := by
  have pe : ∀ j, j ≠ y → moveT T y v j = T j := fun j hj => if_neg hj
  have hh : S w 6 = homeR t (moveT T y v) := tw.ho (S' := S) hT (fun y hy => pe _ (by omega))
  have hg : S w 7 = rougeR t (moveT T y v) := tw.ro (S' := S) hT (fun y hy => pe _ (by omega))
  obtain ⟨h1, h2, h3, h4, h5, -, -, h8, h9, h10⟩ := hT
  refine ⟨fun i hi => ?_, fun y hy => ?_, fun y hy => ?_, fun y hy => ?_, fun y hy => ?_, ?_, ?_, fun hc => ?_, ?_, ?_⟩
  · by_cases he : i = y
    · subst he; rw [zu_same, if_pos hy]; exact (if_pos rfl).symm
    · rw [zu_ix _ _ he, pe _ he]; exact h1 i hi
  · rw [zu_rw _ _ (by omega), pe _ (by omega)]; exact h2 _ hy
  · rw [zu_rw _ _ (by omega), pe _ (by omega)]; exact h3 _ hy
  · rw [zu_rw _ _ (by omega), pe _ (by omega)]; exact h4 _ hy
  · rw [zu_rw _ _ (by omega), zu_rw _ _ (by omega), pe _ (by omega), pe _ (by omega)]; exact h5 _ hy
  · rw [zu_rw _ _ (by omega)]; exact hh
  · rw [zu_rw _ _ (by omega)]; exact hg
  · rw [zu_rw _ _ (by omega), pe _ (by omega)]; exact h8 hc
  · rw [zu_rw _ _ (by omega), pe _ (by omega)]; exact h9
  · rw [zu_rw _ _ (by omega)]; exact h10
theorem tw.rg {S : Nat → Nat → Int32} {w : Nat} {t : ZT} {sd : Int32} {T : Nat → Int32} (h6 : tny t ≤ 6) (hT : tw S w t sd T) {y : Nat} (hy : y < tny t) : tw (zu (zu S (w + 2) y (withinF (T (6 + y) + nI 20) (nI 0) (nI 999))) w 7 (rougeR t T ||| bitF y)) w t sd (rougeT T y) := by
  have pj : ∀ j, rougeT T y j = if j = 30 + y then nI 1 else if j = 6 + y then withinF (T (6 + y) + nI 20) (nI 0) (nI 999) else T j := fun _ => rfl
  have pe : ∀ j, j ≠ 30 + y → j ≠ 6 + y → rougeT T y j = T j := fun j j1 j2 => by rw [pj, if_neg j1, if_neg j2]
  have hh : S w 6 = homeR t (rougeT T y) := tw.ho (S' := S) hT (fun y hy => pe _ (by omega) (by omega))
  have hg : rougeR t T ||| bitF y = rougeR t (rougeT T y) := by
    have hb : bitF y = setF (fun i => decide (i = y)) (tny t) := by
      have : ∀ n, n ≤ 6 → setF (fun i => decide (i = y)) n = if y < n then bitF y else nI 0 := by
        intro n
        induction n with
        | zero => intro _; rfl
        | succ n ih =>
          intro hn
          by_cases hy2 : n = y
          · rw [setF_t (by simpa using hy2), ih (by omega), if_neg (by omega), if_pos (by omega), hy2]
            unfold bitF; rw [Int32.or_comm]; exact i_or0 _
          · rw [setF_f (by simpa using hy2), ih (by omega)]
            by_cases h3 : y < n
            · rw [if_pos h3, if_pos (by omega)]
            · rw [if_neg h3, if_neg (by omega)]
      rw [this _ h6, if_pos hy]
    rw [hb, rougeR, setF_or _ _ (by omega)]
    refine setF_ext (fun k hk => ?_)
    by_cases hk2 : k = y
    · subst hk2; rw [pj, if_pos rfl]; simp
    · rw [pe _ (by omega) (by omega)]; simp [hk2]
  obtain ⟨h1, h2, h3, h4, h5, -, -, h8, h9, h10⟩ := hT
  refine ⟨fun i hi => ?_, fun i hi => ?_, fun i hi => ?_, fun i hi => ?_, fun i hi => ?_, ?_, ?_, fun hc => ?_, ?_, ?_⟩
  · rw [zu_rw _ _ (by omega), zu_rw _ _ (by omega), pe _ (by omega) (by omega)]; exact h1 _ hi
  · by_cases he : i = y
    · subst he; rw [zu_rw _ _ (by omega), zu_same, pj, if_neg (by omega), if_pos rfl]
    · rw [zu_rw _ _ (by omega), zu_ix _ _ he, pe _ (by omega) (by omega)]; exact h2 i hi
  · rw [zu_rw _ _ (by omega), zu_rw _ _ (by omega), pe _ (by omega) (by omega)]; exact h3 _ hi
  · rw [zu_rw _ _ (by omega), zu_rw _ _ (by omega), pe _ (by omega) (by omega)]; exact h4 _ hi
  · rw [zu_rw _ _ (by omega), zu_rw _ _ (by omega), zu_rw _ _ (by omega), zu_rw _ _ (by omega), pe _ (by omega) (by omega), pe _ (by omega) (by omega)]; exact h5 _ hi
  · rw [zu_ix _ _ (by omega), zu_rw _ _ (by omega)]; exact hh
  · rw [zu_same]; exact hg
  · rw [zu_ix _ _ (by omega), zu_rw _ _ (by omega), pe _ (by omega) (by omega)]; exact h8 hc
  · rw [zu_ix _ _ (by omega), zu_rw _ _ (by omega), pe _ (by omega) (by omega)]; exact h9
  · rw [zu_ix _ _ (by omega), zu_rw _ _ (by omega)]; exact h10
section CM
variable {l : Launch} {E : zE} {z : Nat} {h : Nat → Option zSh} {S : Nat → Nat → Int32} {L : Nat → Nat → Int64} {c D ta : Nat} {t : ZT} {q0 T : Nat → Int32} {A : zTA} {U : List (Nat → Int32)}
/-- behind 'keeps' -/
theorem cQ.kp {S1 : Nat → Nat → Int32} (hQ : cQ h S c z D ta t q0 A T) (h1 : ∀ a, a ≠ c → ¬ (c + 206 ≤ a ∧ a < c + 606) → S1 a = S a) : cQ h S1 c z D ta t q0 A T := by
  obtain ⟨hB, hTa, hX, hT, hI, hTI⟩ := hQ
  refine ⟨hB, hTa, hX.fr (fun a ha => ?_) (fun _ _ => rfl) (fun _ ha => ha), hT.fr (fun o ho => h1 _ (by omega) (by omega)), hI, hTI⟩
  have h7 : ¬ Rg c a := ha.1
  unfold Rg at h7
  exact h1 a (by omega) (by omega)
/-- behind 'keeps' and a change of the town alone -/
theorem cDo.kt {S1 S2 : Nat → Nat → Int32} (h1 : ∀ a, a ≠ c → ¬ (c + 206 ≤ a ∧ a < c + 606) → S1 a = S a) (h2 : ∀ j, j ≠ 5 → j ≠ 6 → S1 c j = S c j) (hF : twF (c + 16) S1 S2) : cDo c S S2 :=
  ⟨fun a a1 a2 a3 a4 => by rw [hF a (by omega)]; exact h1 a a1 a4, fun j j1 j2 j3 => by rw [hF c (by omega)]; exact h2 j j1 j2⟩
theorem cU.tn {S1 S2 : Nat → Nat → Int32} (h : cU S1 c t U) (hF : twF (c + 16) S1 S2) : cU S2 c t U := h.fr (by rw [hF c (by omega)]) (by rw [hF c (by omega)]) (fun a h1 h2 => hF a (by omega))
theorem zX0_step (hQ : cQ h S c z D ta t q0 A T) (hU0 : cU S c t U) (s : Int32) : zM l E (D + 6) YX0_step [.ref c, .int s] (z, h, S, L) 0 0 (fun r X => ∃ S', X = (z, h, S', L) ∧ cDo c S S' ∧ ((stepOk t T s ∧ tw S' (c + 16) t (tsd t) (stepT t T s.toNatClampNeg) ∧ cU S' c t (pushU T U) ∧ r = some (.int (stepT t T s.toNatClampNeg 46))) ∨ (¬ stepOk t T s ∧ tw S' (c + 16) t (tsd t) T ∧ cU S' c t U ∧ r = some (.int (-1))))) (fun _ _ => False) := by
  obtain ⟨hB, hTa, hX, hT, hI, hTI⟩ := id hQ
  obtain ⟨h7, h10, h6, h5⟩ := hX.b
  have hW := hB.tn
  have hk : okW (okR c z) (c + 16) := okR.w (by omega) (by omega)
  refine zM.go rfl rfl (Nat.le_of_ble_eq_true rfl) (ls := [some (.ref c), some (.int s)]) rfl ?_
  intro V hVl hVE hVd hVc hVs hVQ hVX
  have no : ¬ stepOk t T s → V.2.2.2.2.2.1 (some (.int (-1))) (z, h, S, L) := fun hn => hVQ _ _ ⟨S, rfl, cDo.q cqF.rf, Or.inr ⟨hn, hT, hU0, rfl⟩⟩
  refine sX0_step_0 _ _ _ _ _ ?_
  simp (disch := omega) only [oAld, oCV, oIld, hB.k, List.getElem?_cons_zero, List.getElem?_cons_succ, List.set_cons_zero, List.set_cons_succ, List.drop_succ_cons, List.drop_zero, List.take_succ_cons, List.take_zero, List.length_cons, List.length_nil, List.reverse_cons, List.reverse_nil, List.nil_append, List.cons_append, Option.toList_some, Option.toList_none, va_rf_s, true_and, and_true, true_implies, false_implies, not_true_eq_false, not_false_eq_true, Nat.reduceAdd, Nat.reduceLeDiff, Nat.le_add_left, Nat.zero_le, Nat.le_refl, znew, true_or, or_true, b01_t, b01_f, b01_ok, bool_ft, vp_b01, vp_b0, vp_b1, b01_eq0, b01_eq1, implies_true, nI_add, nI_clamp, zi_in, zi_le_t, zi_le_f, zi_lt_t, zi_lt_f, zi_eq_t, zi_eq_f, nI_leI, nI_ltI, nI_eq, z_in, pk_mul, zu_same, zu_rw, zu_ix, zi_ne0, zi_sub, zi_m1, Nat.add_sub_cancel, Nat.reduceMul, Nat.reduceSub]
  refine zC.of0 (zX0_isStreet hQ _) (by omega) (Nat.zero_le _) (Nat.zero_le _) ?_
  rintro _ _ ⟨rfl, rfl⟩
  cases hok : okI s (tns t) with
  | false =>
    refine sX0_step_5 _ _ _ _ _ ?_
    simp (disch := omega) only [oAld, oCV, oGR, oIf, oIld, oPush, oRI, hB.k, hTa, hX.k, hX.r1, hX.z0, hX.z1, hX.z2, hX.z3, List.getElem?_cons_zero, List.getElem?_cons_succ, List.set_cons_zero, List.set_cons_succ, List.drop_succ_cons, List.drop_zero, List.take_succ_cons, List.take_zero, List.length_cons, List.length_nil, List.reverse_cons, List.reverse_nil, List.nil_append, List.cons_append, Option.toList_some, Option.toList_none, va_rf_s, true_and, and_true, true_implies, false_implies, not_true_eq_false, not_false_eq_true, Nat.reduceAdd, Nat.reduceLeDiff, Nat.le_add_left, Nat.zero_le, Nat.le_refl, znew, true_or, or_true, b01_t, b01_f, b01_ok, bool_ft, vp_b01, vp_b0, vp_b1, b01_eq0, b01_eq1, implies_true, nI_add, nI_clamp, zi_in, zi_le_t, zi_le_f, zi_lt_t, zi_lt_f, zi_eq_t, zi_eq_f, nI_leI, nI_ltI, nI_eq, z_in, pk_mul, zu_same, zu_rw, zu_ix, zi_ne0, zi_sub, zi_m1, Nat.add_sub_cancel, Nat.reduceMul, Nat.reduceSub]
    exact no (fun q => by rw [q.1] at hok; cases hok)
  | true =>
    obtain ⟨j, hj, rfl⟩ := (okI_iff (by omega)).mp hok
    obtain ⟨-, s1, -, -, -, s5, s6, -⟩ := hX.st hj
    obtain ⟨v, hv, e46⟩ := hI.2.2.2.2.2.1.1 (by omega)
    have e8 : S (c + 16) 8 = nI v := (hT.2.2.2.2.2.2.2.1 (by omega)).trans e46
    refine sX0_step_5 _ _ _ _ _ ?_
    simp (disch := omega) only [oAld, oCV, oGR, oIf, oIld, oPush, oRI, hB.k, hTa, hX.k, hX.r1, hX.z0, hX.z1, hX.z2, hX.z3, List.getElem?_cons_zero, List.getElem?_cons_succ, List.set_cons_zero, List.set_cons_succ, List.drop_succ_cons, List.drop_zero, List.take_succ_cons, List.take_zero, List.length_cons, List.length_nil, List.reverse_cons, List.reverse_nil, List.nil_append, List.cons_append, Option.toList_some, Option.toList_none, va_rf_s, true_and, and_true, true_implies, false_implies, not_true_eq_false, not_false_eq_true, Nat.reduceAdd, Nat.reduceLeDiff, Nat.le_add_left, Nat.zero_le, Nat.le_refl, znew, true_or, or_true, b01_t, b01_f, b01_ok, bool_ft, vp_b01, vp_b0, vp_b1, b01_eq0, b01_eq1, implies_true, nI_add, nI_clamp, zi_in, zi_le_t, zi_le_f, zi_lt_t, zi_lt_f, zi_eq_t, zi_eq_f, nI_leI, nI_ltI, nI_eq, z_in, pk_mul, zu_same, zu_rw, zu_ix, zi_ne0, zi_sub, zi_m1, Nat.add_sub_cancel, Nat.reduceMul, Nat.reduceSub]
    refine zC.of0 (zJ5_get hX.l1 hj) (by omega) (Nat.zero_le _) (Nat.zero_le _) ?_
    rintro _ _ ⟨rfl, rfl⟩
    refine sX0_step_19 _ _ _ _ _ ?_
    simp (disch := omega) only [oAld, oCV, oCast, oGI, oGR, hB.k, hB.r7, hW.k, s1, e8, List.getElem?_cons_zero, List.getElem?_cons_succ, List.set_cons_zero, List.set_cons_succ, List.drop_succ_cons, List.drop_zero, List.take_succ_cons, List.take_zero, List.length_cons, List.length_nil, List.reverse_cons, List.reverse_nil, List.nil_append, List.cons_append, Option.toList_some, Option.toList_none, va_rf_s, true_and, and_true, true_implies, false_implies, not_true_eq_false, not_false_eq_true, Nat.reduceAdd, Nat.reduceLeDiff, Nat.le_add_left, Nat.zero_le, Nat.le_refl, znew, true_or, or_true, b01_t, b01_f, b01_ok, bool_ft, vp_b01, vp_b0, vp_b1, b01_eq0, b01_eq1, implies_true, nI_add, nI_clamp, zi_in, zi_le_t, zi_le_f, zi_lt_t, zi_lt_f, zi_eq_t, zi_eq_f, nI_leI, nI_ltI, nI_eq, z_in, pk_mul, zu_same, zu_rw, zu_ix, zi_ne0, zi_sub, zi_m1, Nat.add_sub_cancel, Nat.reduceMul, Nat.reduceSub]
    refine zC.of0 (zX18_end hX hj _) (by omega) (Nat.zero_le _) (Nat.zero_le _) ?_
    rintro _ _ ⟨rfl, rfl⟩
    have eg := end_ge (t := t) (s := j) (v := v) (by omega) (by omega) (by omega)
    by_cases hq : tone t j = v ∨ toth t j = v
    · have eg' : (nI 0 ≤ endF t j (nI v)) = True := by rw [eg]; exact eq_true hq
      have hst : stepOk t T (nI j) := ⟨hok, by rw [nI_clamp (by omega), e46]; rcases hq with e | e <;> rw [e] <;> simp⟩
      refine sX0_step_32 _ _ _ _ _ ?_
      simp (disch := omega) only [oAld, oCV, oIf, oPush, oRI, hB.k, eg', List.getElem?_cons_zero, List.getElem?_cons_succ, List.set_cons_zero, List.set_cons_succ, List.drop_succ_cons, List.drop_zero, List.take_succ_cons, List.take_zero, List.length_cons, List.length_nil, List.reverse_cons, List.reverse_nil, List.nil_append, List.cons_append, Option.toList_some, Option.toList_none, va_rf_s, true_and, and_true, true_implies, false_implies, not_true_eq_false, not_false_eq_true, Nat.reduceAdd, Nat.reduceLeDiff, Nat.le_add_left, Nat.zero_le, Nat.le_refl, znew, true_or, or_true, b01_t, b01_f, b01_ok, bool_ft, vp_b01, vp_b0, vp_b1, b01_eq0, b01_eq1, implies_true, nI_add, nI_clamp, zi_in, zi_le_t, zi_le_f, zi_lt_t, zi_lt_f, zi_eq_t, zi_eq_f, nI_leI, nI_ltI, nI_eq, z_in, pk_mul, zu_same, zu_rw, zu_ix, zi_ne0, zi_sub, zi_m1, Nat.add_sub_cancel, Nat.reduceMul, Nat.reduceSub]
      refine zC.of0 (zX0_keeps hB hT hU0) (by omega) (Nat.zero_le _) (Nat.zero_le _) ?_
      rintro _ _ ⟨rfl, S1, rfl, k1, k2, hU1⟩
      have hQ1 := hQ.kp k1
      have e81 : S1 (c + 16) 8 = nI v := by rw [k1 _ (by omega) (by omega)]; exact e8
      have hX1 := hQ1.2.2.1
      refine sX0_step_41 _ _ _ _ _ ?_
      simp (disch := omega) only [oAld, oCV, oGR, oIld, hB.k, hB.r7, hTa, hX.k, hX.r1, hX.z0, hX.z1, hX.z2, hX.z3, List.getElem?_cons_zero, List.getElem?_cons_succ, List.set_cons_zero, List.set_cons_succ, List.drop_succ_cons, List.drop_zero, List.take_succ_cons, List.take_zero, List.length_cons, List.length_nil, List.reverse_cons, List.reverse_nil, List.nil_append, List.cons_append, Option.toList_some, Option.toList_none, va_rf_s, true_and, and_true, true_implies, false_implies, not_true_eq_false, not_false_eq_true, Nat.reduceAdd, Nat.reduceLeDiff, Nat.le_add_left, Nat.zero_le, Nat.le_refl, znew, true_or, or_true, b01_t, b01_f, b01_ok, bool_ft, vp_b01, vp_b0, vp_b1, b01_eq0, b01_eq1, implies_true, nI_add, nI_clamp, zi_in, zi_le_t, zi_le_f, zi_lt_t, zi_lt_f, zi_eq_t, zi_eq_f, nI_leI, nI_ltI, nI_eq, z_in, pk_mul, zu_same, zu_rw, zu_ix, zi_ne0, zi_sub, zi_m1, Nat.add_sub_cancel, Nat.reduceMul, Nat.reduceSub]
      refine zC.of0 (zJ5_get hX1.l1 hj) (by omega) (Nat.zero_le _) (Nat.zero_le _) ?_
      rintro _ _ ⟨rfl, rfl⟩
      refine sX0_step_56 _ _ _ _ _ ?_
      simp (disch := omega) only [oAld, oCV, oCast, oGI, oGR, hB.k, hB.r7, hW.k, s1, e81, List.getElem?_cons_zero, List.getElem?_cons_succ, List.set_cons_zero, List.set_cons_succ, List.drop_succ_cons, List.drop_zero, List.take_succ_cons, List.take_zero, List.length_cons, List.length_nil, List.reverse_cons, List.reverse_nil, List.nil_append, List.cons_append, Option.toList_some, Option.toList_none, va_rf_s, true_and, and_true, true_implies, false_implies, not_true_eq_false, not_false_eq_true, Nat.reduceAdd, Nat.reduceLeDiff, Nat.le_add_left, Nat.zero_le, Nat.le_refl, znew, true_or, or_true, b01_t, b01_f, b01_ok, bool_ft, vp_b01, vp_b0, vp_b1, b01_eq0, b01_eq1, implies_true, nI_add, nI_clamp, zi_in, zi_le_t, zi_le_f, zi_lt_t, zi_lt_f, zi_eq_t, zi_eq_f, nI_leI, nI_ltI, nI_eq, z_in, pk_mul, zu_same, zu_rw, zu_ix, zi_ne0, zi_sub, zi_m1, Nat.add_sub_cancel, Nat.reduceMul, Nat.reduceSub]
      refine zC.of0 (zX18_end hX1 hj _) (by omega) (Nat.zero_le _) (Nat.zero_le _) ?_
      rintro _ _ ⟨rfl, rfl⟩
      rw [end_to (by omega) (by omega) (by omega) hq, ← e46]
      refine sX0_step_69 _ _ _ _ _ ?_
      simp (disch := omega) only [oAld, oCV, oGR, oPI, hW.k, hB.k, hB.r7, hTa, hB.r11, List.getElem?_cons_zero, List.getElem?_cons_succ, List.set_cons_zero, List.set_cons_succ, List.drop_succ_cons, List.drop_zero, List.take_succ_cons, List.take_zero, List.length_cons, List.length_nil, List.reverse_cons, List.reverse_nil, List.nil_append, List.cons_append, Option.toList_some, Option.toList_none, va_rf_s, true_and, and_true, true_implies, false_implies, not_true_eq_false, not_false_eq_true, Nat.reduceAdd, Nat.reduceLeDiff, Nat.le_add_left, Nat.zero_le, Nat.le_refl, znew, true_or, or_true, b01_t, b01_f, b01_ok, bool_ft, vp_b01, vp_b0, vp_b1, b01_eq0, b01_eq1, implies_true, nI_add, nI_clamp, zi_in, zi_le_t, zi_le_f, zi_lt_t, zi_lt_f, zi_eq_t, zi_eq_f, nI_leI, nI_ltI, nI_eq, z_in, pk_mul, zu_same, zu_rw, zu_ix, zi_ne0, zi_sub, zi_m1, Nat.add_sub_cancel, Nat.reduceMul, Nat.reduceSub]
      have hF2 : twF (c + 16) S1 (zu S1 (c + 16) 8 (nI (tone t j + toth t j) - T 46)) := fun a ha => zu_rw _ _ (by omega)
      have hT2 := (hQ1.2.2.2.1).li h6 (nI (tone t j + toth t j) - T 46)
      have hX2 : isTx h (zu S1 (c + 16) 8 (nI (tone t j + toth t j) - T 46)) (okR c z) D ta t q0 A := hX1.fr (fun a ha => hF2 a (hk a ha)) (fun _ _ => rfl) (fun _ ha => ha)
      have hI2 : rI t (fun i => if i = 46 then nI (tone t j + toth t j) - T 46 else T i) := by
        rw [e46]
        rcases hq with e | e
        · rw [← e, nI_add_sub]; exact rI_light h6 hI s6
        · rw [← e, Nat.add_comm, nI_add_sub]; exact rI_light h6 hI s5
      refine zC.of0 (zX5_goesBy hW hX2 hk hT2 hI2 hTI (Or.inl ⟨hB.dr, rfl⟩)) (by omega) (Nat.zero_le _) (Nat.zero_le _) ?_
      rintro _ _ ⟨rfl, S3, rfl, hF3, hT3⟩
      have hF3' : twF (c + 16) S1 S3 := fun a ha => (hF3 a ha).trans (hF2 a ha)
      have hT3' : tw S3 (c + 16) t (tsd t) (stepT t T j) := hT3
      have e83 : S3 (c + 16) 8 = stepT t T j 46 := hT3'.2.2.2.2.2.2.2.1 (by omega)
      refine sX0_step_87 _ _ _ _ _ ?_
      simp (disch := omega) only [oAld, oGI, oGR, oRI, hB.k, hB.r7, hW.k, e83, List.getElem?_cons_zero, List.getElem?_cons_succ, List.set_cons_zero, List.set_cons_succ, List.drop_succ_cons, List.drop_zero, List.take_succ_cons, List.take_zero, List.length_cons, List.length_nil, List.reverse_cons, List.reverse_nil, List.nil_append, List.cons_append, Option.toList_some, Option.toList_none, va_rf_s, true_and, and_true, true_implies, false_implies, not_true_eq_false, not_false_eq_true, Nat.reduceAdd, Nat.reduceLeDiff, Nat.le_add_left, Nat.zero_le, Nat.le_refl, znew, true_or, or_true, b01_t, b01_f, b01_ok, bool_ft, vp_b01, vp_b0, vp_b1, b01_eq0, b01_eq1, implies_true, nI_add, nI_clamp, zi_in, zi_le_t, zi_le_f, zi_lt_t, zi_lt_f, zi_eq_t, zi_eq_f, nI_leI, nI_ltI, nI_eq, z_in, pk_mul, zu_same, zu_rw, zu_ix, zi_ne0, zi_sub, zi_m1, Nat.add_sub_cancel, Nat.reduceMul, Nat.reduceSub]
      refine hVQ _ _ ⟨S3, rfl, cDo.kt k1 k2 hF3', Or.inl ⟨hst, ?_, hU1.tn hF3', ?_⟩⟩
      · rw [nI_clamp (by omega)]; exact hT3'
      · rw [nI_clamp (by omega)]
    · have eg' : (nI 0 ≤ endF t j (nI v)) = False := by rw [eg]; exact eq_false hq
      refine sX0_step_32 _ _ _ _ _ ?_
      simp (disch := omega) only [oAld, oCV, oIf, oPush, oRI, hB.k, eg', List.getElem?_cons_zero, List.getElem?_cons_succ, List.set_cons_zero, List.set_cons_succ, List.drop_succ_cons, List.drop_zero, List.take_succ_cons, List.take_zero, List.length_cons, List.length_nil, List.reverse_cons, List.reverse_nil, List.nil_append, List.cons_append, Option.toList_some, Option.toList_none, va_rf_s, true_and, and_true, true_implies, false_implies, not_true_eq_false, not_false_eq_true, Nat.reduceAdd, Nat.reduceLeDiff, Nat.le_add_left, Nat.zero_le, Nat.le_refl, znew, true_or, or_true, b01_t, b01_f, b01_ok, bool_ft, vp_b01, vp_b0, vp_b1, b01_eq0, b01_eq1, implies_true, nI_add, nI_clamp, zi_in, zi_le_t, zi_le_f, zi_lt_t, zi_lt_f, zi_eq_t, zi_eq_f, nI_leI, nI_ltI, nI_eq, z_in, pk_mul, zu_same, zu_rw, zu_ix, zi_ne0, zi_sub, zi_m1, Nat.add_sub_cancel, Nat.reduceMul, Nat.reduceSub]
      refine no (fun q => ?_)
      have := q.2
      rw [nI_clamp (by omega), e46, nI_eq (by omega) (by omega), nI_eq (by omega) (by omega)] at this
      exact hq this
theorem zX0_say (hQ : cQ h S c z D ta t q0 A T) (hU0 : cU S c t U) (y w : Int32) : zM l E (D + 6) YX0_say [.ref c, .int y, .int w] (z, h, S, L) 0 0 (fun r X => ∃ S', X = (z, h, S', L) ∧ cDo c S S' ∧ ((sayOk t T y w ∧ tw S' (c + 16) t (tsd t) (sayT t T y.toNatClampNeg w.toNatClampNeg) ∧ cU S' c t (pushU T U) ∧ r = some (.int (sayT t T y.toNatClampNeg w.toNatClampNeg (6 + y.toNatClampNeg)))) ∨ (¬ sayOk t T y w ∧ tw S' (c + 16) t (tsd t) T ∧ cU S' c t U ∧ r = some (.int (-1))))) (fun _ _ => False) := by
  obtain ⟨hB, hTa, hX, hT, hI, hTI⟩ := id hQ
  obtain ⟨h7, h10, h6, h5⟩ := hX.b
  have hW := hB.tn
  have hk : okW (okR c z) (c + 16) := okR.w (by omega) (by omega)
  refine zM.go rfl rfl (Nat.le_of_ble_eq_true rfl) (ls := [some (.ref c), some (.int y), some (.int w)]) rfl ?_
  intro V hVl hVE hVd hVc hVs hVQ hVX
  have no : ¬ sayOk t T y w → V.2.2.2.2.2.1 (some (.int (-1))) (z, h, S, L) := fun hn => hVQ _ _ ⟨S, rfl, cDo.q cqF.rf, Or.inr ⟨hn, hT, hU0, rfl⟩⟩
  refine sX0_say_0 _ _ _ _ _ ?_
  simp (disch := omega) only [oAld, oCV, oIld, hB.k, List.getElem?_cons_zero, List.getElem?_cons_succ, List.set_cons_zero, List.set_cons_succ, List.drop_succ_cons, List.drop_zero, List.take_succ_cons, List.take_zero, List.length_cons, List.length_nil, List.reverse_cons, List.reverse_nil, List.nil_append, List.cons_append, Option.toList_some, Option.toList_none, va_rf_s, true_and, and_true, true_implies, false_implies, not_true_eq_false, not_false_eq_true, Nat.reduceAdd, Nat.reduceLeDiff, Nat.le_add_left, Nat.zero_le, Nat.le_refl, znew, true_or, or_true, b01_t, b01_f, b01_ok, bool_ft, vp_b01, vp_b0, vp_b1, b01_eq0, b01_eq1, implies_true, nI_add, nI_clamp, zi_in, zi_le_t, zi_le_f, zi_lt_t, zi_lt_f, zi_eq_t, zi_eq_f, nI_leI, nI_ltI, nI_eq, z_in, pk_mul, zu_same, zu_rw, zu_ix, zi_ne0, zi_sub, zi_m1, Nat.add_sub_cancel, Nat.reduceMul, Nat.reduceSub]
  refine zC.of0 (zX0_isOut hQ _) (by omega) (Nat.zero_le _) (Nat.zero_le _) ?_
  rintro _ _ ⟨rfl, rfl⟩
  cases hok : outB t T y with
  | false =>
    refine sX0_say_5 _ _ _ _ _ ?_
    simp (disch := omega) only [oAld, oCV, oIf, oIld, oPush, oRI, hB.k, List.getElem?_cons_zero, List.getElem?_cons_succ, List.set_cons_zero, List.set_cons_succ, List.drop_succ_cons, List.drop_zero, List.take_succ_cons, List.take_zero, List.length_cons, List.length_nil, List.reverse_cons, List.reverse_nil, List.nil_append, List.cons_append, Option.toList_some, Option.toList_none, va_rf_s, true_and, and_true, true_implies, false_implies, not_true_eq_false, not_false_eq_true, Nat.reduceAdd, Nat.reduceLeDiff, Nat.le_add_left, Nat.zero_le, Nat.le_refl, znew, true_or, or_true, b01_t, b01_f, b01_ok, bool_ft, vp_b01, vp_b0, vp_b1, b01_eq0, b01_eq1, implies_true, nI_add, nI_clamp, zi_in, zi_le_t, zi_le_f, zi_lt_t, zi_lt_f, zi_eq_t, zi_eq_f, nI_leI, nI_ltI, nI_eq, z_in, pk_mul, zu_same, zu_rw, zu_ix, zi_ne0, zi_sub, zi_m1, Nat.add_sub_cancel, Nat.reduceMul, Nat.reduceSub]
    exact no (fun q => by rw [q.1] at hok; cases hok)
  | true =>
    obtain ⟨j, hj, rfl, h12⟩ := (outB_iff h6).mp hok
    refine sX0_say_5 _ _ _ _ _ ?_
    simp (disch := omega) only [oAld, oCV, oIf, oIld, oPush, oRI, hB.k, List.getElem?_cons_zero, List.getElem?_cons_succ, List.set_cons_zero, List.set_cons_succ, List.drop_succ_cons, List.drop_zero, List.take_succ_cons, List.take_zero, List.length_cons, List.length_nil, List.reverse_cons, List.reverse_nil, List.nil_append, List.cons_append, Option.toList_some, Option.toList_none, va_rf_s, true_and, and_true, true_implies, false_implies, not_true_eq_false, not_false_eq_true, Nat.reduceAdd, Nat.reduceLeDiff, Nat.le_add_left, Nat.zero_le, Nat.le_refl, znew, true_or, or_true, b01_t, b01_f, b01_ok, bool_ft, vp_b01, vp_b0, vp_b1, b01_eq0, b01_eq1, implies_true, nI_add, nI_clamp, zi_in, zi_le_t, zi_le_f, zi_lt_t, zi_lt_f, zi_eq_t, zi_eq_f, nI_leI, nI_ltI, nI_eq, z_in, pk_mul, zu_same, zu_rw, zu_ix, zi_ne0, zi_sub, zi_m1, Nat.add_sub_cancel, Nat.reduceMul, Nat.reduceSub]
    refine zC.of0 (zX0_isWord hQ _) (by omega) (Nat.zero_le _) (Nat.zero_le _) ?_
    rintro _ _ ⟨rfl, rfl⟩
    cases hok2 : okI w (tnw t) with
    | false =>
      refine sX0_say_13 _ _ _ _ _ ?_
      simp (disch := omega) only [oAld, oAld1, oCV, oGI, oGR, oIf, oIfc, oIld, oPush, oRI, hB.k, hB.r7, hW.k, hW.r0, hW.t0, hW.n0, List.getElem?_cons_zero, List.getElem?_cons_succ, List.set_cons_zero, List.set_cons_succ, List.drop_succ_cons, List.drop_zero, List.take_succ_cons, List.take_zero, List.length_cons, List.length_nil, List.reverse_cons, List.reverse_nil, List.nil_append, List.cons_append, Option.toList_some, Option.toList_none, va_rf_s, true_and, and_true, true_implies, false_implies, not_true_eq_false, not_false_eq_true, Nat.reduceAdd, Nat.reduceLeDiff, Nat.le_add_left, Nat.zero_le, Nat.le_refl, znew, true_or, or_true, b01_t, b01_f, b01_ok, bool_ft, vp_b01, vp_b0, vp_b1, b01_eq0, b01_eq1, implies_true, nI_add, nI_clamp, zi_in, zi_le_t, zi_le_f, zi_lt_t, zi_lt_f, zi_eq_t, zi_eq_f, nI_leI, nI_ltI, nI_eq, z_in, pk_mul, zu_same, zu_rw, zu_ix, zi_ne0, zi_sub, zi_m1, Nat.add_sub_cancel, Nat.reduceMul, Nat.reduceSub]
      exact no (fun q => by rw [q.2.1] at hok2; cases hok2)
    | true =>
      obtain ⟨i, hi, rfl⟩ := (okI_iff (by omega)).mp hok2
      obtain ⟨at', hC⟩ := hI.2.2.2.2.1
      have hcj := hC j hj
      have e1 : S (c + 17) j = T j := by have := hT.1 j (by omega); rw [if_pos hj] at this; exact this
      have e8 : S (c + 16) 8 = T 46 := hT.2.2.2.2.2.2.2.1 (by omega)
      refine sX0_say_13 _ _ _ _ _ ?_
      simp (disch := omega) only [oAld, oAld1, oCV, oGI, oGR, oIf, oIfc, oIld, oPush, oRI, hB.k, hB.r7, hW.k, hW.r0, hW.t0, hW.n0, e1, e8, List.getElem?_cons_zero, List.getElem?_cons_succ, List.set_cons_zero, List.set_cons_succ, List.drop_succ_cons, List.drop_zero, List.take_succ_cons, List.take_zero, List.length_cons, List.length_nil, List.reverse_cons, List.reverse_nil, List.nil_append, List.cons_append, Option.toList_some, Option.toList_none, va_rf_s, true_and, and_true, true_implies, false_implies, not_true_eq_false, not_false_eq_true, Nat.reduceAdd, Nat.reduceLeDiff, Nat.le_add_left, Nat.zero_le, Nat.le_refl, znew, true_or, or_true, b01_t, b01_f, b01_ok, bool_ft, vp_b01, vp_b0, vp_b1, b01_eq0, b01_eq1, implies_true, nI_add, nI_clamp, zi_in, zi_le_t, zi_le_f, zi_lt_t, zi_lt_f, zi_eq_t, zi_eq_f, nI_leI, nI_ltI, nI_eq, z_in, pk_mul, zu_same, zu_rw, zu_ix, zi_ne0, zi_sub, zi_m1, Nat.add_sub_cancel, Nat.reduceMul, Nat.reduceSub]
      refine ⟨fun hc => ?_, fun hc => no (fun q => hc (by have := q.2.2; rw [nI_clamp (by omega)] at this; exact this))⟩
      refine zC.of0 (zX0_keeps hB hT hU0) (by omega) (Nat.zero_le _) (Nat.zero_le _) ?_
      rintro _ _ ⟨rfl, S1, rfl, k1, k2, hU1⟩
      have hQ1 := hQ.kp k1
      refine sX0_say_41 _ _ _ _ _ ?_
      simp (disch := omega) only [oAld, oCV, oGR, oIld, hB.k, hB.r7, hTa, hW.k, List.getElem?_cons_zero, List.getElem?_cons_succ, List.set_cons_zero, List.set_cons_succ, List.drop_succ_cons, List.drop_zero, List.take_succ_cons, List.take_zero, List.length_cons, List.length_nil, List.reverse_cons, List.reverse_nil, List.nil_append, List.cons_append, Option.toList_some, Option.toList_none, va_rf_s, true_and, and_true, true_implies, false_implies, not_true_eq_false, not_false_eq_true, Nat.reduceAdd, Nat.reduceLeDiff, Nat.le_add_left, Nat.zero_le, Nat.le_refl, znew, true_or, or_true, b01_t, b01_f, b01_ok, bool_ft, vp_b01, vp_b0, vp_b1, b01_eq0, b01_eq1, implies_true, nI_add, nI_clamp, zi_in, zi_le_t, zi_le_f, zi_lt_t, zi_lt_f, zi_eq_t, zi_eq_f, nI_leI, nI_ltI, nI_eq, z_in, pk_mul, zu_same, zu_rw, zu_ix, zi_ne0, zi_sub, zi_m1, Nat.add_sub_cancel, Nat.reduceMul, Nat.reduceSub]
      refine zC.of0 (zX5_says hW hQ1.2.2.1 hk hQ1.2.2.2.1 hI hTI hj (by omega)) (by omega) (Nat.zero_le _) (Nat.zero_le _) ?_
      rintro _ _ ⟨rfl, S3, rfl, hF3, hT3⟩
      have e2 : S3 (c + 18) j = sayT t T j i (6 + j) := hT3.2.1 j (by omega)
      refine sX0_say_54 _ _ _ _ _ ?_
      simp (disch := omega) only [oAld, oAld1, oGR, oIld, oRI, hB.k, hB.r7, hW.k, hW.r1, hW.t1, hW.n1, e2, List.getElem?_cons_zero, List.getElem?_cons_succ, List.set_cons_zero, List.set_cons_succ, List.drop_succ_cons, List.drop_zero, List.take_succ_cons, List.take_zero, List.length_cons, List.length_nil, List.reverse_cons, List.reverse_nil, List.nil_append, List.cons_append, Option.toList_some, Option.toList_none, va_rf_s, true_and, and_true, true_implies, false_implies, not_true_eq_false, not_false_eq_true, Nat.reduceAdd, Nat.reduceLeDiff, Nat.le_add_left, Nat.zero_le, Nat.le_refl, znew, true_or, or_true, b01_t, b01_f, b01_ok, bool_ft, vp_b01, vp_b0, vp_b1, b01_eq0, b01_eq1, implies_true, nI_add, nI_clamp, zi_in, zi_le_t, zi_le_f, zi_lt_t, zi_lt_f, zi_eq_t, zi_eq_f, nI_leI, nI_ltI, nI_eq, z_in, pk_mul, zu_same, zu_rw, zu_ix, zi_ne0, zi_sub, zi_m1, Nat.add_sub_cancel, Nat.reduceMul, Nat.reduceSub]
      refine hVQ _ _ ⟨S3, rfl, cDo.kt k1 k2 hF3, Or.inl ⟨⟨hok, hok2, by rw [nI_clamp (by omega)]; exact hc⟩, ?_, hU1.tn hF3, ?_⟩⟩
      · rw [nI_clamp (by omega), nI_clamp (by omega)]; exact hT3
      · rw [nI_clamp (by omega), nI_clamp (by omega)]
theorem zX0_move (hQ : cQ h S c z D ta t q0 A T) (hU0 : cU S c t U) (y v : Int32) : zM l E 4 YX0_move [.ref c, .int y, .int v] (z, h, S, L) 0 0 (fun r X => ∃ S', X = (z, h, S', L) ∧ cDo c S S' ∧ ((moveOk t T y v ∧ tw S' (c + 16) t (tsd t) (moveT T y.toNatClampNeg v) ∧ cU S' c t (pushU T U) ∧ r = some (.int (nI 1))) ∨ (¬ moveOk t T y v ∧ tw S' (c + 16) t (tsd t) T ∧ cU S' c t U ∧ r = some (.int (nI 0))))) (fun _ _ => False) := by
  obtain ⟨hB, hTa, hX, hT, hI, hTI⟩ := id hQ
  obtain ⟨h7, h10, h6, h5⟩ := hX.b
  have hW := hB.tn
  refine zM.go rfl rfl (Nat.le_of_ble_eq_true rfl) (ls := [some (.ref c), some (.int y), some (.int v)]) rfl ?_
  intro V hVl hVE hVd hVc hVs hVQ hVX
  have no : ¬ moveOk t T y v → V.2.2.2.2.2.1 (some (.int (nI 0))) (z, h, S, L) := fun hn => hVQ _ _ ⟨S, rfl, cDo.q cqF.rf, Or.inr ⟨hn, hT, hU0, rfl⟩⟩
  refine sX0_move_0 _ _ _ _ _ ?_
  simp (disch := omega) only [oAld, oCV, oIld, hB.k, List.getElem?_cons_zero, List.getElem?_cons_succ, List.set_cons_zero, List.set_cons_succ, List.drop_succ_cons, List.drop_zero, List.take_succ_cons, List.take_zero, List.length_cons, List.length_nil, List.reverse_cons, List.reverse_nil, List.nil_append, List.cons_append, Option.toList_some, Option.toList_none, va_rf_s, true_and, and_true, true_implies, false_implies, not_true_eq_false, not_false_eq_true, Nat.reduceAdd, Nat.reduceLeDiff, Nat.le_add_left, Nat.zero_le, Nat.le_refl, znew, true_or, or_true, b01_t, b01_f, b01_ok, bool_ft, vp_b01, vp_b0, vp_b1, b01_eq0, b01_eq1, implies_true, nI_add, nI_clamp, zi_in, zi_le_t, zi_le_f, zi_lt_t, zi_lt_f, zi_eq_t, zi_eq_f, nI_leI, nI_ltI, nI_eq, z_in, pk_mul, zu_same, zu_rw, zu_ix, zi_ne0, zi_sub, zi_m1, Nat.add_sub_cancel, Nat.reduceMul, Nat.reduceSub]
  refine zC.of0 (zX0_isOut hQ _) (by omega) (Nat.zero_le _) (Nat.zero_le _) ?_
  rintro _ _ ⟨rfl, rfl⟩
  cases hok : outB t T y with
  | false =>
    refine sX0_move_5 _ _ _ _ _ ?_
    simp (disch := omega) only [oAld, oCV, oIf, oIld, oPush, oRZ, hB.k, List.getElem?_cons_zero, List.getElem?_cons_succ, List.set_cons_zero, List.set_cons_succ, List.drop_succ_cons, List.drop_zero, List.take_succ_cons, List.take_zero, List.length_cons, List.length_nil, List.reverse_cons, List.reverse_nil, List.nil_append, List.cons_append, Option.toList_some, Option.toList_none, va_rf_s, true_and, and_true, true_implies, false_implies, not_true_eq_false, not_false_eq_true, Nat.reduceAdd, Nat.reduceLeDiff, Nat.le_add_left, Nat.zero_le, Nat.le_refl, znew, true_or, or_true, b01_t, b01_f, b01_ok, bool_ft, vp_b01, vp_b0, vp_b1, b01_eq0, b01_eq1, implies_true, nI_add, nI_clamp, zi_in, zi_le_t, zi_le_f, zi_lt_t, zi_lt_f, zi_eq_t, zi_eq_f, nI_leI, nI_ltI, nI_eq, z_in, pk_mul, zu_same, zu_rw, zu_ix, zi_ne0, zi_sub, zi_m1, Nat.add_sub_cancel, Nat.reduceMul, Nat.reduceSub]
    exact no (fun q => by rw [q.1] at hok; cases hok)
  | true =>
    obtain ⟨j, hj, rfl, h12⟩ := (outB_iff h6).mp hok
    refine sX0_move_5 _ _ _ _ _ ?_
    simp (disch := omega) only [oAld, oCV, oIf, oIld, oPush, oRZ, hB.k, List.getElem?_cons_zero, List.getElem?_cons_succ, List.set_cons_zero, List.set_cons_succ, List.drop_succ_cons, List.drop_zero, List.take_succ_cons, List.take_zero, List.length_cons, List.length_nil, List.reverse_cons, List.reverse_nil, List.nil_append, List.cons_append, Option.toList_some, Option.toList_none, va_rf_s, true_and, and_true, true_implies, false_implies, not_true_eq_false, not_false_eq_true, Nat.reduceAdd, Nat.reduceLeDiff, Nat.le_add_left, Nat.zero_le, Nat.le_refl, znew, true_or, or_true, b01_t, b01_f, b01_ok, bool_ft, vp_b01, vp_b0, vp_b1, b01_eq0, b01_eq1, implies_true, nI_add, nI_clamp, zi_in, zi_le_t, zi_le_f, zi_lt_t, zi_lt_f, zi_eq_t, zi_eq_f, nI_leI, nI_ltI, nI_eq, z_in, pk_mul, zu_same, zu_rw, zu_ix, zi_ne0, zi_sub, zi_m1, Nat.add_sub_cancel, Nat.reduceMul, Nat.reduceSub]
    refine zC.of0 (zX0_isCorner hQ _) (by omega) (Nat.zero_le _) (Nat.zero_le _) ?_
    rintro _ _ ⟨rfl, rfl⟩
    cases hok2 : okI v (tnc t) with
    | false =>
      refine sX0_move_13 _ _ _ _ _ ?_
      simp (disch := omega) only [oAld, oAld1, oCV, oGR, oIf, oIfc, oIld, oPush, oRZ, hB.k, hB.r7, hW.k, hW.r0, hW.t0, hW.n0, List.getElem?_cons_zero, List.getElem?_cons_succ, List.set_cons_zero, List.set_cons_succ, List.drop_succ_cons, List.drop_zero, List.take_succ_cons, List.take_zero, List.length_cons, List.length_nil, List.reverse_cons, List.reverse_nil, List.nil_append, List.cons_append, Option.toList_some, Option.toList_none, va_rf_s, true_and, and_true, true_implies, false_implies, not_true_eq_false, not_false_eq_true, Nat.reduceAdd, Nat.reduceLeDiff, Nat.le_add_left, Nat.zero_le, Nat.le_refl, znew, true_or, or_true, b01_t, b01_f, b01_ok, bool_ft, vp_b01, vp_b0, vp_b1, b01_eq0, b01_eq1, implies_true, nI_add, nI_clamp, zi_in, zi_le_t, zi_le_f, zi_lt_t, zi_lt_f, zi_eq_t, zi_eq_f, nI_leI, nI_ltI, nI_eq, z_in, pk_mul, zu_same, zu_rw, zu_ix, zi_ne0, zi_sub, zi_m1, Nat.add_sub_cancel, Nat.reduceMul, Nat.reduceSub]
      exact no (fun q => by rw [q.2.1] at hok2; cases hok2)
    | true =>
      have e1 : S (c + 17) j = T j := by have := hT.1 j (by omega); rw [if_pos hj] at this; exact this
      refine sX0_move_13 _ _ _ _ _ ?_
      simp (disch := omega) only [oAld, oAld1, oCV, oGR, oIf, oIfc, oIld, oPush, oRZ, hB.k, hB.r7, hW.k, hW.r0, hW.t0, hW.n0, e1, List.getElem?_cons_zero, List.getElem?_cons_succ, List.set_cons_zero, List.set_cons_succ, List.drop_succ_cons, List.drop_zero, List.take_succ_cons, List.take_zero, List.length_cons, List.length_nil, List.reverse_cons, List.reverse_nil, List.nil_append, List.cons_append, Option.toList_some, Option.toList_none, va_rf_s, true_and, and_true, true_implies, false_implies, not_true_eq_false, not_false_eq_true, Nat.reduceAdd, Nat.reduceLeDiff, Nat.le_add_left, Nat.zero_le, Nat.le_refl, znew, true_or, or_true, b01_t, b01_f, b01_ok, bool_ft, vp_b01, vp_b0, vp_b1, b01_eq0, b01_eq1, implies_true, nI_add, nI_clamp, zi_in, zi_le_t, zi_le_f, zi_lt_t, zi_lt_f, zi_eq_t, zi_eq_f, nI_leI, nI_ltI, nI_eq, z_in, pk_mul, zu_same, zu_rw, zu_ix, zi_ne0, zi_sub, zi_m1, Nat.add_sub_cancel, Nat.reduceMul, Nat.reduceSub]
      refine ⟨fun hc => no (fun q => q.2.2 (by rw [nI_clamp (by omega)]; exact hc)), fun hc => ?_⟩
      refine zC.of0 (zX0_keeps hB hT hU0) (by omega) (Nat.zero_le _) (Nat.zero_le _) ?_
      rintro _ _ ⟨rfl, S1, rfl, k1, k2, hU1⟩
      have hQ1 := hQ.kp k1
      refine sX0_move_35 _ _ _ _ _ ?_
      simp (disch := omega) only [oAld, oAst1, oGR, oIld, oPush, oRZ, hB.k, hB.r7, hW.k, hW.r0, hW.t0, hW.n0, List.getElem?_cons_zero, List.getElem?_cons_succ, List.set_cons_zero, List.set_cons_succ, List.drop_succ_cons, List.drop_zero, List.take_succ_cons, List.take_zero, List.length_cons, List.length_nil, List.reverse_cons, List.reverse_nil, List.nil_append, List.cons_append, Option.toList_some, Option.toList_none, va_rf_s, true_and, and_true, true_implies, false_implies, not_true_eq_false, not_false_eq_true, Nat.reduceAdd, Nat.reduceLeDiff, Nat.le_add_left, Nat.zero_le, Nat.le_refl, znew, true_or, or_true, b01_t, b01_f, b01_ok, bool_ft, vp_b01, vp_b0, vp_b1, b01_eq0, b01_eq1, implies_true, nI_add, nI_clamp, zi_in, zi_le_t, zi_le_f, zi_lt_t, zi_lt_f, zi_eq_t, zi_eq_f, nI_leI, nI_ltI, nI_eq, z_in, pk_mul, zu_same, zu_rw, zu_ix, zi_ne0, zi_sub, zi_m1, Nat.add_sub_cancel, Nat.reduceMul, Nat.reduceSub]
      have hF3 : twF (c + 16) S1 (zu S1 (c + 17) j v) := fun a ha => zu_rw _ _ (by omega)
      refine hVQ _ _ ⟨_, rfl, cDo.kt k1 k2 hF3, Or.inl ⟨⟨hok, hok2, by rw [nI_clamp (by omega)]; exact hc⟩, ?_, hU1.tn hF3, rfl⟩⟩
      rw [nI_clamp (by omega)]; exact (hQ1.2.2.2.1).mo h6 hj v
theorem zX0_rouge (hQ : cQ h S c z D ta t q0 A T) (hU0 : cU S c t U) (y : Int32) : zM l E 4 YX0_rouge [.ref c, .int y] (z, h, S, L) 0 0 (fun r X => ∃ S', X = (z, h, S', L) ∧ cDo c S S' ∧ ((outB t T y = true ∧ tw S' (c + 16) t (tsd t) (rougeT T y.toNatClampNeg) ∧ cU S' c t (pushU T U) ∧ r = some (.int (nI 1))) ∨ (¬ outB t T y = true ∧ tw S' (c + 16) t (tsd t) T ∧ cU S' c t U ∧ r = some (.int (nI 0))))) (fun _ _ => False) := by
  obtain ⟨hB, hTa, hX, hT, hI, hTI⟩ := id hQ
  obtain ⟨h7, h10, h6, h5⟩ := hX.b
  have hW := hB.tn
  refine zM.go rfl rfl (Nat.le_of_ble_eq_true rfl) (ls := [some (.ref c), some (.int y)]) rfl ?_
  intro V hVl hVE hVd hVc hVs hVQ hVX
  refine sX0_rouge_0 _ _ _ _ _ ?_
  simp (disch := omega) only [oAld, oCV, oIld, hB.k, List.getElem?_cons_zero, List.getElem?_cons_succ, List.set_cons_zero, List.set_cons_succ, List.drop_succ_cons, List.drop_zero, List.take_succ_cons, List.take_zero, List.length_cons, List.length_nil, List.reverse_cons, List.reverse_nil, List.nil_append, List.cons_append, Option.toList_some, Option.toList_none, va_rf_s, true_and, and_true, true_implies, false_implies, not_true_eq_false, not_false_eq_true, Nat.reduceAdd, Nat.reduceLeDiff, Nat.le_add_left, Nat.zero_le, Nat.le_refl, znew, true_or, or_true, b01_t, b01_f, b01_ok, bool_ft, vp_b01, vp_b0, vp_b1, b01_eq0, b01_eq1, implies_true, nI_add, nI_clamp, zi_in, zi_le_t, zi_le_f, zi_lt_t, zi_lt_f, zi_eq_t, zi_eq_f, nI_leI, nI_ltI, nI_eq, z_in, pk_mul, zu_same, zu_rw, zu_ix, zi_ne0, zi_sub, zi_m1, Nat.add_sub_cancel, Nat.reduceMul, Nat.reduceSub]
  refine zC.of0 (zX0_isOut hQ _) (by omega) (Nat.zero_le _) (Nat.zero_le _) ?_
  rintro _ _ ⟨rfl, rfl⟩
  cases hok : outB t T y with
  | false =>
    refine sX0_rouge_5 _ _ _ _ _ ?_
    simp (disch := omega) only [oAld, oCV, oIf, oPush, oRZ, hB.k, List.getElem?_cons_zero, List.getElem?_cons_succ, List.set_cons_zero, List.set_cons_succ, List.drop_succ_cons, List.drop_zero, List.take_succ_cons, List.take_zero, List.length_cons, List.length_nil, List.reverse_cons, List.reverse_nil, List.nil_append, List.cons_append, Option.toList_some, Option.toList_none, va_rf_s, true_and, and_true, true_implies, false_implies, not_true_eq_false, not_false_eq_true, Nat.reduceAdd, Nat.reduceLeDiff, Nat.le_add_left, Nat.zero_le, Nat.le_refl, znew, true_or, or_true, b01_t, b01_f, b01_ok, bool_ft, vp_b01, vp_b0, vp_b1, b01_eq0, b01_eq1, implies_true, nI_add, nI_clamp, zi_in, zi_le_t, zi_le_f, zi_lt_t, zi_lt_f, zi_eq_t, zi_eq_f, nI_leI, nI_ltI, nI_eq, z_in, pk_mul, zu_same, zu_rw, zu_ix, zi_ne0, zi_sub, zi_m1, Nat.add_sub_cancel, Nat.reduceMul, Nat.reduceSub]
    exact hVQ _ _ ⟨S, rfl, cDo.q cqF.rf, Or.inr ⟨by rw [hok]; decide, hT, hU0, rfl⟩⟩
  | true =>
    obtain ⟨j, hj, rfl, h12⟩ := (outB_iff h6).mp hok
    refine sX0_rouge_5 _ _ _ _ _ ?_
    simp (disch := omega) only [oAld, oCV, oIf, oPush, oRZ, hB.k, List.getElem?_cons_zero, List.getElem?_cons_succ, List.set_cons_zero, List.set_cons_succ, List.drop_succ_cons, List.drop_zero, List.take_succ_cons, List.take_zero, List.length_cons, List.length_nil, List.reverse_cons, List.reverse_nil, List.nil_append, List.cons_append, Option.toList_some, Option.toList_none, va_rf_s, true_and, and_true, true_implies, false_implies, not_true_eq_false, not_false_eq_true, Nat.reduceAdd, Nat.reduceLeDiff, Nat.le_add_left, Nat.zero_le, Nat.le_refl, znew, true_or, or_true, b01_t, b01_f, b01_ok, bool_ft, vp_b01, vp_b0, vp_b1, b01_eq0, b01_eq1, implies_true, nI_add, nI_clamp, zi_in, zi_le_t, zi_le_f, zi_lt_t, zi_lt_f, zi_eq_t, zi_eq_f, nI_leI, nI_ltI, nI_eq, z_in, pk_mul, zu_same, zu_rw, zu_ix, zi_ne0, zi_sub, zi_m1, Nat.add_sub_cancel, Nat.reduceMul, Nat.reduceSub]
    refine zC.of0 (zX0_keeps hB hT hU0) (by omega) (Nat.zero_le _) (Nat.zero_le _) ?_
    rintro _ _ ⟨rfl, S1, rfl, k1, k2, hU1⟩
    have hQ1 := hQ.kp k1
    have hT1 := hQ1.2.2.2.1
    obtain ⟨g, eg, hg9, -⟩ := hI.1 j (by omega)
    have e2 : S1 (c + 18) j = nI g := (hT1.2.1 j (by omega)).trans eg
    have e7 := hT1.2.2.2.2.2.2.1
    obtain ⟨W, hWe, hmin⟩ : ∃ W, W = withinF (T (6 + j) + nI 20) (nI 0) (nI 999) ∧ minF (nI 999) (nI (g + 20)) = W := ⟨_, rfl, by rw [eg, ← nI_add]; exact min999 hg9 (by omega)⟩
    have hbit : nI 1 <<< (nI j &&& 31) = bitF j := rfl
    have hF3 : twF (c + 16) S1 (zu (zu S1 (c + 16 + 2) j W) (c + 16) 7 (rougeR t T ||| bitF j)) := fun a ha => by rw [zu_rw _ _ (by omega), zu_rw _ _ (by omega)]
    have hT3 := hT1.rg h6 hj
    rw [← hWe] at hT3
    refine sX0_rouge_14 (by omega) _ _ _ _ _ ?_
    simp (disch := omega) only [oAld, oAld1, oAst1, oBin, oDup, oGI, oGR, oIld, oM2, oPI, oPush, oRZ, hB.k, hB.r7, hW.k, hW.r1, hW.t1, hW.n1, e2, e7, hmin, hbit, List.getElem?_cons_zero, List.getElem?_cons_succ, List.set_cons_zero, List.set_cons_succ, List.drop_succ_cons, List.drop_zero, List.take_succ_cons, List.take_zero, List.length_cons, List.length_nil, List.reverse_cons, List.reverse_nil, List.nil_append, List.cons_append, Option.toList_some, Option.toList_none, va_rf_s, true_and, and_true, true_implies, false_implies, not_true_eq_false, not_false_eq_true, Nat.reduceAdd, Nat.reduceLeDiff, Nat.le_add_left, Nat.zero_le, Nat.le_refl, znew, true_or, or_true, b01_t, b01_f, b01_ok, bool_ft, vp_b01, vp_b0, vp_b1, b01_eq0, b01_eq1, implies_true, nI_add, nI_clamp, zi_in, zi_le_t, zi_le_f, zi_lt_t, zi_lt_f, zi_eq_t, zi_eq_f, nI_leI, nI_ltI, nI_eq, z_in, pk_mul, zu_same, zu_rw, zu_ix, zi_ne0, zi_sub, zi_m1, Nat.add_sub_cancel, Nat.reduceMul, Nat.reduceSub]
    refine hVQ _ _ ⟨_, rfl, cDo.kt k1 k2 hF3, Or.inl ⟨hok, ?_, hU1.tn hF3, rfl⟩⟩
    rw [nI_clamp (by omega)]
    exact hT3
theorem zX0_hours {B : Nat} (hQ : cQ h S c z D ta t q0 A T) (hU0 : cU S c t U) (hrB : rB T B) (hBn : B + 1000 < 2 ^ 29) (n : Int32) : zM l E (D + 7) YX0_hours [.ref c, .int n] (z, h, S, L) 0 0 (fun r X => ∃ S', X = (z, h, S', L) ∧ cDo c S S' ∧ ((okI n 73 = true ∧ n ≠ nI 0 ∧ tw S' (c + 16) t (tsd t) (hoursT t (nI 0) (tsd t) n.toNatClampNeg T) ∧ cU S' c t (pushU T U) ∧ r = some (.int (hoursT t (nI 0) (tsd t) n.toNatClampNeg T 47))) ∨ (n = nI 0 ∧ tw S' (c + 16) t (tsd t) T ∧ cU S' c t U ∧ r = some (.int (T 47))) ∨ (¬ okI n 73 = true ∧ tw S' (c + 16) t (tsd t) T ∧ cU S' c t U ∧ r = some (.int (-1))))) (fun _ _ => False) := by
  obtain ⟨hB, hTa, hX, hT, hI, hTI⟩ := id hQ
  obtain ⟨h7, h10, h6, h5⟩ := hX.b
  have hW := hB.tn
  refine zM.go rfl rfl (Nat.le_of_ble_eq_true rfl) (ls := [some (.ref c), some (.int n)]) rfl ?_
  intro V hVl hVE hVd hVc hVs hVQ hVX
  refine sX0_hours_0 _ _ _ _ _ ?_
  simp (disch := omega) only [oCS, oIld, List.getElem?_cons_zero, List.getElem?_cons_succ, List.set_cons_zero, List.set_cons_succ, List.drop_succ_cons, List.drop_zero, List.take_succ_cons, List.take_zero, List.length_cons, List.length_nil, List.reverse_cons, List.reverse_nil, List.nil_append, List.cons_append, Option.toList_some, Option.toList_none, va_rf_s, true_and, and_true, true_implies, false_implies, not_true_eq_false, not_false_eq_true, Nat.reduceAdd, Nat.reduceLeDiff, Nat.le_add_left, Nat.zero_le, Nat.le_refl, znew, true_or, or_true, b01_t, b01_f, b01_ok, bool_ft, vp_b01, vp_b0, vp_b1, b01_eq0, b01_eq1, implies_true, nI_add, nI_clamp, zi_in, zi_le_t, zi_le_f, zi_lt_t, zi_lt_f, zi_eq_t, zi_eq_f, nI_leI, nI_ltI, nI_eq, z_in, pk_mul, zu_same, zu_rw, zu_ix, zi_ne0, zi_sub, zi_m1, Nat.add_sub_cancel, Nat.reduceMul, Nat.reduceSub]
  refine zC.of0 (zX0_isAhead _ _) (by omega) (Nat.zero_le _) (Nat.zero_le _) ?_
  rintro _ _ ⟨rfl, rfl⟩
  cases hok : okI n 73 with
  | false =>
    refine sX0_hours_4 _ _ _ _ _ ?_
    simp (disch := omega) only [oAld, oCV, oIf, oIld, oPush, oRI, hB.k, List.getElem?_cons_zero, List.getElem?_cons_succ, List.set_cons_zero, List.set_cons_succ, List.drop_succ_cons, List.drop_zero, List.take_succ_cons, List.take_zero, List.length_cons, List.length_nil, List.reverse_cons, List.reverse_nil, List.nil_append, List.cons_append, Option.toList_some, Option.toList_none, va_rf_s, true_and, and_true, true_implies, false_implies, not_true_eq_false, not_false_eq_true, Nat.reduceAdd, Nat.reduceLeDiff, Nat.le_add_left, Nat.zero_le, Nat.le_refl, znew, true_or, or_true, b01_t, b01_f, b01_ok, bool_ft, vp_b01, vp_b0, vp_b1, b01_eq0, b01_eq1, implies_true, nI_add, nI_clamp, zi_in, zi_le_t, zi_le_f, zi_lt_t, zi_lt_f, zi_eq_t, zi_eq_f, nI_leI, nI_ltI, nI_eq, z_in, pk_mul, zu_same, zu_rw, zu_ix, zi_ne0, zi_sub, zi_m1, Nat.add_sub_cancel, Nat.reduceMul, Nat.reduceSub]
    exact hVQ _ _ ⟨S, rfl, cDo.q cqF.rf, Or.inr (Or.inr ⟨by rw [hok]; decide, hT, hU0, rfl⟩)⟩
  | true =>
    obtain ⟨m, hm, rfl⟩ := (okI_iff (by omega)).mp hok
    cases m with
    | zero =>
      refine sX0_hours_4 _ _ _ _ _ ?_
      simp (disch := omega) only [oAld, oCV, oIf, oIld, oPush, oRI, hB.k, List.getElem?_cons_zero, List.getElem?_cons_succ, List.set_cons_zero, List.set_cons_succ, List.drop_succ_cons, List.drop_zero, List.take_succ_cons, List.take_zero, List.length_cons, List.length_nil, List.reverse_cons, List.reverse_nil, List.nil_append, List.cons_append, Option.toList_some, Option.toList_none, va_rf_s, true_and, and_true, true_implies, false_implies, not_true_eq_false, not_false_eq_true, Nat.reduceAdd, Nat.reduceLeDiff, Nat.le_add_left, Nat.zero_le, Nat.le_refl, znew, true_or, or_true, b01_t, b01_f, b01_ok, bool_ft, vp_b01, vp_b0, vp_b1, b01_eq0, b01_eq1, implies_true, nI_add, nI_clamp, zi_in, zi_le_t, zi_le_f, zi_lt_t, zi_lt_f, zi_eq_t, zi_eq_f, nI_leI, nI_ltI, nI_eq, z_in, pk_mul, zu_same, zu_rw, zu_ix, zi_ne0, zi_sub, zi_m1, Nat.add_sub_cancel, Nat.reduceMul, Nat.reduceSub]
      refine sX0_hours_17 _ _ _ _ _ ?_
      simp (disch := omega) only [oAld, oCV, oGR, oIld, hB.k, hB.r7, hB.r11, List.getElem?_cons_zero, List.getElem?_cons_succ, List.set_cons_zero, List.set_cons_succ, List.drop_succ_cons, List.drop_zero, List.take_succ_cons, List.take_zero, List.length_cons, List.length_nil, List.reverse_cons, List.reverse_nil, List.nil_append, List.cons_append, Option.toList_some, Option.toList_none, va_rf_s, true_and, and_true, true_implies, false_implies, not_true_eq_false, not_false_eq_true, Nat.reduceAdd, Nat.reduceLeDiff, Nat.le_add_left, Nat.zero_le, Nat.le_refl, znew, true_or, or_true, b01_t, b01_f, b01_ok, bool_ft, vp_b01, vp_b0, vp_b1, b01_eq0, b01_eq1, implies_true, nI_add, nI_clamp, zi_in, zi_le_t, zi_le_f, zi_lt_t, zi_lt_f, zi_eq_t, zi_eq_f, nI_leI, nI_ltI, nI_eq, z_in, pk_mul, zu_same, zu_rw, zu_ix, zi_ne0, zi_sub, zi_m1, Nat.add_sub_cancel, Nat.reduceMul, Nat.reduceSub]
      refine zC.of0 (zX0_runs hB hTa hTI hW (by omega) (by omega) hX hT hI hrB (show B + 0 < 2 ^ 29 by omega) (by omega) (Or.inl ⟨hB.dr, rfl⟩)) (by omega) (Nat.zero_le _) (Nat.zero_le _) ?_
      rintro _ _ ⟨rfl, S1, rfl, hF, hT1⟩
      have hT1 : tw S1 (c + 16) t (tsd t) T := hT1
      have e9 : S1 (c + 16) 9 = T 47 := hT1.2.2.2.2.2.2.2.2.1
      refine sX0_hours_30 _ _ _ _ _ ?_
      simp (disch := omega) only [oAld, oGI, oGR, oRI, hB.k, hB.r7, hW.k, e9, List.getElem?_cons_zero, List.getElem?_cons_succ, List.set_cons_zero, List.set_cons_succ, List.drop_succ_cons, List.drop_zero, List.take_succ_cons, List.take_zero, List.length_cons, List.length_nil, List.reverse_cons, List.reverse_nil, List.nil_append, List.cons_append, Option.toList_some, Option.toList_none, va_rf_s, true_and, and_true, true_implies, false_implies, not_true_eq_false, not_false_eq_true, Nat.reduceAdd, Nat.reduceLeDiff, Nat.le_add_left, Nat.zero_le, Nat.le_refl, znew, true_or, or_true, b01_t, b01_f, b01_ok, bool_ft, vp_b01, vp_b0, vp_b1, b01_eq0, b01_eq1, implies_true, nI_add, nI_clamp, zi_in, zi_le_t, zi_le_f, zi_lt_t, zi_lt_f, zi_eq_t, zi_eq_f, nI_leI, nI_ltI, nI_eq, z_in, pk_mul, zu_same, zu_rw, zu_ix, zi_ne0, zi_sub, zi_m1, Nat.add_sub_cancel, Nat.reduceMul, Nat.reduceSub]
      exact hVQ _ _ ⟨S1, rfl, cDo.kt (fun _ _ _ => rfl) (fun _ _ _ => rfl) hF, Or.inr (Or.inl ⟨rfl, hT1, hU0.tn hF, rfl⟩)⟩
    | succ m =>
      have hne : nI (m + 1) ≠ nI 0 := fun e => absurd ((nI_eq (by omega) (by omega)).mp e) (by omega)
      refine sX0_hours_4 _ _ _ _ _ ?_
      simp (disch := omega) only [oAld, oCV, oIf, oIld, oPush, oRI, hB.k, List.getElem?_cons_zero, List.getElem?_cons_succ, List.set_cons_zero, List.set_cons_succ, List.drop_succ_cons, List.drop_zero, List.take_succ_cons, List.take_zero, List.length_cons, List.length_nil, List.reverse_cons, List.reverse_nil, List.nil_append, List.cons_append, Option.toList_some, Option.toList_none, va_rf_s, true_and, and_true, true_implies, false_implies, not_true_eq_false, not_false_eq_true, Nat.reduceAdd, Nat.reduceLeDiff, Nat.le_add_left, Nat.zero_le, Nat.le_refl, znew, true_or, or_true, b01_t, b01_f, b01_ok, bool_ft, vp_b01, vp_b0, vp_b1, b01_eq0, b01_eq1, implies_true, nI_add, nI_clamp, zi_in, zi_le_t, zi_le_f, zi_lt_t, zi_lt_f, zi_eq_t, zi_eq_f, nI_leI, nI_ltI, nI_eq, z_in, pk_mul, zu_same, zu_rw, zu_ix, zi_ne0, zi_sub, zi_m1, Nat.add_sub_cancel, Nat.reduceMul, Nat.reduceSub]
      refine zC.of0 (zX0_keeps hB hT hU0) (by omega) (Nat.zero_le _) (Nat.zero_le _) ?_
      rintro _ _ ⟨rfl, S1, rfl, k1, k2, hU1⟩
      have hQ1 := hQ.kp k1
      refine sX0_hours_17 _ _ _ _ _ ?_
      simp (disch := omega) only [oAld, oCV, oGR, oIld, hB.k, hB.r7, hB.r11, List.getElem?_cons_zero, List.getElem?_cons_succ, List.set_cons_zero, List.set_cons_succ, List.drop_succ_cons, List.drop_zero, List.take_succ_cons, List.take_zero, List.length_cons, List.length_nil, List.reverse_cons, List.reverse_nil, List.nil_append, List.cons_append, Option.toList_some, Option.toList_none, va_rf_s, true_and, and_true, true_implies, false_implies, not_true_eq_false, not_false_eq_true, Nat.reduceAdd, Nat.reduceLeDiff, Nat.le_add_left, Nat.zero_le, Nat.le_refl, znew, true_or, or_true, b01_t, b01_f, b01_ok, bool_ft, vp_b01, vp_b0, vp_b1, b01_eq0, b01_eq1, implies_true, nI_add, nI_clamp, zi_in, zi_le_t, zi_le_f, zi_lt_t, zi_lt_f, zi_eq_t, zi_eq_f, nI_leI, nI_ltI, nI_eq, z_in, pk_mul, zu_same, zu_rw, zu_ix, zi_ne0, zi_sub, zi_m1, Nat.add_sub_cancel, Nat.reduceMul, Nat.reduceSub]
      refine zC.of0 (zX0_runs hB hTa hTI hW (by omega) (by omega) hQ1.2.2.1 hQ1.2.2.2.1 hI hrB (show B + (m + 1) < 2 ^ 29 by omega) (by omega) (Or.inl ⟨hB.dr, rfl⟩)) (by omega) (Nat.zero_le _) (Nat.zero_le _) ?_
      rintro _ _ ⟨rfl, S3, rfl, hF3, hT3⟩
      have e9 : S3 (c + 16) 9 = hoursT t (nI 0) (tsd t) (m + 1) T 47 := hT3.2.2.2.2.2.2.2.2.1
      refine sX0_hours_30 _ _ _ _ _ ?_
      simp (disch := omega) only [oAld, oGI, oGR, oRI, hB.k, hB.r7, hW.k, e9, List.getElem?_cons_zero, List.getElem?_cons_succ, List.set_cons_zero, List.set_cons_succ, List.drop_succ_cons, List.drop_zero, List.take_succ_cons, List.take_zero, List.length_cons, List.length_nil, List.reverse_cons, List.reverse_nil, List.nil_append, List.cons_append, Option.toList_some, Option.toList_none, va_rf_s, true_and, and_true, true_implies, false_implies, not_true_eq_false, not_false_eq_true, Nat.reduceAdd, Nat.reduceLeDiff, Nat.le_add_left, Nat.zero_le, Nat.le_refl, znew, true_or, or_true, b01_t, b01_f, b01_ok, bool_ft, vp_b01, vp_b0, vp_b1, b01_eq0, b01_eq1, implies_true, nI_add, nI_clamp, zi_in, zi_le_t, zi_le_f, zi_lt_t, zi_lt_f, zi_eq_t, zi_eq_f, nI_leI, nI_ltI, nI_eq, z_in, pk_mul, zu_same, zu_rw, zu_ix, zi_ne0, zi_sub, zi_m1, Nat.add_sub_cancel, Nat.reduceMul, Nat.reduceSub]
      refine hVQ _ _ ⟨S3, rfl, cDo.kt k1 k2 hF3, Or.inl ⟨hok, hne, ?_, hU1.tn hF3, ?_⟩⟩
      · rw [nI_clamp (by omega)]; exact hT3
      · rw [nI_clamp (by omega)]
end CM
