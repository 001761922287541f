/-! the model's methods, C: terms and laws -/
def codeAt (C I : Nat → Int32) : Nat → List (Nat × Int32) → Prop
  | _, [] => True
  | c, q :: cl => C c = nI q.1 ∧ I c = q.2 ∧ codeAt C I (c + 1) cl
def tval (o : Option (List Int32)) : Int32 := match o with
  | some (w :: _) => w
  | _ => nI 0
def tbrk (u : Int32) (o : Option (List Int32)) : Int32 := match o with
  | some _ => u
  | none => nI 1
def pileAt (P : Nat → Int32) : List Int32 → Prop
  | [] => True
  | w :: st => P st.length = w ∧ pileAt P st
theorem pileAt.keep {P P' : Nat → Int32} : ∀ {st : List Int32}, pileAt P st → (∀ j, j < st.length → P' j = P j) → pileAt P' st
  | [], _, _ => trivial
  | w :: st, h, hk => ⟨(hk _ (by simp)).trans h.1, pileAt.keep h.2 (fun j hj => hk j (by simp; omega))⟩
theorem tdep_op {k : Nat} {x : Int32} {cl : List (Nat × Int32)} {d r : Nat} (h : tdep ((k, x) :: cl) d = some r) (h2 : 2 ≤ k) : k ≤ 5 ∧ 2 ≤ d ∧ tdep cl (d - 1) = some r := by
  unfold tdep at h
  rw [if_neg (by show ¬ k = 0; omega), if_neg (by show ¬ k = 1; omega)] at h
  split at h
  · next hq => exact ⟨hq.1, hq.2, h⟩
  · cases h
section MC
variable {l : Launch} {E : zE} {b z : Nat} {h : Nat → Option zSh} {S : Nat → Nat → Int32} {L : Nat → Nat → Int64}
set_option maxHeartbeats 1000000 in
theorem zX10_termOf_loop {V : zV} (hM : isM h b) {fr to : Nat} (hto : to ≤ 840) (hVc : V.2.2.2.1 = 0) (hVs : V.2.2.2.2.1 = 0) :
    ∀ (cl : List (Nat × Int32)) (c : Nat) (st : List Int32) (S' : Nat → Nat → Int32) (u5 u6 u7 : Option Value), codeAt (S (b + 31)) (S (b + 32)) c cl → c + cl.length = to → tdep cl st.length = some 1 → st.length + cl.length ≤ 400 → zfr [35] [52] b S S' → S' b 52 = S b 52 → pileAt (S' (b + 35)) st →
      (∀ S'', zfr [35] [52] b S S'' → S'' b 52 = tbrk (S b 52) (tev (S (b + 34)) cl st) → V.2.2.2.2.2.1 (some (.int (tval (tev (S (b + 34)) cl st)))) (z, h, S'', L)) →
      zW V YX10_termOf 5 [some (.ref b), some (.int (nI fr)), some (.int (nI to)), some (.int (nI st.length)), some (.int (nI c)), u5, u6, u7] [] (z, h, S', L) 0 0 := by
  intro cl
  induction cl with
  | nil =>
    intro c st S' u5 u6 u7 hca hc hd hlen hf h52 hp hQ
    simp only [tdep, Option.some.injEq] at hd
    match st, hd, hp, hQ with
    | [w], _, hp, hQ =>
      simp only [List.length_nil, Nat.add_zero] at hc
      subst hc
      have hp0 : S' (b + 35) 0 = w := hp.1
      refine sX10_termOf_5 _ _ _ _ _ ?_
      simp (disch := omega) only [oAld, oAld1, oAst1, oBin, oGR, oIf, oIfc, oIld, oInc, oIst, oNop, oPI, oPush, oRI, hM.1, hM.r51, hM.t51, hM.n51, hM.r46, hM.t46, hM.n46, hM.r47, hM.t47, hM.n47, hM.r50, hM.t50, hM.n50, hp0, List.getElem?_cons_zero, List.getElem?_cons_succ, List.set_cons_zero, List.set_cons_succ, List.drop_succ_cons, List.drop_zero, List.take_succ_cons, List.take_zero, List.length_cons, List.length_nil, List.reverse_cons, List.reverse_nil, List.nil_append, List.cons_append, Option.toList_some, Option.toList_none, va_rf_s, true_and, and_true, true_implies, false_implies, not_true_eq_false, not_false_eq_true, Nat.reduceAdd, Nat.reduceLeDiff, Nat.le_add_left, Nat.zero_le, Nat.le_refl, znew, true_or, or_true, b01_t, b01_f, b01_ok, bool_ft, vp_b01, vp_b0, vp_b1, b01_eq0, b01_eq1, implies_true, nI_add, nI_clamp, zi_in, zi_le_t, zi_le_f, zi_lt_t, zi_lt_f, zi_eq_t, zi_eq_f, nI_leI, nI_ltI, nI_eq, z_in, pk_mul, zu_same, zu_rw, zu_ix, zi_ne0, zi_sub, zi_m1, Nat.add_sub_cancel, Nat.reduceMul, Nat.reduceSub]
      exact hQ S' hf h52
  | cons q cl ih =>
    intro c st S' u5 u6 u7 hca hc hd hlen hf h52 hp hQ
    obtain ⟨k, x⟩ := q
    obtain ⟨hC, hI, hca⟩ := hca
    simp only [List.length_cons] at hc hlen
    have e31 := hf.at (o := 31) rfl rfl
    have e32 := hf.at (o := 32) rfl rfl
    have e34 := hf.at (o := 34) rfl rfl
    by_cases hk2 : 2 ≤ k
    · obtain ⟨hk5, hd2, hd⟩ := tdep_op hd hk2
      match st, hd2, hp, hd, hlen, hQ with
      | bb :: aa :: r, _, hp, hd, hlen, hQ =>
        obtain ⟨p1, p0, hp⟩ := hp
        simp only [List.length_cons] at hlen p1 hd
        have go : ∀ w : Int32, tstep (S (b + 34)) (k, x) (bb :: aa :: r) = some (w :: r) → ∀ u5 u6 u7, zW V YX10_termOf 5 [some (.ref b), some (.int (nI fr)), some (.int (nI to)), some (.int (nI (r.length + 1))), some (.int (nI (c + 1))), u5, u6, u7] [] (z, h, zu S' (b + 35) r.length w, L) 0 0 := by
          intro w hw u5 u6 u7
          refine ih (c + 1) (w :: r) _ u5 u6 u7 hca (by omega) (by simpa using hd) (by simp; omega) (hf.row (by decide) (by decide)) ?_ ?_ ?_
          · simp (disch := omega) only [List.getElem?_cons_zero, List.getElem?_cons_succ, List.set_cons_zero, List.set_cons_succ, List.drop_succ_cons, List.drop_zero, List.take_succ_cons, List.take_zero, List.length_cons, List.length_nil, List.reverse_cons, List.reverse_nil, List.nil_append, List.cons_append, Option.toList_some, Option.toList_none, va_rf_s, true_and, and_true, true_implies, false_implies, not_true_eq_false, not_false_eq_true, Nat.reduceAdd, Nat.reduceLeDiff, Nat.le_add_left, Nat.zero_le, Nat.le_refl, znew, true_or, or_true, b01_t, b01_f, b01_ok, bool_ft, vp_b01, vp_b0, vp_b1, b01_eq0, b01_eq1, implies_true, nI_add, nI_clamp, zi_in, zi_le_t, zi_le_f, zi_lt_t, zi_lt_f, zi_eq_t, zi_eq_f, nI_leI, nI_ltI, nI_eq, z_in, pk_mul, zu_same, zu_rw, zu_ix, zi_ne0, zi_sub, zi_m1, Nat.add_sub_cancel, Nat.reduceMul, Nat.reduceSub, h52]
          · refine ⟨zu_same _ _ _ _, hp.keep (fun j hj => zu_ix _ _ (by omega))⟩
          · intro S'' hf2 h2
            have := hQ S'' hf2
            rw [tev, hw] at this
            exact this h2
        obtain rfl | rfl | rfl | rfl : k = 2 ∨ k = 3 ∨ k = 4 ∨ k = 5 := by omega
        · refine sX10_termOf_5 _ _ _ _ _ ?_
          simp (disch := omega) only [oAld, oAld1, oAst1, oBin, oGR, oIf, oIfc, oIld, oInc, oIst, oNop, oPI, oPush, oRI, hM.1, hM.r51, hM.t51, hM.n51, hM.r46, hM.t46, hM.n46, hM.r47, hM.t47, hM.n47, hM.r50, hM.t50, hM.n50, e31, e32, e34, hC, p1, p0, List.getElem?_cons_zero, List.getElem?_cons_succ, List.set_cons_zero, List.set_cons_succ, List.drop_succ_cons, List.drop_zero, List.take_succ_cons, List.take_zero, List.length_cons, List.length_nil, List.reverse_cons, List.reverse_nil, List.nil_append, List.cons_append, Option.toList_some, Option.toList_none, va_rf_s, true_and, and_true, true_implies, false_implies, not_true_eq_false, not_false_eq_true, Nat.reduceAdd, Nat.reduceLeDiff, Nat.le_add_left, Nat.zero_le, Nat.le_refl, znew, true_or, or_true, b01_t, b01_f, b01_ok, bool_ft, vp_b01, vp_b0, vp_b1, b01_eq0, b01_eq1, implies_true, nI_add, nI_clamp, zi_in, zi_le_t, zi_le_f, zi_lt_t, zi_lt_f, zi_eq_t, zi_eq_f, nI_leI, nI_ltI, nI_eq, z_in, pk_mul, zu_same, zu_rw, zu_ix, zi_ne0, zi_sub, zi_m1, Nat.add_sub_cancel, Nat.reduceMul, Nat.reduceSub]
          refine sX10_termOf_104 _ _ _ _ _ ?_
          simp (disch := omega) only [oAld, oAst1, oBin, oDiv, oGR, oIfc, oIld, oInc, oNop, oPush, hM.1, hM.r51, hM.t51, hM.n51, List.getElem?_cons_zero, List.getElem?_cons_succ, List.set_cons_zero, List.set_cons_succ, List.drop_succ_cons, List.drop_zero, List.take_succ_cons, List.take_zero, List.length_cons, List.length_nil, List.reverse_cons, List.reverse_nil, List.nil_append, List.cons_append, Option.toList_some, Option.toList_none, va_rf_s, true_and, and_true, true_implies, false_implies, not_true_eq_false, not_false_eq_true, Nat.reduceAdd, Nat.reduceLeDiff, Nat.le_add_left, Nat.zero_le, Nat.le_refl, znew, true_or, or_true, b01_t, b01_f, b01_ok, bool_ft, vp_b01, vp_b0, vp_b1, b01_eq0, b01_eq1, implies_true, nI_add, nI_clamp, zi_in, zi_le_t, zi_le_f, zi_lt_t, zi_lt_f, zi_eq_t, zi_eq_f, nI_leI, nI_ltI, nI_eq, z_in, pk_mul, zu_same, zu_rw, zu_ix, zi_ne0, zi_sub, zi_m1, Nat.add_sub_cancel, Nat.reduceMul, Nat.reduceSub]
          exact go _ (by simp [tstep]) _ _ _
        · refine sX10_termOf_5 _ _ _ _ _ ?_
          simp (disch := omega) only [oAld, oAld1, oAst1, oBin, oGR, oIf, oIfc, oIld, oInc, oIst, oNop, oPI, oPush, oRI, hM.1, hM.r51, hM.t51, hM.n51, hM.r46, hM.t46, hM.n46, hM.r47, hM.t47, hM.n47, hM.r50, hM.t50, hM.n50, e31, e32, e34, hC, p1, p0, List.getElem?_cons_zero, List.getElem?_cons_succ, List.set_cons_zero, List.set_cons_succ, List.drop_succ_cons, List.drop_zero, List.take_succ_cons, List.take_zero, List.length_cons, List.length_nil, List.reverse_cons, List.reverse_nil, List.nil_append, List.cons_append, Option.toList_some, Option.toList_none, va_rf_s, true_and, and_true, true_implies, false_implies, not_true_eq_false, not_false_eq_true, Nat.reduceAdd, Nat.reduceLeDiff, Nat.le_add_left, Nat.zero_le, Nat.le_refl, znew, true_or, or_true, b01_t, b01_f, b01_ok, bool_ft, vp_b01, vp_b0, vp_b1, b01_eq0, b01_eq1, implies_true, nI_add, nI_clamp, zi_in, zi_le_t, zi_le_f, zi_lt_t, zi_lt_f, zi_eq_t, zi_eq_f, nI_leI, nI_ltI, nI_eq, z_in, pk_mul, zu_same, zu_rw, zu_ix, zi_ne0, zi_sub, zi_m1, Nat.add_sub_cancel, Nat.reduceMul, Nat.reduceSub]
          refine sX10_termOf_104 _ _ _ _ _ ?_
          simp (disch := omega) only [oAld, oAst1, oBin, oDiv, oGR, oIfc, oIld, oInc, oNop, oPush, hM.1, hM.r51, hM.t51, hM.n51, List.getElem?_cons_zero, List.getElem?_cons_succ, List.set_cons_zero, List.set_cons_succ, List.drop_succ_cons, List.drop_zero, List.take_succ_cons, List.take_zero, List.length_cons, List.length_nil, List.reverse_cons, List.reverse_nil, List.nil_append, List.cons_append, Option.toList_some, Option.toList_none, va_rf_s, true_and, and_true, true_implies, false_implies, not_true_eq_false, not_false_eq_true, Nat.reduceAdd, Nat.reduceLeDiff, Nat.le_add_left, Nat.zero_le, Nat.le_refl, znew, true_or, or_true, b01_t, b01_f, b01_ok, bool_ft, vp_b01, vp_b0, vp_b1, b01_eq0, b01_eq1, implies_true, nI_add, nI_clamp, zi_in, zi_le_t, zi_le_f, zi_lt_t, zi_lt_f, zi_eq_t, zi_eq_f, nI_leI, nI_ltI, nI_eq, z_in, pk_mul, zu_same, zu_rw, zu_ix, zi_ne0, zi_sub, zi_m1, Nat.add_sub_cancel, Nat.reduceMul, Nat.reduceSub]
          exact go _ (by simp [tstep]) _ _ _
        · refine sX10_termOf_5 _ _ _ _ _ ?_
          simp (disch := omega) only [oAld, oAld1, oAst1, oBin, oGR, oIf, oIfc, oIld, oInc, oIst, oNop, oPI, oPush, oRI, hM.1, hM.r51, hM.t51, hM.n51, hM.r46, hM.t46, hM.n46, hM.r47, hM.t47, hM.n47, hM.r50, hM.t50, hM.n50, e31, e32, e34, hC, p1, p0, List.getElem?_cons_zero, List.getElem?_cons_succ, List.set_cons_zero, List.set_cons_succ, List.drop_succ_cons, List.drop_zero, List.take_succ_cons, List.take_zero, List.length_cons, List.length_nil, List.reverse_cons, List.reverse_nil, List.nil_append, List.cons_append, Option.toList_some, Option.toList_none, va_rf_s, true_and, and_true, true_implies, false_implies, not_true_eq_false, not_false_eq_true, Nat.reduceAdd, Nat.reduceLeDiff, Nat.le_add_left, Nat.zero_le, Nat.le_refl, znew, true_or, or_true, b01_t, b01_f, b01_ok, bool_ft, vp_b01, vp_b0, vp_b1, b01_eq0, b01_eq1, implies_true, nI_add, nI_clamp, zi_in, zi_le_t, zi_le_f, zi_lt_t, zi_lt_f, zi_eq_t, zi_eq_f, nI_leI, nI_ltI, nI_eq, z_in, pk_mul, zu_same, zu_rw, zu_ix, zi_ne0, zi_sub, zi_m1, Nat.add_sub_cancel, Nat.reduceMul, Nat.reduceSub]
          refine sX10_termOf_104 _ _ _ _ _ ?_
          simp (disch := omega) only [oAld, oAst1, oBin, oDiv, oGR, oIfc, oIld, oInc, oNop, oPush, hM.1, hM.r51, hM.t51, hM.n51, List.getElem?_cons_zero, List.getElem?_cons_succ, List.set_cons_zero, List.set_cons_succ, List.drop_succ_cons, List.drop_zero, List.take_succ_cons, List.take_zero, List.length_cons, List.length_nil, List.reverse_cons, List.reverse_nil, List.nil_append, List.cons_append, Option.toList_some, Option.toList_none, va_rf_s, true_and, and_true, true_implies, false_implies, not_true_eq_false, not_false_eq_true, Nat.reduceAdd, Nat.reduceLeDiff, Nat.le_add_left, Nat.zero_le, Nat.le_refl, znew, true_or, or_true, b01_t, b01_f, b01_ok, bool_ft, vp_b01, vp_b0, vp_b1, b01_eq0, b01_eq1, implies_true, nI_add, nI_clamp, zi_in, zi_le_t, zi_le_f, zi_lt_t, zi_lt_f, zi_eq_t, zi_eq_f, nI_leI, nI_ltI, nI_eq, z_in, pk_mul, zu_same, zu_rw, zu_ix, zi_ne0, zi_sub, zi_m1, Nat.add_sub_cancel, Nat.reduceMul, Nat.reduceSub]
          exact go _ (by simp [tstep]) _ _ _
        · refine sX10_termOf_5 _ _ _ _ _ ?_
          simp (disch := omega) only [oAld, oAld1, oAst1, oBin, oGR, oIf, oIfc, oIld, oInc, oIst, oNop, oPI, oPush, oRI, hM.1, hM.r51, hM.t51, hM.n51, hM.r46, hM.t46, hM.n46, hM.r47, hM.t47, hM.n47, hM.r50, hM.t50, hM.n50, e31, e32, e34, hC, p1, p0, List.getElem?_cons_zero, List.getElem?_cons_succ, List.set_cons_zero, List.set_cons_succ, List.drop_succ_cons, List.drop_zero, List.take_succ_cons, List.take_zero, List.length_cons, List.length_nil, List.reverse_cons, List.reverse_nil, List.nil_append, List.cons_append, Option.toList_some, Option.toList_none, va_rf_s, true_and, and_true, true_implies, false_implies, not_true_eq_false, not_false_eq_true, Nat.reduceAdd, Nat.reduceLeDiff, Nat.le_add_left, Nat.zero_le, Nat.le_refl, znew, true_or, or_true, b01_t, b01_f, b01_ok, bool_ft, vp_b01, vp_b0, vp_b1, b01_eq0, b01_eq1, implies_true, nI_add, nI_clamp, zi_in, zi_le_t, zi_le_f, zi_lt_t, zi_lt_f, zi_eq_t, zi_eq_f, nI_leI, nI_ltI, nI_eq, z_in, pk_mul, zu_same, zu_rw, zu_ix, zi_ne0, zi_sub, zi_m1, Nat.add_sub_cancel, Nat.reduceMul, Nat.reduceSub]
          refine ⟨fun h0 => ?_, fun h0 => ?_⟩
          · have ht : tev (S (b + 34)) ((5, x) :: cl) (bb :: aa :: r) = none := by
              rw [tev]; simp [tstep, h0]
            have := hQ (zu S' b 52 (nI 1)) (hf.fld (by decide)) (by rw [ht]; exact zu_same _ _ _ _)
            rw [ht] at this
            exact this
          · refine sX10_termOf_104 _ _ _ _ _ ?_
            simp (disch := omega) only [oAld, oAst1, oBin, oDiv, oGR, oIfc, oIld, oInc, oNop, oPush, hM.1, hM.r51, hM.t51, hM.n51, List.getElem?_cons_zero, List.getElem?_cons_succ, List.set_cons_zero, List.set_cons_succ, List.drop_succ_cons, List.drop_zero, List.take_succ_cons, List.take_zero, List.length_cons, List.length_nil, List.reverse_cons, List.reverse_nil, List.nil_append, List.cons_append, Option.toList_some, Option.toList_none, va_rf_s, true_and, and_true, true_implies, false_implies, not_true_eq_false, not_false_eq_true, Nat.reduceAdd, Nat.reduceLeDiff, Nat.le_add_left, Nat.zero_le, Nat.le_refl, znew, true_or, or_true, b01_t, b01_f, b01_ok, bool_ft, vp_b01, vp_b0, vp_b1, b01_eq0, b01_eq1, implies_true, nI_add, nI_clamp, zi_in, zi_le_t, zi_le_f, zi_lt_t, zi_lt_f, zi_eq_t, zi_eq_f, nI_leI, nI_ltI, nI_eq, z_in, pk_mul, zu_same, zu_rw, zu_ix, zi_ne0, zi_sub, zi_m1, Nat.add_sub_cancel, Nat.reduceMul, Nat.reduceSub]
            exact ⟨h0, go _ (by simp [tstep, h0]) _ _ _⟩
    · have go : ∀ w : Int32, tstep (S (b + 34)) (k, x) st = some (w :: st) → tdep cl (st.length + 1) = some 1 → ∀ u5 u6 u7, zW V YX10_termOf 5 [some (.ref b), some (.int (nI fr)), some (.int (nI to)), some (.int (nI (st.length + 1))), some (.int (nI (c + 1))), u5, u6, u7] [] (z, h, zu S' (b + 35) st.length w, L) 0 0 := by
        intro w hw hd2 u5 u6 u7
        refine ih (c + 1) (w :: st) _ u5 u6 u7 hca (by omega) (by simpa using hd2) (by simp; omega) (hf.row (by decide) (by decide)) ?_ ?_ ?_
        · simp (disch := omega) only [List.getElem?_cons_zero, List.getElem?_cons_succ, List.set_cons_zero, List.set_cons_succ, List.drop_succ_cons, List.drop_zero, List.take_succ_cons, List.take_zero, List.length_cons, List.length_nil, List.reverse_cons, List.reverse_nil, List.nil_append, List.cons_append, Option.toList_some, Option.toList_none, va_rf_s, true_and, and_true, true_implies, false_implies, not_true_eq_false, not_false_eq_true, Nat.reduceAdd, Nat.reduceLeDiff, Nat.le_add_left, Nat.zero_le, Nat.le_refl, znew, true_or, or_true, b01_t, b01_f, b01_ok, bool_ft, vp_b01, vp_b0, vp_b1, b01_eq0, b01_eq1, implies_true, nI_add, nI_clamp, zi_in, zi_le_t, zi_le_f, zi_lt_t, zi_lt_f, zi_eq_t, zi_eq_f, nI_leI, nI_ltI, nI_eq, z_in, pk_mul, zu_same, zu_rw, zu_ix, zi_ne0, zi_sub, zi_m1, Nat.add_sub_cancel, Nat.reduceMul, Nat.reduceSub, h52]
        · refine ⟨zu_same _ _ _ _, hp.keep (fun j hj => zu_ix _ _ (by omega))⟩
        · intro S'' hf2 h2
          have := hQ S'' hf2
          rw [tev, hw] at this
          exact this h2
      obtain rfl | rfl : k = 0 ∨ k = 1 := by omega
      · refine sX10_termOf_5 _ _ _ _ _ ?_
        simp (disch := omega) only [oAld, oAld1, oAst1, oBin, oGR, oIf, oIfc, oIld, oInc, oIst, oNop, oPI, oPush, oRI, hM.1, hM.r51, hM.t51, hM.n51, hM.r46, hM.t46, hM.n46, hM.r47, hM.t47, hM.n47, hM.r50, hM.t50, hM.n50, e31, e32, e34, hC, hI, List.getElem?_cons_zero, List.getElem?_cons_succ, List.set_cons_zero, List.set_cons_succ, List.drop_succ_cons, List.drop_zero, List.take_succ_cons, List.take_zero, List.length_cons, List.length_nil, List.reverse_cons, List.reverse_nil, List.nil_append, List.cons_append, Option.toList_some, Option.toList_none, va_rf_s, true_and, and_true, true_implies, false_implies, not_true_eq_false, not_false_eq_true, Nat.reduceAdd, Nat.reduceLeDiff, Nat.le_add_left, Nat.zero_le, Nat.le_refl, znew, true_or, or_true, b01_t, b01_f, b01_ok, bool_ft, vp_b01, vp_b0, vp_b1, b01_eq0, b01_eq1, implies_true, nI_add, nI_clamp, zi_in, zi_le_t, zi_le_f, zi_lt_t, zi_lt_f, zi_eq_t, zi_eq_f, nI_leI, nI_ltI, nI_eq, z_in, pk_mul, zu_same, zu_rw, zu_ix, zi_ne0, zi_sub, zi_m1, Nat.add_sub_cancel, Nat.reduceMul, Nat.reduceSub]
        exact go _ (by simp [tstep]) (by simpa [tdep] using hd) _ _ _
      · unfold tdep at hd
        rw [if_neg (by simp), if_pos rfl] at hd
        by_cases hok : okI x 9 = true
        · rw [if_pos hok] at hd
          obtain ⟨j, hj, rfl⟩ := (okI_iff (by omega)).mp hok
          refine sX10_termOf_5 _ _ _ _ _ ?_
          simp (disch := omega) only [oAld, oAld1, oAst1, oBin, oGR, oIf, oIfc, oIld, oInc, oIst, oNop, oPI, oPush, oRI, hM.1, hM.r51, hM.t51, hM.n51, hM.r46, hM.t46, hM.n46, hM.r47, hM.t47, hM.n47, hM.r50, hM.t50, hM.n50, e31, e32, e34, hC, hI, List.getElem?_cons_zero, List.getElem?_cons_succ, List.set_cons_zero, List.set_cons_succ, List.drop_succ_cons, List.drop_zero, List.take_succ_cons, List.take_zero, List.length_cons, List.length_nil, List.reverse_cons, List.reverse_nil, List.nil_append, List.cons_append, Option.toList_some, Option.toList_none, va_rf_s, true_and, and_true, true_implies, false_implies, not_true_eq_false, not_false_eq_true, Nat.reduceAdd, Nat.reduceLeDiff, Nat.le_add_left, Nat.zero_le, Nat.le_refl, znew, true_or, or_true, b01_t, b01_f, b01_ok, bool_ft, vp_b01, vp_b0, vp_b1, b01_eq0, b01_eq1, implies_true, nI_add, nI_clamp, zi_in, zi_le_t, zi_le_f, zi_lt_t, zi_lt_f, zi_eq_t, zi_eq_f, nI_leI, nI_ltI, nI_eq, z_in, pk_mul, zu_same, zu_rw, zu_ix, zi_ne0, zi_sub, zi_m1, Nat.add_sub_cancel, Nat.reduceMul, Nat.reduceSub]
          exact go _ (by simp only [tstep]; simp (disch := omega) only [List.getElem?_cons_zero, List.getElem?_cons_succ, List.set_cons_zero, List.set_cons_succ, List.drop_succ_cons, List.drop_zero, List.take_succ_cons, List.take_zero, List.length_cons, List.length_nil, List.reverse_cons, List.reverse_nil, List.nil_append, List.cons_append, Option.toList_some, Option.toList_none, va_rf_s, true_and, and_true, true_implies, false_implies, not_true_eq_false, not_false_eq_true, Nat.reduceAdd, Nat.reduceLeDiff, Nat.le_add_left, Nat.zero_le, Nat.le_refl, znew, true_or, or_true, b01_t, b01_f, b01_ok, bool_ft, vp_b01, vp_b0, vp_b1, b01_eq0, b01_eq1, implies_true, nI_add, nI_clamp, zi_in, zi_le_t, zi_le_f, zi_lt_t, zi_lt_f, zi_eq_t, zi_eq_f, nI_leI, nI_ltI, nI_eq, z_in, pk_mul, zu_same, zu_rw, zu_ix, zi_ne0, zi_sub, zi_m1, Nat.add_sub_cancel, Nat.reduceMul, Nat.reduceSub, ]; rfl) hd _ _ _
        · rw [if_neg hok] at hd; cases hd
theorem zX10_termOf (hM : isM h b) {fr to : Nat} (cl : List (Nat × Int32)) (hca : codeAt (S (b + 31)) (S (b + 32)) fr cl) (hc : fr + cl.length = to) (hto : to ≤ 840) (hlen : cl.length ≤ 400) (hd : tdep cl 0 = some 1) :
    zM l E 0 YX10_termOf [.ref b, .int (nI fr), .int (nI to)] (z, h, S, L) 0 0 (fun r X => ∃ S', X = (z, h, S', L) ∧ zfr [35] [52] b S S' ∧ r = some (.int (tval (tev (S (b + 34)) cl []))) ∧ S' b 52 = tbrk (S b 52) (tev (S (b + 34)) cl [])) (fun _ _ => False) := by
  refine zM.go rfl rfl (Nat.le_of_ble_eq_true rfl) (ls := [some (.ref b), some (.int (nI fr)), some (.int (nI to)), none, none, none, none, none]) rfl ?_
  intro V hVl hVE hVd hVc hVs hVQ hVX
  refine sX10_termOf_0 _ _ _ _ _ ?_
  simp (disch := omega) only [oIld, oIst, oPush, List.getElem?_cons_zero, List.getElem?_cons_succ, List.set_cons_zero, List.set_cons_succ, List.drop_succ_cons, List.drop_zero, List.take_succ_cons, List.take_zero, List.length_cons, List.length_nil, List.reverse_cons, List.reverse_nil, List.nil_append, List.cons_append, Option.toList_some, Option.toList_none, va_rf_s, true_and, and_true, true_implies, false_implies, not_true_eq_false, not_false_eq_true, Nat.reduceAdd, Nat.reduceLeDiff, Nat.le_add_left, Nat.zero_le, Nat.le_refl, znew, true_or, or_true, b01_t, b01_f, b01_ok, bool_ft, vp_b01, vp_b0, vp_b1, b01_eq0, b01_eq1, implies_true, nI_add, nI_clamp, zi_in, zi_le_t, zi_le_f, zi_lt_t, zi_lt_f, zi_eq_t, zi_eq_f, nI_leI, nI_ltI, nI_eq, z_in, pk_mul, zu_same, zu_rw, zu_ix, zi_ne0, zi_sub, zi_m1, Nat.add_sub_cancel, Nat.reduceMul, Nat.reduceSub]
  exact zX10_termOf_loop hM hto hVc hVs cl fr [] S none none none hca hc hd (by simpa using hlen) zfr.rf rfl trivial (fun S'' h1 h2 => hVQ _ _ ⟨S'', rfl, h1, rfl, h2⟩)
end MC
/-- a branch of a law: has it a test, less, than, then -/
abbrev zBr3 : Type := Bool × List (Nat × Int32) × List (Nat × Int32) × List (Nat × Int32)
def cOK (cl : List (Nat × Int32)) : Prop := tdep cl 0 = some 1 ∧ cl.length ≤ 400
def brAt (b : Nat) (S : Nat → Nat → Int32) (j : Nat) (q : zBr3) : Prop := S (b + 26) j = b01 q.1 ∧ ∃ f m t e, (q.1 = true → (S (b + 27) j = nI f ∧ S (b + 28) j = nI m) ∧ (codeAt (S (b + 31)) (S (b + 32)) f q.2.1 ∧ f + q.2.1.length = m ∧ m ≤ 840 ∧ cOK q.2.1) ∧ codeAt (S (b + 31)) (S (b + 32)) m q.2.2.1 ∧ m + q.2.2.1.length = t ∧ t ≤ 840 ∧ cOK q.2.2.1) ∧ (S (b + 29) j = nI t ∧ S (b + 30) j = nI e) ∧ codeAt (S (b + 31)) (S (b + 32)) t q.2.2.2 ∧ t + q.2.2.2.length = e ∧ e ≤ 840 ∧ cOK q.2.2.2
def brsAt (b : Nat) (S : Nat → Nat → Int32) : Nat → List zBr3 → Prop
  | _, [] => True
  | j, q :: qs => brAt b S j q ∧ brsAt b S (j + 1) qs
def lawAt (b : Nat) (S : Nat → Nat → Int32) (p : Nat) (law : List zBr3) : Prop := ∃ f, S (b + 24) p = nI f ∧ S (b + 25) p = nI (f + law.length) ∧ f + law.length ≤ 260 ∧ brsAt b S f law
def lawEv (v : Nat → Int32) : List zBr3 → Int32
  | [] => nI 0
  | q :: qs => if q.1 = true then (match tev v q.2.1 [], tev v q.2.2.1 [] with
      | some u, some w => if tval (some u) < tval (some w) then tval (tev v q.2.2.2 []) else lawEv v qs
      | _, _ => nI 0) else tval (tev v q.2.2.2 [])
def lawF (v : Nat → Int32) (plain : Int32) (law : List zBr3) : Int32 := match law with
  | [] => plain
  | _ => lawEv v law
section MC2
variable {l : Launch} {E : zE} {b z : Nat} {h : Nat → Option zSh} {S : Nat → Nat → Int32} {L : Nat → Nat → Int64}
set_option maxHeartbeats 1000000 in
theorem zX10_lawTells_loop {V : zV} (hM : isM h b) {k at' last : Nat} {plain : Int32} (hat : at' < 8) (hlast : S (b + 25) at' = nI last) (hl2 : last ≤ 260) (hVd : V.2.2.1 = 1) (hVc : V.2.2.2.1 = 0) (hVs : V.2.2.2.2.1 = 0) :
    ∀ (qs : List zBr3) (j : Nat) (S' : Nat → Nat → Int32) (u5 u6 : Option Value), brsAt b S j qs → j + qs.length = last → zfr [35] [52] b S S' → S' b 52 = nI 0 →
      (∀ S'', zfr [35] [52] b S S'' → V.2.2.2.2.2.1 (some (.int (lawEv (S (b + 34)) qs))) (z, h, S'', L)) →
      zW V YX10_lawTells 39 [some (.ref b), some (.int (nI k)), some (.int plain), some (.int (nI at')), some (.int (nI j)), u5, u6] [] (z, h, S', L) 0 0 := by
  intro qs
  induction qs with
  | nil =>
    intro j S' u5 u6 hb hj hf h52 hQ
    simp only [List.length_nil, Nat.add_zero] at hj
    subst hj
    refine sX10_lawTells_39 _ _ _ _ _ ?_
    simp (disch := omega) only [oAld, oAld1, oCV, oGR, oIf, oIfc, oIld, oPush, oRI, hM.1, hM.r38, hM.t38, hM.n38, hM.r40, hM.t40, hM.n40, hM.r43, hM.t43, hM.n43, hM.r44, hM.t44, hM.n44, hM.r41, hM.t41, hM.n41, hM.r42, hM.t42, hM.n42, hf.at (o := 25) rfl rfl, hlast, List.getElem?_cons_zero, List.getElem?_cons_succ, List.set_cons_zero, List.set_cons_succ, List.drop_succ_cons, List.drop_zero, List.take_succ_cons, List.take_zero, List.length_cons, List.length_nil, List.reverse_cons, List.reverse_nil, List.nil_append, List.cons_append, Option.toList_some, Option.toList_none, va_rf_s, true_and, and_true, true_implies, false_implies, not_true_eq_false, not_false_eq_true, Nat.reduceAdd, Nat.reduceLeDiff, Nat.le_add_left, Nat.zero_le, Nat.le_refl, znew, true_or, or_true, b01_t, b01_f, b01_ok, bool_ft, vp_b01, vp_b0, vp_b1, b01_eq0, b01_eq1, implies_true, nI_add, nI_clamp, zi_in, zi_le_t, zi_le_f, zi_lt_t, zi_lt_f, zi_eq_t, zi_eq_f, nI_leI, nI_ltI, nI_eq, z_in, pk_mul, zu_same, zu_rw, zu_ix, zi_ne0, zi_sub, zi_m1, Nat.add_sub_cancel, Nat.reduceMul, Nat.reduceSub]
    exact hQ S' hf
  | cons q qs ih =>
    intro j S' u5 u6 hb hj hf h52 hQ
    obtain ⟨ht, c1, c2, c3⟩ := q
    obtain ⟨⟨hb0, f, m, t, e, hb1, ⟨hb2, hb3⟩, hc3, hl3, he3, hok3⟩, hbs⟩ := hb
    simp only [List.length_cons] at hj
    dsimp only at hb0 hb1 hb2 hb3 hc3 hl3 he3 hok3
    have e25 := hf.at (o := 25) rfl rfl
    have e26 := hf.at (o := 26) rfl rfl
    have e27 := hf.at (o := 27) rfl rfl
    have e28 := hf.at (o := 28) rfl rfl
    have e29 := hf.at (o := 29) rfl rfl
    have e30 := hf.at (o := 30) rfl rfl
    have e31 := hf.at (o := 31) rfl rfl
    have e32 := hf.at (o := 32) rfl rfl
    have e34 := hf.at (o := 34) rfl rfl
    cases ht with
    | false =>
      refine sX10_lawTells_39 _ _ _ _ _ ?_
      simp (disch := omega) only [oAld, oAld1, oCV, oGR, oIf, oIfc, oIld, oPush, oRI, hM.1, hM.r38, hM.t38, hM.n38, hM.r40, hM.t40, hM.n40, hM.r43, hM.t43, hM.n43, hM.r44, hM.t44, hM.n44, hM.r41, hM.t41, hM.n41, hM.r42, hM.t42, hM.n42, e25, e26, e29, e30, hlast, hb0, hb2, hb3, List.getElem?_cons_zero, List.getElem?_cons_succ, List.set_cons_zero, List.set_cons_succ, List.drop_succ_cons, List.drop_zero, List.take_succ_cons, List.take_zero, List.length_cons, List.length_nil, List.reverse_cons, List.reverse_nil, List.nil_append, List.cons_append, Option.toList_some, Option.toList_none, va_rf_s, true_and, and_true, true_implies, false_implies, not_true_eq_false, not_false_eq_true, Nat.reduceAdd, Nat.reduceLeDiff, Nat.le_add_left, Nat.zero_le, Nat.le_refl, znew, true_or, or_true, b01_t, b01_f, b01_ok, bool_ft, vp_b01, vp_b0, vp_b1, b01_eq0, b01_eq1, implies_true, nI_add, nI_clamp, zi_in, zi_le_t, zi_le_f, zi_lt_t, zi_lt_f, zi_eq_t, zi_eq_f, nI_leI, nI_ltI, nI_eq, z_in, pk_mul, zu_same, zu_rw, zu_ix, zi_ne0, zi_sub, zi_m1, Nat.add_sub_cancel, Nat.reduceMul, Nat.reduceSub]
      refine zC.of0 (zX10_termOf hM c3 (by rw [e31, e32]; exact hc3) hl3 he3 hok3.2 hok3.1) (by omega) (Nat.zero_le _) (Nat.zero_le _) ?_
      rintro _ _ ⟨S1, rfl, hf1, rfl, h1⟩
      have hf2 : zfr [35] [52] b S S1 := hf.tr hf1 rfl rfl rfl rfl
      rw [e34] at h1
      have hq := hQ S1 hf2
      rw [lawEv] at hq
      simp only [Bool.false_eq_true, if_false] at hq
      rw [h52] at h1
      cases htv : tev (S (b + 34)) c3 [] with
      | none =>
        rw [htv] at h1 hq
        refine sX10_lawTells_137 _ _ _ _ _ ?_
        simp (disch := omega) only [oAld, oGI, oIf, oIld, oIst, oNop, oPush, oRI, hM.1, h1, tbrk, List.getElem?_cons_zero, List.getElem?_cons_succ, List.set_cons_zero, List.set_cons_succ, List.drop_succ_cons, List.drop_zero, List.take_succ_cons, List.take_zero, List.length_cons, List.length_nil, List.reverse_cons, List.reverse_nil, List.nil_append, List.cons_append, Option.toList_some, Option.toList_none, va_rf_s, true_and, and_true, true_implies, false_implies, not_true_eq_false, not_false_eq_true, Nat.reduceAdd, Nat.reduceLeDiff, Nat.le_add_left, Nat.zero_le, Nat.le_refl, znew, true_or, or_true, b01_t, b01_f, b01_ok, bool_ft, vp_b01, vp_b0, vp_b1, b01_eq0, b01_eq1, implies_true, nI_add, nI_clamp, zi_in, zi_le_t, zi_le_f, zi_lt_t, zi_lt_f, zi_eq_t, zi_eq_f, nI_leI, nI_ltI, nI_eq, z_in, pk_mul, zu_same, zu_rw, zu_ix, zi_ne0, zi_sub, zi_m1, Nat.add_sub_cancel, Nat.reduceMul, Nat.reduceSub]
        exact hq
      | some st =>
        rw [htv] at h1 hq
        refine sX10_lawTells_137 _ _ _ _ _ ?_
        simp (disch := omega) only [oAld, oGI, oIf, oIld, oIst, oNop, oPush, oRI, hM.1, h1, tbrk, e34, htv, List.getElem?_cons_zero, List.getElem?_cons_succ, List.set_cons_zero, List.set_cons_succ, List.drop_succ_cons, List.drop_zero, List.take_succ_cons, List.take_zero, List.length_cons, List.length_nil, List.reverse_cons, List.reverse_nil, List.nil_append, List.cons_append, Option.toList_some, Option.toList_none, va_rf_s, true_and, and_true, true_implies, false_implies, not_true_eq_false, not_false_eq_true, Nat.reduceAdd, Nat.reduceLeDiff, Nat.le_add_left, Nat.zero_le, Nat.le_refl, znew, true_or, or_true, b01_t, b01_f, b01_ok, bool_ft, vp_b01, vp_b0, vp_b1, b01_eq0, b01_eq1, implies_true, nI_add, nI_clamp, zi_in, zi_le_t, zi_le_f, zi_lt_t, zi_lt_f, zi_eq_t, zi_eq_f, nI_leI, nI_ltI, nI_eq, z_in, pk_mul, zu_same, zu_rw, zu_ix, zi_ne0, zi_sub, zi_m1, Nat.add_sub_cancel, Nat.reduceMul, Nat.reduceSub]
        exact hq
    | true =>
      obtain ⟨⟨hb4, hb5⟩, ⟨hc1, hl1, he1, hok1⟩, hc2, hl2', he2, hok2⟩ := hb1 rfl
      refine sX10_lawTells_39 _ _ _ _ _ ?_
      simp (disch := omega) only [oAld, oAld1, oCV, oGR, oIf, oIfc, oIld, oPush, oRI, hM.1, hM.r38, hM.t38, hM.n38, hM.r40, hM.t40, hM.n40, hM.r43, hM.t43, hM.n43, hM.r44, hM.t44, hM.n44, hM.r41, hM.t41, hM.n41, hM.r42, hM.t42, hM.n42, e25, e26, e27, e28, hlast, hb0, hb4, hb5, List.getElem?_cons_zero, List.getElem?_cons_succ, List.set_cons_zero, List.set_cons_succ, List.drop_succ_cons, List.drop_zero, List.take_succ_cons, List.take_zero, List.length_cons, List.length_nil, List.reverse_cons, List.reverse_nil, List.nil_append, List.cons_append, Option.toList_some, Option.toList_none, va_rf_s, true_and, and_true, true_implies, false_implies, not_true_eq_false, not_false_eq_true, Nat.reduceAdd, Nat.reduceLeDiff, Nat.le_add_left, Nat.zero_le, Nat.le_refl, znew, true_or, or_true, b01_t, b01_f, b01_ok, bool_ft, vp_b01, vp_b0, vp_b1, b01_eq0, b01_eq1, implies_true, nI_add, nI_clamp, zi_in, zi_le_t, zi_le_f, zi_lt_t, zi_lt_f, zi_eq_t, zi_eq_f, nI_leI, nI_ltI, nI_eq, z_in, pk_mul, zu_same, zu_rw, zu_ix, zi_ne0, zi_sub, zi_m1, Nat.add_sub_cancel, Nat.reduceMul, Nat.reduceSub]
      refine zC.of0 (zX10_termOf hM c1 (by rw [e31, e32]; exact hc1) hl1 he1 hok1.2 hok1.1) (by omega) (Nat.zero_le _) (Nat.zero_le _) ?_
      rintro _ _ ⟨S1, rfl, hf1, rfl, h1⟩
      have hf1' : zfr [35] [52] b S S1 := hf.tr hf1 rfl rfl rfl rfl
      refine sX10_lawTells_78 _ _ _ _ _ ?_
      simp (disch := omega) only [oAld, oAld1, oCV, oGR, oIld, oIst, hM.1, hM.r42, hM.t42, hM.n42, hM.r43, hM.t43, hM.n43, hf1'.at (o := 28) rfl rfl, hf1'.at (o := 29) rfl rfl, hb5, hb2, List.getElem?_cons_zero, List.getElem?_cons_succ, List.set_cons_zero, List.set_cons_succ, List.drop_succ_cons, List.drop_zero, List.take_succ_cons, List.take_zero, List.length_cons, List.length_nil, List.reverse_cons, List.reverse_nil, List.nil_append, List.cons_append, Option.toList_some, Option.toList_none, va_rf_s, true_and, and_true, true_implies, false_implies, not_true_eq_false, not_false_eq_true, Nat.reduceAdd, Nat.reduceLeDiff, Nat.le_add_left, Nat.zero_le, Nat.le_refl, znew, true_or, or_true, b01_t, b01_f, b01_ok, bool_ft, vp_b01, vp_b0, vp_b1, b01_eq0, b01_eq1, implies_true, nI_add, nI_clamp, zi_in, zi_le_t, zi_le_f, zi_lt_t, zi_lt_f, zi_eq_t, zi_eq_f, nI_leI, nI_ltI, nI_eq, z_in, pk_mul, zu_same, zu_rw, zu_ix, zi_ne0, zi_sub, zi_m1, Nat.add_sub_cancel, Nat.reduceMul, Nat.reduceSub]
      refine zC.of0 (zX10_termOf hM c2 (by rw [hf1'.at (o := 31) rfl rfl, hf1'.at (o := 32) rfl rfl]; exact hc2) hl2' he2 hok2.2 hok2.1) (by omega) (Nat.zero_le _) (Nat.zero_le _) ?_
      rintro _ _ ⟨S2, rfl, hf2, rfl, h2⟩
      have hf2' : zfr [35] [52] b S S2 := hf1'.tr hf2 rfl rfl rfl rfl
      rw [hf1'.at (o := 34) rfl rfl] at h2
      rw [e34, h52] at h1
      rw [h1] at h2
      have hq := hQ
      simp only [lawEv, if_true] at hq
      cases htv : tev (S (b + 34)) c1 [] with
      | none =>
        rw [htv] at h2 hq
        have h2' : S2 b 52 = nI 1 := by rw [h2]; cases tev (S (b + 34)) c2 [] <;> rfl
        refine sX10_lawTells_98 _ _ _ _ _ ?_
        simp (disch := omega) only [oAld, oAld1, oCV, oGI, oGR, oIf, oIfc, oIld, oInc, oIst, oNop, oPush, oRI, hM.1, hM.r43, hM.t43, hM.n43, hM.r44, hM.t44, hM.n44, h2', List.getElem?_cons_zero, List.getElem?_cons_succ, List.set_cons_zero, List.set_cons_succ, List.drop_succ_cons, List.drop_zero, List.take_succ_cons, List.take_zero, List.length_cons, List.length_nil, List.reverse_cons, List.reverse_nil, List.nil_append, List.cons_append, Option.toList_some, Option.toList_none, va_rf_s, true_and, and_true, true_implies, false_implies, not_true_eq_false, not_false_eq_true, Nat.reduceAdd, Nat.reduceLeDiff, Nat.le_add_left, Nat.zero_le, Nat.le_refl, znew, true_or, or_true, b01_t, b01_f, b01_ok, bool_ft, vp_b01, vp_b0, vp_b1, b01_eq0, b01_eq1, implies_true, nI_add, nI_clamp, zi_in, zi_le_t, zi_le_f, zi_lt_t, zi_lt_f, zi_eq_t, zi_eq_f, nI_leI, nI_ltI, nI_eq, z_in, pk_mul, zu_same, zu_rw, zu_ix, zi_ne0, zi_sub, zi_m1, Nat.add_sub_cancel, Nat.reduceMul, Nat.reduceSub]
        exact hq S2 hf2'
      | some st1 =>
        cases htw : tev (S (b + 34)) c2 [] with
        | none =>
          rw [htv, htw] at h2 hq
          have h2' : S2 b 52 = nI 1 := h2
          refine sX10_lawTells_98 _ _ _ _ _ ?_
          simp (disch := omega) only [oAld, oAld1, oCV, oGI, oGR, oIf, oIfc, oIld, oInc, oIst, oNop, oPush, oRI, hM.1, hM.r43, hM.t43, hM.n43, hM.r44, hM.t44, hM.n44, h2', List.getElem?_cons_zero, List.getElem?_cons_succ, List.set_cons_zero, List.set_cons_succ, List.drop_succ_cons, List.drop_zero, List.take_succ_cons, List.take_zero, List.length_cons, List.length_nil, List.reverse_cons, List.reverse_nil, List.nil_append, List.cons_append, Option.toList_some, Option.toList_none, va_rf_s, true_and, and_true, true_implies, false_implies, not_true_eq_false, not_false_eq_true, Nat.reduceAdd, Nat.reduceLeDiff, Nat.le_add_left, Nat.zero_le, Nat.le_refl, znew, true_or, or_true, b01_t, b01_f, b01_ok, bool_ft, vp_b01, vp_b0, vp_b1, b01_eq0, b01_eq1, implies_true, nI_add, nI_clamp, zi_in, zi_le_t, zi_le_f, zi_lt_t, zi_lt_f, zi_eq_t, zi_eq_f, nI_leI, nI_ltI, nI_eq, z_in, pk_mul, zu_same, zu_rw, zu_ix, zi_ne0, zi_sub, zi_m1, Nat.add_sub_cancel, Nat.reduceMul, Nat.reduceSub]
          exact hq S2 hf2'
        | some st2 =>
          rw [htv, htw] at h2 hq
          have h2' : S2 b 52 = nI 0 := h2
          refine sX10_lawTells_98 _ _ _ _ _ ?_
          simp (disch := omega) only [oAld, oAld1, oCV, oGI, oGR, oIf, oIfc, oIld, oInc, oIst, oNop, oPush, oRI, hM.1, hM.r43, hM.t43, hM.n43, hM.r44, hM.t44, hM.n44, h2', e34, hf1'.at (o := 34) rfl rfl, hf2'.at (o := 29) rfl rfl, hf2'.at (o := 30) rfl rfl, htv, htw, hb2, hb3, List.getElem?_cons_zero, List.getElem?_cons_succ, List.set_cons_zero, List.set_cons_succ, List.drop_succ_cons, List.drop_zero, List.take_succ_cons, List.take_zero, List.length_cons, List.length_nil, List.reverse_cons, List.reverse_nil, List.nil_append, List.cons_append, Option.toList_some, Option.toList_none, va_rf_s, true_and, and_true, true_implies, false_implies, not_true_eq_false, not_false_eq_true, Nat.reduceAdd, Nat.reduceLeDiff, Nat.le_add_left, Nat.zero_le, Nat.le_refl, znew, true_or, or_true, b01_t, b01_f, b01_ok, bool_ft, vp_b01, vp_b0, vp_b1, b01_eq0, b01_eq1, implies_true, nI_add, nI_clamp, zi_in, zi_le_t, zi_le_f, zi_lt_t, zi_lt_f, zi_eq_t, zi_eq_f, nI_leI, nI_ltI, nI_eq, z_in, pk_mul, zu_same, zu_rw, zu_ix, zi_ne0, zi_sub, zi_m1, Nat.add_sub_cancel, Nat.reduceMul, Nat.reduceSub]
          refine ⟨fun hlt => ?_, fun hlt => ?_⟩
          · refine zC.of0 (zX10_termOf hM c3 (by rw [hf2'.at (o := 31) rfl rfl, hf2'.at (o := 32) rfl rfl]; exact hc3) hl3 he3 hok3.2 hok3.1) (by omega) (Nat.zero_le _) (Nat.zero_le _) ?_
            rintro _ _ ⟨S3, rfl, hf3, rfl, h3⟩
            have hf3' : zfr [35] [52] b S S3 := hf2'.tr hf3 rfl rfl rfl rfl
            rw [hf2'.at (o := 34) rfl rfl, h2'] at h3
            have hq := hq S3 hf3'
            simp only [hlt, if_true] at hq
            cases htx : tev (S (b + 34)) c3 [] with
            | none =>
              rw [htx] at h3 hq
              refine sX10_lawTells_137 _ _ _ _ _ ?_
              simp (disch := omega) only [oAld, oGI, oIf, oIld, oIst, oNop, oPush, oRI, hM.1, h3, tbrk, List.getElem?_cons_zero, List.getElem?_cons_succ, List.set_cons_zero, List.set_cons_succ, List.drop_succ_cons, List.drop_zero, List.take_succ_cons, List.take_zero, List.length_cons, List.length_nil, List.reverse_cons, List.reverse_nil, List.nil_append, List.cons_append, Option.toList_some, Option.toList_none, va_rf_s, true_and, and_true, true_implies, false_implies, not_true_eq_false, not_false_eq_true, Nat.reduceAdd, Nat.reduceLeDiff, Nat.le_add_left, Nat.zero_le, Nat.le_refl, znew, true_or, or_true, b01_t, b01_f, b01_ok, bool_ft, vp_b01, vp_b0, vp_b1, b01_eq0, b01_eq1, implies_true, nI_add, nI_clamp, zi_in, zi_le_t, zi_le_f, zi_lt_t, zi_lt_f, zi_eq_t, zi_eq_f, nI_leI, nI_ltI, nI_eq, z_in, pk_mul, zu_same, zu_rw, zu_ix, zi_ne0, zi_sub, zi_m1, Nat.add_sub_cancel, Nat.reduceMul, Nat.reduceSub]
              exact hq
            | some st3 =>
              rw [htx] at h3 hq
              refine sX10_lawTells_137 _ _ _ _ _ ?_
              simp (disch := omega) only [oAld, oGI, oIf, oIld, oIst, oNop, oPush, oRI, hM.1, h3, tbrk, hf2'.at (o := 34) rfl rfl, htx, List.getElem?_cons_zero, List.getElem?_cons_succ, List.set_cons_zero, List.set_cons_succ, List.drop_succ_cons, List.drop_zero, List.take_succ_cons, List.take_zero, List.length_cons, List.length_nil, List.reverse_cons, List.reverse_nil, List.nil_append, List.cons_append, Option.toList_some, Option.toList_none, va_rf_s, true_and, and_true, true_implies, false_implies, not_true_eq_false, not_false_eq_true, Nat.reduceAdd, Nat.reduceLeDiff, Nat.le_add_left, Nat.zero_le, Nat.le_refl, znew, true_or, or_true, b01_t, b01_f, b01_ok, bool_ft, vp_b01, vp_b0, vp_b1, b01_eq0, b01_eq1, implies_true, nI_add, nI_clamp, zi_in, zi_le_t, zi_le_f, zi_lt_t, zi_lt_f, zi_eq_t, zi_eq_f, nI_leI, nI_ltI, nI_eq, z_in, pk_mul, zu_same, zu_rw, zu_ix, zi_ne0, zi_sub, zi_m1, Nat.add_sub_cancel, Nat.reduceMul, Nat.reduceSub]
              exact hq
          · refine ih (j + 1) S2 _ _ hbs (by omega) hf2' h2' (fun S'' hf9 => ?_)
            have hq := hq S'' hf9
            simp only [hlt, if_false] at hq
            exact hq
theorem zX10_lawTells {lv nc ns ny nw : Nat} (hM : isM h b) (hT : mT b S lv nc ns ny nw) {k : Nat} (hk : k < 4) (plain : Int32) {law : List zBr3} (hlaw : lawAt b S (4 * lv + k) law) :
    zM l E 1 YX10_lawTells [.ref b, .int (nI k), .int plain] (z, h, S, L) 0 0 (fun r X => ∃ S', X = (z, h, S', L) ∧ zfr [35] [52] b S S' ∧ r = some (.int (lawF (S (b + 34)) plain law))) (fun _ _ => False) := by
  obtain ⟨⟨hl, hlv⟩, -⟩ := hT
  obtain ⟨f, h1, h2, h3, h4⟩ := hlaw
  refine zM.go rfl rfl (Nat.le_of_ble_eq_true rfl) (ls := [some (.ref b), some (.int (nI k)), some (.int plain), none, none, none, none]) rfl ?_
  intro V hVl hVE hVd hVc hVs hVQ hVX
  cases law with
  | nil =>
    refine sX10_lawTells_0 _ _ _ _ _ ?_
    simp (disch := omega) only [oAld, oAld1, oBin, oGI, oGR, oIfc, oIld, oIst, oPI, oPush, oRI, hM.1, hM.r37, hM.t37, hM.n37, hM.r38, hM.t38, hM.n38, hl, h1, h2, List.getElem?_cons_zero, List.getElem?_cons_succ, List.set_cons_zero, List.set_cons_succ, List.drop_succ_cons, List.drop_zero, List.take_succ_cons, List.take_zero, List.length_cons, List.length_nil, List.reverse_cons, List.reverse_nil, List.nil_append, List.cons_append, Option.toList_some, Option.toList_none, va_rf_s, true_and, and_true, true_implies, false_implies, not_true_eq_false, not_false_eq_true, Nat.reduceAdd, Nat.reduceLeDiff, Nat.le_add_left, Nat.zero_le, Nat.le_refl, znew, true_or, or_true, b01_t, b01_f, b01_ok, bool_ft, vp_b01, vp_b0, vp_b1, b01_eq0, b01_eq1, implies_true, nI_add, nI_clamp, zi_in, zi_le_t, zi_le_f, zi_lt_t, zi_lt_f, zi_eq_t, zi_eq_f, nI_leI, nI_ltI, nI_eq, z_in, pk_mul, zu_same, zu_rw, zu_ix, zi_ne0, zi_sub, zi_m1, Nat.add_sub_cancel, Nat.reduceMul, Nat.reduceSub]
    exact hVQ _ _ ⟨S, rfl, zfr.rf, rfl⟩
  | cons q qs =>
    simp only [List.length_cons] at h2 h3
    refine sX10_lawTells_0 _ _ _ _ _ ?_
    simp (disch := omega) only [oAld, oAld1, oBin, oGI, oGR, oIfc, oIld, oIst, oPI, oPush, oRI, hM.1, hM.r37, hM.t37, hM.n37, hM.r38, hM.t38, hM.n38, hl, h1, h2, List.getElem?_cons_zero, List.getElem?_cons_succ, List.set_cons_zero, List.set_cons_succ, List.drop_succ_cons, List.drop_zero, List.take_succ_cons, List.take_zero, List.length_cons, List.length_nil, List.reverse_cons, List.reverse_nil, List.nil_append, List.cons_append, Option.toList_some, Option.toList_none, va_rf_s, true_and, and_true, true_implies, false_implies, not_true_eq_false, not_false_eq_true, Nat.reduceAdd, Nat.reduceLeDiff, Nat.le_add_left, Nat.zero_le, Nat.le_refl, znew, true_or, or_true, b01_t, b01_f, b01_ok, bool_ft, vp_b01, vp_b0, vp_b1, b01_eq0, b01_eq1, implies_true, nI_add, nI_clamp, zi_in, zi_le_t, zi_le_f, zi_lt_t, zi_lt_f, zi_eq_t, zi_eq_f, nI_leI, nI_ltI, nI_eq, z_in, pk_mul, zu_same, zu_rw, zu_ix, zi_ne0, zi_sub, zi_m1, Nat.add_sub_cancel, Nat.reduceMul, Nat.reduceSub]
    exact zX10_lawTells_loop hM (by omega) h2 h3 hVd hVc hVs (q :: qs) f _ none none h4 rfl (zfr.rf.fld (by decide)) (zu_same _ _ _ _) (fun S'' h9 => hVQ _ _ ⟨S'', rfl, h9, rfl⟩)
end MC2
