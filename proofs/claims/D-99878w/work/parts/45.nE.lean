/-! reading: laws, the loop -/
theorem rdX_cOK {A : List zTk} {q q' : zCu} {c : zCd} (h : rdX A 6 q = .ok (c, q')) (h4 : q.1 ≤ 400) : cOK c ∧ q.1 + c.length ≤ q'.1 ∧ 1 ≤ c.length ∧ q'.1 ≤ 400 := by
  obtain ⟨⟨h1, h2, h3⟩, -, h5⟩ := rdX_ok A 6 _ _ _ h h4
  exact ⟨⟨h5 0, by omega⟩, h1, h2, h3⟩
theorem pV_err {α : Type} {y : zPR (α × zCu)} {e : zFt} (h : pV y = .error e) : y = .error e := by
  cases y with
  | error e' => cases h; rfl
  | ok r => cases h
theorem pV_ok {α : Type} {y : zPR (α × zCu)} {q : zCu} (h : pV y = .ok q) : ∃ a, y = .ok (a, q) := by
  cases y with
  | error e' => cases h
  | ok r => cases h; exact ⟨r.1, rfl⟩
theorem pB_pV {α β : Type} (y : zPR (α × zCu)) (f : zCu → zPR β) : pB (pV y) f = pB y (fun r => f r.2) := by cases y <;> rfl
section NE
variable {l : Launch} {E : zE} {b z : Nat} {h : Nat → Option zSh} {S : Nat → Nat → Int32} {L : Nat → Nat → Int64} {A : List zTk} {sd nb nc : Nat}
def lwG (A : List zTk) (y : zPR (List zBr3 × zCu)) : zPR (List zBr3 × zCu) := pB y (fun r => pB (pMust A 4 r.2) (fun q2 => .ok (r.1, q2)))
/-- the last branch -/
theorem tl_last {V : zV} {x1 x2 : Option Value} (hVl : V.1 = l) (hVE : V.2.1 = E) (hVd : V.2.2.1 = 5) (hM : isM h b) (hA : tkW A) (hsd : sd < 2)
    (acc : List zBr3) (q : zCu) (S1 : Nat → Nat → Int32) (c : Nat) (hC : mC b S1 L A (.ok q)) (h12 : S1 b 12 = nI 0) (hF : lwF b S S1 (130 * sd + nb) (420 * sd + nc) sd) (h39 : S1 b 39 = nI (130 * sd + nb + acc.length)) (h45 : S1 b 45 = nI (420 * sd + c)) (hnc : nc ≤ c) (hcq : c ≤ q.1) (hnb : 4 * (nb + acc.length) + 2 ≤ q.1) (hbr : brsIn b S1 (420 * sd) (420 * sd + c) (130 * sd + nb) acc) (h31 : ¬ tkK A q.1 = 31)
    (hE : ∀ e, lwG A (pLst A acc q) = .error e → ∀ S', lwF b S S' (130 * sd + nb) (420 * sd + nc) sd → mC b S' L A (.error e) → V.2.2.2.2.2.1 none (z, h, S', L))
    (hok : ∀ law q' S' c' x3, lwG A (pLst A acc q) = .ok (law, q') → lwF b S S' (130 * sd + nb) (420 * sd + nc) sd → mC b S' L A (.ok q') → S' b 12 = nI 0 → S' b 39 = nI (130 * sd + nb + law.length) → S' b 45 = nI (420 * sd + c') → nc ≤ c' → c' ≤ q'.1 → 4 * (nb + law.length) ≤ q'.1 → brsIn b S' (420 * sd) (420 * sd + c') (130 * sd + nb) law → zW V YX10_tellLaw 148 [some (.ref b), x1, x2, x3] [] (z, h, S', L) 0 0) :
      zW V YX10_tellLaw 12 [some (.ref b), x1, x2, some (.int (nI acc.length))] [] (z, h, S1, L) 0 0 := by
  have hq4 : q.1 ≤ 400 := hC.2.2.2.1
  have h13 := hC.good
  have hb : isB A 31 (.ok q) = false := decide_eq_false h31
  obtain ⟨m, hm⟩ : ∃ m, m = 130 * sd + nb + acc.length := ⟨_, rfl⟩
  rw [← hm] at h39
  refine sX10_tellLaw_12 _ _ _ _ _ ?_
  simp (disch := omega) only [oAld, oAst1, oCV, oGI, oGR, oIf, oPush, hM.1, hM.r40, hM.t40, hM.n40, h13, List.getElem?_cons_zero, List.getElem?_cons_succ, List.set_cons_zero, List.set_cons_succ, List.drop_succ_cons, List.drop_zero, List.take_succ_cons, List.take_zero, List.length_cons, List.length_nil, List.reverse_cons, List.reverse_nil, List.nil_append, List.cons_append, Option.toList_some, Option.toList_none, va_rf_s, true_and, and_true, true_implies, false_implies, not_true_eq_false, not_false_eq_true, Nat.reduceAdd, Nat.reduceLeDiff, Nat.le_add_left, Nat.zero_le, Nat.le_refl, znew, true_or, or_true, b01_t, b01_f, b01_ok, bool_ft, vp_b01, vp_b0, vp_b1, b01_eq0, b01_eq1, implies_true, nI_add, nI_clamp, zi_in, zi_le_t, zi_le_f, zi_lt_t, zi_lt_f, zi_eq_t, zi_eq_f, nI_leI, nI_ltI, nI_eq, z_in, pk_mul, zu_same, zu_rw, zu_ix, zi_ne0, zi_sub, zi_m1, Nat.add_sub_cancel, Nat.reduceMul, Nat.reduceSub]
  refine zC.of0 (zX10_is hM hA hC (by omega)) (by omega) (Nat.zero_le _) (Nat.zero_le _) ?_
  rintro _ _ ⟨rfl, rfl⟩
  refine sX10_tellLaw_25 _ _ _ _ _ ?_
  simp (disch := omega) only [oAld, oAst1, oCV, oGI, oGR, oIf, oIfc, oIld, oPush, hM.1, hM.r40, hM.t40, hM.n40, hb, h39, List.getElem?_cons_zero, List.getElem?_cons_succ, List.set_cons_zero, List.set_cons_succ, List.drop_succ_cons, List.drop_zero, List.take_succ_cons, List.take_zero, List.length_cons, List.length_nil, List.reverse_cons, List.reverse_nil, List.nil_append, List.cons_append, Option.toList_some, Option.toList_none, va_rf_s, true_and, and_true, true_implies, false_implies, not_true_eq_false, not_false_eq_true, Nat.reduceAdd, Nat.reduceLeDiff, Nat.le_add_left, Nat.zero_le, Nat.le_refl, znew, true_or, or_true, b01_t, b01_f, b01_ok, bool_ft, vp_b01, vp_b0, vp_b1, b01_eq0, b01_eq1, implies_true, nI_add, nI_clamp, zi_in, zi_le_t, zi_le_f, zi_lt_t, zi_lt_f, zi_eq_t, zi_eq_f, nI_leI, nI_ltI, nI_eq, z_in, pk_mul, zu_same, zu_rw, zu_ix, zi_ne0, zi_sub, zi_m1, Nat.add_sub_cancel, Nat.reduceMul, Nat.reduceSub]
  have hr : zfr [26] [] b S1 (zu S1 (b + 26) m (nI 0)) := zfr.rf.row (by decide) (by decide)
  have hC1 : mC b (zu S1 (b + 26) m (nI 0)) L A (.ok q) := hC.row (by omega)
  have a1 : lwF b S1 (zu S1 (b + 26) m (nI 0)) m (420 * sd + c) sd := lwF.row (by decide) (Nat.le_refl _) (by omega)
  refine zC.of0 (zX10_term hM hA hsd (by omega) hC1 (c0 := 420 * sd + c) (m := m) (by rw [hr.f rfl]; exact h45) (by omega) (by rw [hr.f rfl]; exact h39) (by omega) (fun q' e => by cases e; exact ⟨by rw [hr.f rfl]; exact h12, by omega⟩)) (by omega) (Nat.zero_le _) (Nat.zero_le _) ?_
  rintro _ _ ⟨rfl, S2, d, rfl, hl2, ⟨hrows, h29, h30, h39'⟩, hC2, hd, hok2⟩
  have hl12 := a1.tr hl2 (Nat.le_refl _) (Nat.le_refl _) (Nat.le_refl _) (Nat.le_refl _)
  rw [pB_ok] at hC2 hok2
  refine sX10_tellLaw_143 _ _ _ _ _ ?_
  simp (disch := omega) only [oAld, oCV, oPush, hM.1, List.getElem?_cons_zero, List.getElem?_cons_succ, List.set_cons_zero, List.set_cons_succ, List.drop_succ_cons, List.drop_zero, List.take_succ_cons, List.take_zero, List.length_cons, List.length_nil, List.reverse_cons, List.reverse_nil, List.nil_append, List.cons_append, Option.toList_some, Option.toList_none, va_rf_s, true_and, and_true, true_implies, false_implies, not_true_eq_false, not_false_eq_true, Nat.reduceAdd, Nat.reduceLeDiff, Nat.le_add_left, Nat.zero_le, Nat.le_refl, znew, true_or, or_true, b01_t, b01_f, b01_ok, bool_ft, vp_b01, vp_b0, vp_b1, b01_eq0, b01_eq1, implies_true, nI_add, nI_clamp, zi_in, zi_le_t, zi_le_f, zi_lt_t, zi_lt_f, zi_eq_t, zi_eq_f, nI_leI, nI_ltI, nI_eq, z_in, pk_mul, zu_same, zu_rw, zu_ix, zi_ne0, zi_sub, zi_m1, Nat.add_sub_cancel, Nat.reduceMul, Nat.reduceSub]
  refine zC.of0 (zX10_must hM hA hC2 (by omega) (by omega)) (by omega) (Nat.zero_le _) (Nat.zero_le _) ?_
  rintro _ _ ⟨rfl, S3, rfl, hf3, hC3⟩
  have hl3 : lwF b S1 S3 m (420 * sd + c) sd := hl12.tr (lwF.fl hf3 rfl (m := m) (c := 420 * sd + c)) (Nat.le_refl _) (Nat.le_refl _) (Nat.le_refl _) (Nat.le_refl _)
  have hF3 : lwF b S S3 (130 * sd + nb) (420 * sd + nc) sd := hF.tr hl3 (Nat.le_refl _) (by omega) (Nat.le_refl _) (by omega)
  have eG : lwG A (pLst A acc q) = pB (rdX A 6 q) (fun r => pB (pMust A 4 r.2) (fun q2 => .ok (acc ++ [(false, [], [], r.1)], q2))) := by rw [lwG, pLst, pB_as]; rfl
  rw [pB_pV] at hC3
  cases hx : rdX A 6 q with
  | error e =>
    rw [hx] at hC3 eG
    obtain ⟨n2, h13', hn', hn5'⟩ := mC.bad (e := e) hC3
    refine sX10_tellLaw_148 _ _ _ _ _ ?_
    simp (disch := omega) only [oAld, oAst1, oBin, oGI, oGR, oIf, oIld, oPush, oRV, hM.1, hM.r37, hM.t37, hM.n37, hM.r38, hM.t38, hM.n38, h13', List.getElem?_cons_zero, List.getElem?_cons_succ, List.set_cons_zero, List.set_cons_succ, List.drop_succ_cons, List.drop_zero, List.take_succ_cons, List.take_zero, List.length_cons, List.length_nil, List.reverse_cons, List.reverse_nil, List.nil_append, List.cons_append, Option.toList_some, Option.toList_none, va_rf_s, true_and, and_true, true_implies, false_implies, not_true_eq_false, not_false_eq_true, Nat.reduceAdd, Nat.reduceLeDiff, Nat.le_add_left, Nat.zero_le, Nat.le_refl, znew, true_or, or_true, b01_t, b01_f, b01_ok, bool_ft, vp_b01, vp_b0, vp_b1, b01_eq0, b01_eq1, implies_true, nI_add, nI_clamp, zi_in, zi_le_t, zi_le_f, zi_lt_t, zi_lt_f, zi_eq_t, zi_eq_f, nI_leI, nI_ltI, nI_eq, z_in, pk_mul, zu_same, zu_rw, zu_ix, zi_ne0, zi_sub, zi_m1, Nat.add_sub_cancel, Nat.reduceMul, Nat.reduceSub]
    exact hE e eG S3 hF3 hC3
  | ok r =>
    obtain ⟨cl, q1⟩ := r
    rw [hx, pB_ok] at hC3 eG
    obtain ⟨g1, g2, g3, g4⟩ := hok2 cl q1 hx
    obtain ⟨k1, k2, k3, k4⟩ := rdX_cOK hx hq4
    cases hm4 : pMust A 4 q1 with
    | error e =>
      have hm4' : pMust A 4 (cl, q1).2 = .error e := hm4
      rw [hm4'] at hC3 eG
      obtain ⟨n2, h13', hn', hn5'⟩ := mC.bad (e := e) hC3
      refine sX10_tellLaw_148 _ _ _ _ _ ?_
      simp (disch := omega) only [oAld, oAst1, oBin, oGI, oGR, oIf, oIld, oPush, oRV, hM.1, hM.r37, hM.t37, hM.n37, hM.r38, hM.t38, hM.n38, h13', List.getElem?_cons_zero, List.getElem?_cons_succ, List.set_cons_zero, List.set_cons_succ, List.drop_succ_cons, List.drop_zero, List.take_succ_cons, List.take_zero, List.length_cons, List.length_nil, List.reverse_cons, List.reverse_nil, List.nil_append, List.cons_append, Option.toList_some, Option.toList_none, va_rf_s, true_and, and_true, true_implies, false_implies, not_true_eq_false, not_false_eq_true, Nat.reduceAdd, Nat.reduceLeDiff, Nat.le_add_left, Nat.zero_le, Nat.le_refl, znew, true_or, or_true, b01_t, b01_f, b01_ok, bool_ft, vp_b01, vp_b0, vp_b1, b01_eq0, b01_eq1, implies_true, nI_add, nI_clamp, zi_in, zi_le_t, zi_le_f, zi_lt_t, zi_lt_f, zi_eq_t, zi_eq_f, nI_leI, nI_ltI, nI_eq, z_in, pk_mul, zu_same, zu_rw, zu_ix, zi_ne0, zi_sub, zi_m1, Nat.add_sub_cancel, Nat.reduceMul, Nat.reduceSub]
      exact hE e eG S3 hF3 hC3
    | ok q2 =>
      have hm4' : pMust A 4 (cl, q1).2 = .ok q2 := hm4
      rw [hm4'] at hC3 eG
      obtain ⟨-, hq2, hq2'⟩ := pMust_inv hm4
      have hq21 : q2.1 = q1.1 + 1 := by rw [hq2]
      have hdl : d = 420 * sd + (c + cl.length) := by omega
      refine hok (acc ++ [(false, [], [], cl)]) q2 S3 (c + cl.length) _ eG hF3 hC3 (by rw [hf3.f rfl]; exact g3) ?_ (by rw [hf3.f rfl, hd.1, hdl]) (by omega) (by omega) ?_ ?_
      · rw [hf3.f rfl, h39', List.length_append, hm]; rfl
      · rw [List.length_append]; simp; omega
      · refine brsIn.snoc (hbr.keep (by omega) (fun i i1 i2 => hl3.2.2 i (by omega)) (fun i i1 i2 o o1 o2 => hl3.2.1 o o1 o2 i (by omega))) ?_
        rw [← hm]
        refine ⟨?_, 420 * sd + c, d, fun q => absurd q (by simp), ⟨by rw [hf3.at (o := 29) rfl rfl]; exact h29, by rw [hf3.at (o := 30) rfl rfl]; exact h30⟩, by omega, ?_, by show 420 * sd + c + cl.length = d; omega, by omega, k1⟩
        · rw [hf3.at (o := 26) rfl rfl, hrows 26 (by omega) (by omega), zu_same]; rfl
        · rw [hf3.at (o := 31) rfl rfl, hf3.at (o := 32) rfl rfl]; exact g2
/-- behind a fault: a branch's end -/
theorem tl_e110 {V : zV} {e : zFt} {m c0 : Nat} {x1 x2 x3 : Option Value} (hVl : V.1 = l) (hVE : V.2.1 = E) (hVd : V.2.2.1 = 5) (hM : isM h b) (hA : tkW A) (hsd : sd < 2) (hc0 : 420 * sd ≤ c0) (hC : mC b S L A (.error e)) (h45 : S b 45 = nI c0) (hc1 : c0 ≤ 420 * sd + 420) (h39 : S b 39 = nI m) (hm : m + 1 < 130 * sd + 130)
    (hQ : ∀ S', lwF b S S' m c0 sd → mC b S' L A (.error e) → V.2.2.2.2.2.1 none (z, h, S', L)) :
    zW V YX10_tellLaw 110 [some (.ref b), x1, x2, x3] [] (z, h, S, L) 0 0 := by
  refine sX10_tellLaw_110 _ _ _ _ _ ?_
  simp (disch := omega) only [oAld, oCV, oPush, hM.1, List.getElem?_cons_zero, List.getElem?_cons_succ, List.set_cons_zero, List.set_cons_succ, List.drop_succ_cons, List.drop_zero, List.take_succ_cons, List.take_zero, List.length_cons, List.length_nil, List.reverse_cons, List.reverse_nil, List.nil_append, List.cons_append, Option.toList_some, Option.toList_none, va_rf_s, true_and, and_true, true_implies, false_implies, not_true_eq_false, not_false_eq_true, Nat.reduceAdd, Nat.reduceLeDiff, Nat.le_add_left, Nat.zero_le, Nat.le_refl, znew, true_or, or_true, b01_t, b01_f, b01_ok, bool_ft, vp_b01, vp_b0, vp_b1, b01_eq0, b01_eq1, implies_true, nI_add, nI_clamp, zi_in, zi_le_t, zi_le_f, zi_lt_t, zi_lt_f, zi_eq_t, zi_eq_f, nI_leI, nI_ltI, nI_eq, z_in, pk_mul, zu_same, zu_rw, zu_ix, zi_ne0, zi_sub, zi_m1, Nat.add_sub_cancel, Nat.reduceMul, Nat.reduceSub]
  refine zC.of0 (zX10_must hM hA hC (by omega) (by omega)) (by omega) (Nat.zero_le _) (Nat.zero_le _) ?_
  rintro _ _ ⟨rfl, S1, rfl, hf1, hC1⟩
  refine sX10_tellLaw_116 _ _ _ _ _ ?_
  simp (disch := omega) only [oAld, oCV, hM.1, List.getElem?_cons_zero, List.getElem?_cons_succ, List.set_cons_zero, List.set_cons_succ, List.drop_succ_cons, List.drop_zero, List.take_succ_cons, List.take_zero, List.length_cons, List.length_nil, List.reverse_cons, List.reverse_nil, List.nil_append, List.cons_append, Option.toList_some, Option.toList_none, va_rf_s, true_and, and_true, true_implies, false_implies, not_true_eq_false, not_false_eq_true, Nat.reduceAdd, Nat.reduceLeDiff, Nat.le_add_left, Nat.zero_le, Nat.le_refl, znew, true_or, or_true, b01_t, b01_f, b01_ok, bool_ft, vp_b01, vp_b0, vp_b1, b01_eq0, b01_eq1, implies_true, nI_add, nI_clamp, zi_in, zi_le_t, zi_le_f, zi_lt_t, zi_lt_f, zi_eq_t, zi_eq_f, nI_leI, nI_ltI, nI_eq, z_in, pk_mul, zu_same, zu_rw, zu_ix, zi_ne0, zi_sub, zi_m1, Nat.add_sub_cancel, Nat.reduceMul, Nat.reduceSub]
  refine zC.of0 (zX10_term hM hA hsd hc0 hC1 (c0 := c0) (m := m) (by rw [hf1.f rfl]; exact h45) hc1 (by rw [hf1.f rfl]; exact h39) (by omega) (fun q e => by cases e)) (by omega) (Nat.zero_le _) (Nat.zero_le _) ?_
  rintro _ _ ⟨rfl, S2, d, rfl, hl2, ⟨-, -, -, h39'⟩, hC2, hd, -⟩
  refine sX10_tellLaw_120 _ _ _ _ _ ?_
  simp (disch := omega) only [oAld, oCV, oPush, hM.1, List.getElem?_cons_zero, List.getElem?_cons_succ, List.set_cons_zero, List.set_cons_succ, List.drop_succ_cons, List.drop_zero, List.take_succ_cons, List.take_zero, List.length_cons, List.length_nil, List.reverse_cons, List.reverse_nil, List.nil_append, List.cons_append, Option.toList_some, Option.toList_none, va_rf_s, true_and, and_true, true_implies, false_implies, not_true_eq_false, not_false_eq_true, Nat.reduceAdd, Nat.reduceLeDiff, Nat.le_add_left, Nat.zero_le, Nat.le_refl, znew, true_or, or_true, b01_t, b01_f, b01_ok, bool_ft, vp_b01, vp_b0, vp_b1, b01_eq0, b01_eq1, implies_true, nI_add, nI_clamp, zi_in, zi_le_t, zi_le_f, zi_lt_t, zi_lt_f, zi_eq_t, zi_eq_f, nI_leI, nI_ltI, nI_eq, z_in, pk_mul, zu_same, zu_rw, zu_ix, zi_ne0, zi_sub, zi_m1, Nat.add_sub_cancel, Nat.reduceMul, Nat.reduceSub]
  refine zC.of0 (zX10_must hM hA hC2 (by omega) (by omega)) (by omega) (Nat.zero_le _) (Nat.zero_le _) ?_
  rintro _ _ ⟨rfl, S3, rfl, hf3, hC3⟩
  refine sX10_tellLaw_126 _ _ _ _ _ ?_
  simp (disch := omega) only [oNop, List.getElem?_cons_zero, List.getElem?_cons_succ, List.set_cons_zero, List.set_cons_succ, List.drop_succ_cons, List.drop_zero, List.take_succ_cons, List.take_zero, List.length_cons, List.length_nil, List.reverse_cons, List.reverse_nil, List.nil_append, List.cons_append, Option.toList_some, Option.toList_none, va_rf_s, true_and, and_true, true_implies, false_implies, not_true_eq_false, not_false_eq_true, Nat.reduceAdd, Nat.reduceLeDiff, Nat.le_add_left, Nat.zero_le, Nat.le_refl, znew, true_or, or_true, b01_t, b01_f, b01_ok, bool_ft, vp_b01, vp_b0, vp_b1, b01_eq0, b01_eq1, implies_true, nI_add, nI_clamp, zi_in, zi_le_t, zi_le_f, zi_lt_t, zi_lt_f, zi_eq_t, zi_eq_f, nI_leI, nI_ltI, nI_eq, z_in, pk_mul, zu_same, zu_rw, zu_ix, zi_ne0, zi_sub, zi_m1, Nat.add_sub_cancel, Nat.reduceMul, Nat.reduceSub]
  refine tl_e12 hVl hVE hVd hM hA hsd (c0 := d) (m := m + 1) (by omega) (e := e) hC3 (by rw [hf3.f rfl]; exact hd.1) hd.2.2 (by rw [hf3.f rfl]; exact h39') hm (fun S' hl' hC' => hQ S' ?_ hC')
  have a1 : lwF b S S1 m c0 sd := lwF.fl hf1 rfl
  have a3 : lwF b S2 S3 m c0 sd := lwF.fl hf3 rfl
  exact ((a1.tr hl2 (Nat.le_refl _) (Nat.le_refl _) (Nat.le_refl _) (Nat.le_refl _)).tr a3 (Nat.le_refl _) (Nat.le_refl _) (Nat.le_refl _) (Nat.le_refl _)).tr hl' (Nat.le_refl _) (by omega) (Nat.le_refl _) hd.2.1
theorem tl_loop {V : zV} {x1 x2 : Option Value} (hVl : V.1 = l) (hVE : V.2.1 = E) (hVd : V.2.2.1 = 5) (hM : isM h b) (hA : tkW A) (hsd : sd < 2)
    : ∀ (f : Nat) (acc : List zBr3) (q : zCu) (S1 : Nat → Nat → Int32) (c : Nat), acc.length + f = 4 → mC b S1 L A (.ok q) → S1 b 12 = nI 0 → lwF b S S1 (130 * sd + nb) (420 * sd + nc) sd → S1 b 39 = nI (130 * sd + nb + acc.length) → S1 b 45 = nI (420 * sd + c) → nc ≤ c → c ≤ q.1 → 4 * (nb + acc.length) + 2 ≤ q.1 → brsIn b S1 (420 * sd) (420 * sd + c) (130 * sd + nb) acc →
      (∀ e, lwG A (pLwL A f acc q) = .error e → ∀ S', lwF b S S' (130 * sd + nb) (420 * sd + nc) sd → mC b S' L A (.error e) → V.2.2.2.2.2.1 none (z, h, S', L)) →
      (∀ law q' S' c' x3, lwG A (pLwL A f acc q) = .ok (law, q') → lwF b S S' (130 * sd + nb) (420 * sd + nc) sd → mC b S' L A (.ok q') → S' b 12 = nI 0 → S' b 39 = nI (130 * sd + nb + law.length) → S' b 45 = nI (420 * sd + c') → nc ≤ c' → c' ≤ q'.1 → 4 * (nb + law.length) ≤ q'.1 → brsIn b S' (420 * sd) (420 * sd + c') (130 * sd + nb) law → zW V YX10_tellLaw 148 [some (.ref b), x1, x2, x3] [] (z, h, S', L) 0 0) →
      zW V YX10_tellLaw 12 [some (.ref b), x1, x2, some (.int (nI acc.length))] [] (z, h, S1, L) 0 0 := by
  intro f
  induction f with
  | zero =>
    intro acc q S1 c hacc hC h12 hF h39 h45 hnc hcq hnb hbr hE hok
    have hq4 : q.1 ≤ 400 := hC.2.2.2.1
    have h13 := hC.good
    by_cases h31 : tkK A q.1 = 31
    · have hb : isB A 31 (.ok q) = true := decide_eq_true h31
      refine sX10_tellLaw_12 _ _ _ _ _ ?_
      simp (disch := omega) only [oAld, oAst1, oCV, oGI, oGR, oIf, oPush, hM.1, hM.r40, hM.t40, hM.n40, h13, List.getElem?_cons_zero, List.getElem?_cons_succ, List.set_cons_zero, List.set_cons_succ, List.drop_succ_cons, List.drop_zero, List.take_succ_cons, List.take_zero, List.length_cons, List.length_nil, List.reverse_cons, List.reverse_nil, List.nil_append, List.cons_append, Option.toList_some, Option.toList_none, va_rf_s, true_and, and_true, true_implies, false_implies, not_true_eq_false, not_false_eq_true, Nat.reduceAdd, Nat.reduceLeDiff, Nat.le_add_left, Nat.zero_le, Nat.le_refl, znew, true_or, or_true, b01_t, b01_f, b01_ok, bool_ft, vp_b01, vp_b0, vp_b1, b01_eq0, b01_eq1, implies_true, nI_add, nI_clamp, zi_in, zi_le_t, zi_le_f, zi_lt_t, zi_lt_f, zi_eq_t, zi_eq_f, nI_leI, nI_ltI, nI_eq, z_in, pk_mul, zu_same, zu_rw, zu_ix, zi_ne0, zi_sub, zi_m1, Nat.add_sub_cancel, Nat.reduceMul, Nat.reduceSub]
      refine zC.of0 (zX10_is hM hA hC (by omega)) (by omega) (Nat.zero_le _) (Nat.zero_le _) ?_
      rintro _ _ ⟨rfl, rfl⟩
      refine sX10_tellLaw_25 _ _ _ _ _ ?_
      simp (disch := omega) only [oAld, oAst1, oCV, oGI, oGR, oIf, oIfc, oIld, oPush, hM.1, hM.r40, hM.t40, hM.n40, hb, List.getElem?_cons_zero, List.getElem?_cons_succ, List.set_cons_zero, List.set_cons_succ, List.drop_succ_cons, List.drop_zero, List.take_succ_cons, List.take_zero, List.length_cons, List.length_nil, List.reverse_cons, List.reverse_nil, List.nil_append, List.cons_append, Option.toList_some, Option.toList_none, va_rf_s, true_and, and_true, true_implies, false_implies, not_true_eq_false, not_false_eq_true, Nat.reduceAdd, Nat.reduceLeDiff, Nat.le_add_left, Nat.zero_le, Nat.le_refl, znew, true_or, or_true, b01_t, b01_f, b01_ok, bool_ft, vp_b01, vp_b0, vp_b1, b01_eq0, b01_eq1, implies_true, nI_add, nI_clamp, zi_in, zi_le_t, zi_le_f, zi_lt_t, zi_lt_f, zi_eq_t, zi_eq_f, nI_leI, nI_ltI, nI_eq, z_in, pk_mul, zu_same, zu_rw, zu_ix, zi_ne0, zi_sub, zi_m1, Nat.add_sub_cancel, Nat.reduceMul, Nat.reduceSub]
      refine zC.of0 (zX10_fail hM hC (by omega) (by omega)) (by omega) (Nat.zero_le _) (Nat.zero_le _) ?_
      rintro _ _ ⟨rfl, S2, rfl, hf2, hC2⟩
      obtain ⟨n2, h13', hn', hn5'⟩ := mC.bad (e := (2, tkP A q.1)) hC2
      refine sX10_tellLaw_38 _ _ _ _ _ ?_
      simp (disch := omega) only [oAld, oCV, oGI, oIf, oInc, oRV, hM.1, h13', List.getElem?_cons_zero, List.getElem?_cons_succ, List.set_cons_zero, List.set_cons_succ, List.drop_succ_cons, List.drop_zero, List.take_succ_cons, List.take_zero, List.length_cons, List.length_nil, List.reverse_cons, List.reverse_nil, List.nil_append, List.cons_append, Option.toList_some, Option.toList_none, va_rf_s, true_and, and_true, true_implies, false_implies, not_true_eq_false, not_false_eq_true, Nat.reduceAdd, Nat.reduceLeDiff, Nat.le_add_left, Nat.zero_le, Nat.le_refl, znew, true_or, or_true, b01_t, b01_f, b01_ok, bool_ft, vp_b01, vp_b0, vp_b1, b01_eq0, b01_eq1, implies_true, nI_add, nI_clamp, zi_in, zi_le_t, zi_le_f, zi_lt_t, zi_lt_f, zi_eq_t, zi_eq_f, nI_leI, nI_ltI, nI_eq, z_in, pk_mul, zu_same, zu_rw, zu_ix, zi_ne0, zi_sub, zi_m1, Nat.add_sub_cancel, Nat.reduceMul, Nat.reduceSub]
      refine hE (2, tkP A q.1) (by rw [lwG, pLwL, if_pos h31]; rfl) S2 (hF.tr (lwF.fl hf2 rfl (m := 130 * sd + nb) (c := 420 * sd + nc)) (Nat.le_refl _) (Nat.le_refl _) (Nat.le_refl _) (Nat.le_refl _)) hC2
    · have e1 : pLwL A 0 acc q = pLst A acc q := by rw [pLwL, if_neg h31]
      rw [e1] at hE hok
      exact tl_last hVl hVE hVd hM hA hsd acc q S1 c hC h12 hF h39 h45 hnc hcq hnb hbr h31 hE hok
  | succ f ih =>
    intro acc q S1 c hacc hC h12 hF h39 h45 hnc hcq hnb hbr hE hok
    have hq4 : q.1 ≤ 400 := hC.2.2.2.1
    have h13 := hC.good
    by_cases h31 : tkK A q.1 = 31
    · have e1 : pLwL A (f + 1) acc q = pB (pGo A q) (fun q1 => pB (rdX A 6 q1) (fun r1 => pB (pMust A 13 r1.2) (fun q2 => pB (rdX A 6 q2) (fun r2 => pB (pMust A 32 r2.2) (fun q3 => pB (rdX A 6 q3) (fun r3 => pB (pMust A 33 r3.2) (fun q4 => pLwL A f (acc ++ [(true, r1.1, r2.1, r3.1)]) q4))))))) := by rw [pLwL, if_pos h31]
      rw [e1] at hE hok
      have hb : isB A 31 (.ok q) = true := decide_eq_true h31
      obtain ⟨m, hm⟩ : ∃ m, m = 130 * sd + nb + acc.length := ⟨_, rfl⟩
      rw [← hm] at h39
      obtain ⟨c0, hc0⟩ : ∃ c0, c0 = 420 * sd + c := ⟨_, rfl⟩
      rw [← hc0] at h45 hbr
      refine sX10_tellLaw_12 _ _ _ _ _ ?_
      simp (disch := omega) only [oAld, oAst1, oCV, oGI, oGR, oIf, oPush, hM.1, hM.r40, hM.t40, hM.n40, h13, List.getElem?_cons_zero, List.getElem?_cons_succ, List.set_cons_zero, List.set_cons_succ, List.drop_succ_cons, List.drop_zero, List.take_succ_cons, List.take_zero, List.length_cons, List.length_nil, List.reverse_cons, List.reverse_nil, List.nil_append, List.cons_append, Option.toList_some, Option.toList_none, va_rf_s, true_and, and_true, true_implies, false_implies, not_true_eq_false, not_false_eq_true, Nat.reduceAdd, Nat.reduceLeDiff, Nat.le_add_left, Nat.zero_le, Nat.le_refl, znew, true_or, or_true, b01_t, b01_f, b01_ok, bool_ft, vp_b01, vp_b0, vp_b1, b01_eq0, b01_eq1, implies_true, nI_add, nI_clamp, zi_in, zi_le_t, zi_le_f, zi_lt_t, zi_lt_f, zi_eq_t, zi_eq_f, nI_leI, nI_ltI, nI_eq, z_in, pk_mul, zu_same, zu_rw, zu_ix, zi_ne0, zi_sub, zi_m1, Nat.add_sub_cancel, Nat.reduceMul, Nat.reduceSub]
      refine zC.of0 (zX10_is hM hA hC (by omega)) (by omega) (Nat.zero_le _) (Nat.zero_le _) ?_
      rintro _ _ ⟨rfl, rfl⟩
      refine sX10_tellLaw_25 _ _ _ _ _ ?_
      simp (disch := omega) only [oAld, oAst1, oCV, oGI, oGR, oIf, oIfc, oIld, oPush, hM.1, hM.r40, hM.t40, hM.n40, hb, List.getElem?_cons_zero, List.getElem?_cons_succ, List.set_cons_zero, List.set_cons_succ, List.drop_succ_cons, List.drop_zero, List.take_succ_cons, List.take_zero, List.length_cons, List.length_nil, List.reverse_cons, List.reverse_nil, List.nil_append, List.cons_append, Option.toList_some, Option.toList_none, va_rf_s, true_and, and_true, true_implies, false_implies, not_true_eq_false, not_false_eq_true, Nat.reduceAdd, Nat.reduceLeDiff, Nat.le_add_left, Nat.zero_le, Nat.le_refl, znew, true_or, or_true, b01_t, b01_f, b01_ok, bool_ft, vp_b01, vp_b0, vp_b1, b01_eq0, b01_eq1, implies_true, nI_add, nI_clamp, zi_in, zi_le_t, zi_le_f, zi_lt_t, zi_lt_f, zi_eq_t, zi_eq_f, nI_leI, nI_ltI, nI_eq, z_in, pk_mul, zu_same, zu_rw, zu_ix, zi_ne0, zi_sub, zi_m1, Nat.add_sub_cancel, Nat.reduceMul, Nat.reduceSub]
      refine sX10_tellLaw_38 _ _ _ _ _ ?_
      simp (disch := omega) only [oAld, oCV, oGI, oIf, oInc, oRV, hM.1, h13, List.getElem?_cons_zero, List.getElem?_cons_succ, List.set_cons_zero, List.set_cons_succ, List.drop_succ_cons, List.drop_zero, List.take_succ_cons, List.take_zero, List.length_cons, List.length_nil, List.reverse_cons, List.reverse_nil, List.nil_append, List.cons_append, Option.toList_some, Option.toList_none, va_rf_s, true_and, and_true, true_implies, false_implies, not_true_eq_false, not_false_eq_true, Nat.reduceAdd, Nat.reduceLeDiff, Nat.le_add_left, Nat.zero_le, Nat.le_refl, znew, true_or, or_true, b01_t, b01_f, b01_ok, bool_ft, vp_b01, vp_b0, vp_b1, b01_eq0, b01_eq1, implies_true, nI_add, nI_clamp, zi_in, zi_le_t, zi_le_f, zi_lt_t, zi_lt_f, zi_eq_t, zi_eq_f, nI_leI, nI_ltI, nI_eq, z_in, pk_mul, zu_same, zu_rw, zu_ix, zi_ne0, zi_sub, zi_m1, Nat.add_sub_cancel, Nat.reduceMul, Nat.reduceSub]
      refine zC.of0 (zX10_goesOn hM hA hC (fun q' e => by cases e; omega)) (by omega) (Nat.zero_le _) (Nat.zero_le _) ?_
      rintro _ _ ⟨rfl, S2, rfl, hf2, hC2⟩
      rw [pB_ok] at hC2
      have h39a : S2 b 39 = nI m := by rw [hf2.f rfl]; exact h39
      have h45a : S2 b 45 = nI c0 := by rw [hf2.f rfl]; exact h45
      have h12a : S2 b 12 = nI 0 := by rw [hf2.f rfl]; exact h12
      have l2 : lwF b S1 S2 m c0 sd := lwF.fl hf2 rfl
      refine sX10_tellLaw_53 _ _ _ _ _ ?_
      simp (disch := omega) only [oAld, oAst1, oCV, oGI, oGR, oPush, hM.1, hM.r40, hM.t40, hM.n40, hM.r41, hM.t41, hM.n41, h39a, h45a, List.getElem?_cons_zero, List.getElem?_cons_succ, List.set_cons_zero, List.set_cons_succ, List.drop_succ_cons, List.drop_zero, List.take_succ_cons, List.take_zero, List.length_cons, List.length_nil, List.reverse_cons, List.reverse_nil, List.nil_append, List.cons_append, Option.toList_some, Option.toList_none, va_rf_s, true_and, and_true, true_implies, false_implies, not_true_eq_false, not_false_eq_true, Nat.reduceAdd, Nat.reduceLeDiff, Nat.le_add_left, Nat.zero_le, Nat.le_refl, znew, true_or, or_true, b01_t, b01_f, b01_ok, bool_ft, vp_b01, vp_b0, vp_b1, b01_eq0, b01_eq1, implies_true, nI_add, nI_clamp, zi_in, zi_le_t, zi_le_f, zi_lt_t, zi_lt_f, zi_eq_t, zi_eq_f, nI_leI, nI_ltI, nI_eq, z_in, pk_mul, zu_same, zu_rw, zu_ix, zi_ne0, zi_sub, zi_m1, Nat.add_sub_cancel, Nat.reduceMul, Nat.reduceSub]
      have hr3 : zfr [26, 27] [] b S2 (zu (zu S2 (b + 26) m (nI 1)) (b + 27) m (nI c0)) := (zfr.rf.row (by decide) (by decide)).row (by decide) (by decide)
      have e26 : zu (zu S2 (b + 26) m (nI 1)) (b + 27) m (nI c0) (b + 26) m = nI 1 := by simp (disch := omega) only [List.getElem?_cons_zero, List.getElem?_cons_succ, List.set_cons_zero, List.set_cons_succ, List.drop_succ_cons, List.drop_zero, List.take_succ_cons, List.take_zero, List.length_cons, List.length_nil, List.reverse_cons, List.reverse_nil, List.nil_append, List.cons_append, Option.toList_some, Option.toList_none, va_rf_s, true_and, and_true, true_implies, false_implies, not_true_eq_false, not_false_eq_true, Nat.reduceAdd, Nat.reduceLeDiff, Nat.le_add_left, Nat.zero_le, Nat.le_refl, znew, true_or, or_true, b01_t, b01_f, b01_ok, bool_ft, vp_b01, vp_b0, vp_b1, b01_eq0, b01_eq1, implies_true, nI_add, nI_clamp, zi_in, zi_le_t, zi_le_f, zi_lt_t, zi_lt_f, zi_eq_t, zi_eq_f, nI_leI, nI_ltI, nI_eq, z_in, pk_mul, zu_same, zu_rw, zu_ix, zi_ne0, zi_sub, zi_m1, Nat.add_sub_cancel, Nat.reduceMul, Nat.reduceSub, ]
      have e27 : zu (zu S2 (b + 26) m (nI 1)) (b + 27) m (nI c0) (b + 27) m = nI c0 := by simp (disch := omega) only [List.getElem?_cons_zero, List.getElem?_cons_succ, List.set_cons_zero, List.set_cons_succ, List.drop_succ_cons, List.drop_zero, List.take_succ_cons, List.take_zero, List.length_cons, List.length_nil, List.reverse_cons, List.reverse_nil, List.nil_append, List.cons_append, Option.toList_some, Option.toList_none, va_rf_s, true_and, and_true, true_implies, false_implies, not_true_eq_false, not_false_eq_true, Nat.reduceAdd, Nat.reduceLeDiff, Nat.le_add_left, Nat.zero_le, Nat.le_refl, znew, true_or, or_true, b01_t, b01_f, b01_ok, bool_ft, vp_b01, vp_b0, vp_b1, b01_eq0, b01_eq1, implies_true, nI_add, nI_clamp, zi_in, zi_le_t, zi_le_f, zi_lt_t, zi_lt_f, zi_eq_t, zi_eq_f, nI_leI, nI_ltI, nI_eq, z_in, pk_mul, zu_same, zu_rw, zu_ix, zi_ne0, zi_sub, zi_m1, Nat.add_sub_cancel, Nat.reduceMul, Nat.reduceSub, ]
      have l3 : lwF b S1 (zu (zu S2 (b + 26) m (nI 1)) (b + 27) m (nI c0)) m c0 sd := (l2.tr (lwF.row (by decide) (Nat.le_refl _) (by omega) (m := m) (c := c0)) (Nat.le_refl _) (Nat.le_refl _) (Nat.le_refl _) (Nat.le_refl _)).tr (lwF.row (by decide) (Nat.le_refl _) (by omega) (m := m) (c := c0)) (Nat.le_refl _) (Nat.le_refl _) (Nat.le_refl _) (Nat.le_refl _)
      have hC3 : mC b (zu (zu S2 (b + 26) m (nI 1)) (b + 27) m (nI c0)) L A (pGo A q) := (hC2.row (by omega)).row (by omega)
      generalize zu (zu S2 (b + 26) m (nI 1)) (b + 27) m (nI c0) = S3 at hr3 e26 e27 l3 hC3 ⊢
      have h39b : S3 b 39 = nI m := by rw [hr3.f rfl]; exact h39a
      refine zC.of0 (zX10_expression hM hA hsd (c0 := c0) (by omega) hC3 (by rw [hr3.f rfl]; exact h45a) (by omega) (fun q' e => ⟨by rw [hr3.f rfl]; exact h12a, by have := (pGo_inv e).1; rw [this]; show c0 ≤ 420 * sd + (q.1 + 1); omega⟩)) (by omega) (Nat.zero_le _) (Nat.zero_le _) ?_
      rintro _ _ ⟨rfl, S4, d1, rfl, hx4, hC4, hd1, hok1⟩
      refine sX10_tellLaw_80 _ _ _ _ _ ?_
      simp (disch := omega) only [oAld, oCV, oPush, hM.1, List.getElem?_cons_zero, List.getElem?_cons_succ, List.set_cons_zero, List.set_cons_succ, List.drop_succ_cons, List.drop_zero, List.take_succ_cons, List.take_zero, List.length_cons, List.length_nil, List.reverse_cons, List.reverse_nil, List.nil_append, List.cons_append, Option.toList_some, Option.toList_none, va_rf_s, true_and, and_true, true_implies, false_implies, not_true_eq_false, not_false_eq_true, Nat.reduceAdd, Nat.reduceLeDiff, Nat.le_add_left, Nat.zero_le, Nat.le_refl, znew, true_or, or_true, b01_t, b01_f, b01_ok, bool_ft, vp_b01, vp_b0, vp_b1, b01_eq0, b01_eq1, implies_true, nI_add, nI_clamp, zi_in, zi_le_t, zi_le_f, zi_lt_t, zi_lt_f, zi_eq_t, zi_eq_f, nI_leI, nI_ltI, nI_eq, z_in, pk_mul, zu_same, zu_rw, zu_ix, zi_ne0, zi_sub, zi_m1, Nat.add_sub_cancel, Nat.reduceMul, Nat.reduceSub]
      refine zC.of0 (zX10_must hM hA hC4 (by omega) (by omega)) (by omega) (Nat.zero_le _) (Nat.zero_le _) ?_
      rintro _ _ ⟨rfl, S5, rfl, hf5, hC5⟩
      have l5 : lwF b S1 S5 m c0 sd := (l3.tr (lwF.ex hx4 (Nat.le_refl _)) (Nat.le_refl _) (Nat.le_refl _) (Nat.le_refl _) (Nat.le_refl _)).tr (lwF.fl hf5 rfl (m := m) (c := c0)) (Nat.le_refl _) (Nat.le_refl _) (Nat.le_refl _) (Nat.le_refl _)
      have h39c : S5 b 39 = nI m := by rw [hf5.f rfl, hx4.1.f rfl]; exact h39b
      have h45c : S5 b 45 = nI d1 := by rw [hf5.f rfl]; exact hd1.1
      rw [pB_pV, pB_as] at hC5
      have l6 : lwF b S1 (zu S5 (b + 28) m (nI d1)) m c0 sd := l5.tr (lwF.row (by decide) (Nat.le_refl _) (by omega) (m := m) (c := c0)) (Nat.le_refl _) (Nat.le_refl _) (Nat.le_refl _) (Nat.le_refl _)
      have hr6 : zfr [28] [] b S5 (zu S5 (b + 28) m (nI d1)) := zfr.rf.row (by decide) (by decide)
      have hC6 : mC b (zu S5 (b + 28) m (nI d1)) L A (pB (pGo A q) (fun a => pB (rdX A 6 a) (fun r => pMust A 13 r.2))) := hC5.row (by omega)
      cases hst3 : pB (pGo A q) (fun a => pB (rdX A 6 a) (fun r => pMust A 13 r.2)) with
      | error e =>
        rw [hst3] at hC5 hC6
        obtain ⟨n2, h13', hn', hn5'⟩ := mC.bad (e := e) hC5
        refine sX10_tellLaw_86 _ _ _ _ _ ?_
        simp (disch := omega) only [oAld, oAst1, oCV, oGI, oGR, oIf, hM.1, hM.r42, hM.t42, hM.n42, h39c, h45c, h13', List.getElem?_cons_zero, List.getElem?_cons_succ, List.set_cons_zero, List.set_cons_succ, List.drop_succ_cons, List.drop_zero, List.take_succ_cons, List.take_zero, List.length_cons, List.length_nil, List.reverse_cons, List.reverse_nil, List.nil_append, List.cons_append, Option.toList_some, Option.toList_none, va_rf_s, true_and, and_true, true_implies, false_implies, not_true_eq_false, not_false_eq_true, Nat.reduceAdd, Nat.reduceLeDiff, Nat.le_add_left, Nat.zero_le, Nat.le_refl, znew, true_or, or_true, b01_t, b01_f, b01_ok, bool_ft, vp_b01, vp_b0, vp_b1, b01_eq0, b01_eq1, implies_true, nI_add, nI_clamp, zi_in, zi_le_t, zi_le_f, zi_lt_t, zi_lt_f, zi_eq_t, zi_eq_f, nI_leI, nI_ltI, nI_eq, z_in, pk_mul, zu_same, zu_rw, zu_ix, zi_ne0, zi_sub, zi_m1, Nat.add_sub_cancel, Nat.reduceMul, Nat.reduceSub]
        refine tl_e110 hVl hVE hVd hM hA hsd (c0 := d1) (m := m) (by omega) hC6 (by rw [hr6.f rfl]; exact h45c) hd1.2.2 (by rw [hr6.f rfl]; exact h39c) (by omega) (fun S' hl' hC' => hE e ?_ S' (hF.tr (l6.tr hl' (m := m) (c := c0) (Nat.le_refl _) (Nat.le_refl _) (Nat.le_refl _) hd1.2.1) (Nat.le_refl _) (by omega) (Nat.le_refl _) (by omega)) hC')
        cases hg : pGo A q with
        | error e' => rw [hg] at hst3; cases hst3; rfl
        | ok q1 =>
          rw [hg, pB_ok] at hst3
          rw [pB_ok]
          cases hx : rdX A 6 q1 with
          | error e' => rw [hx] at hst3; cases hst3; rfl
          | ok r1 =>
            rw [hx, pB_ok] at hst3
            rw [pB_ok, hst3]; rfl
      | ok q2 =>
        rw [hst3] at hC5 hC6
        have h13' := mC.good (q := q2) hC5
        obtain ⟨q1, hg, hst3⟩ := pB_inv hst3
        obtain ⟨⟨c1, q1'⟩, hx1, hm1⟩ := pB_inv hst3
        obtain ⟨hq1, hqn⟩ := pGo_inv hg
        have hq11 : q1.1 = q.1 + 1 := by rw [hq1]
        obtain ⟨g1, g2, g3, g4⟩ := hok1 c1 q1' (by rw [hg]; exact hx1)
        obtain ⟨k1, k2, k3, k4⟩ := rdX_cOK hx1 (by omega)
        obtain ⟨-, hq2, hq2n⟩ := pMust_inv hm1
        have hq21 : q2.1 = q1'.1 + 1 := by rw [hq2]
        rw [hg, pB_ok, hx1, pB_ok, hm1, pB_ok] at hE hok
        have hq24 : q2.1 ≤ 400 := hC5.2.2.2.1
        refine sX10_tellLaw_86 _ _ _ _ _ ?_
        simp (disch := omega) only [oAld, oAst1, oCV, oGI, oGR, oIf, hM.1, hM.r42, hM.t42, hM.n42, h39c, h45c, h13', List.getElem?_cons_zero, List.getElem?_cons_succ, List.set_cons_zero, List.set_cons_succ, List.drop_succ_cons, List.drop_zero, List.take_succ_cons, List.take_zero, List.length_cons, List.length_nil, List.reverse_cons, List.reverse_nil, List.nil_append, List.cons_append, Option.toList_some, Option.toList_none, va_rf_s, true_and, and_true, true_implies, false_implies, not_true_eq_false, not_false_eq_true, Nat.reduceAdd, Nat.reduceLeDiff, Nat.le_add_left, Nat.zero_le, Nat.le_refl, znew, true_or, or_true, b01_t, b01_f, b01_ok, bool_ft, vp_b01, vp_b0, vp_b1, b01_eq0, b01_eq1, implies_true, nI_add, nI_clamp, zi_in, zi_le_t, zi_le_f, zi_lt_t, zi_lt_f, zi_eq_t, zi_eq_f, nI_leI, nI_ltI, nI_eq, z_in, pk_mul, zu_same, zu_rw, zu_ix, zi_ne0, zi_sub, zi_m1, Nat.add_sub_cancel, Nat.reduceMul, Nat.reduceSub]
        have e28 : zu S5 (b + 28) m (nI d1) (b + 28) m = nI d1 := zu_same _ _ _ _
        have e26b : zu S5 (b + 28) m (nI d1) (b + 26) m = nI 1 := by rw [hr6.at (o := 26) rfl rfl, hf5.at (o := 26) rfl rfl, hx4.1.at (o := 26) rfl rfl]; exact e26
        have e27b : zu S5 (b + 28) m (nI d1) (b + 27) m = nI c0 := by rw [hr6.at (o := 27) rfl rfl, hf5.at (o := 27) rfl rfl, hx4.1.at (o := 27) rfl rfl]; exact e27
        have ca1 : codeAt (zu S5 (b + 28) m (nI d1) (b + 31)) (zu S5 (b + 28) m (nI d1) (b + 32)) c0 c1 := by rw [hr6.at (o := 31) rfl rfl, hr6.at (o := 32) rfl rfl, hf5.at (o := 31) rfl rfl, hf5.at (o := 32) rfl rfl]; exact g2
        have h12b : zu S5 (b + 28) m (nI d1) b 12 = nI 0 := by rw [hr6.f rfl, hf5.f rfl]; exact g3
        have h39d : zu S5 (b + 28) m (nI d1) b 39 = nI m := by rw [hr6.f rfl]; exact h39c
        have h45d : zu S5 (b + 28) m (nI d1) b 45 = nI d1 := by rw [hr6.f rfl]; exact h45c
        generalize zu S5 (b + 28) m (nI d1) = S6 at l6 hC6 e28 e26b e27b ca1 h12b h39d h45d ⊢
        refine zC.of0 (zX10_expression hM hA hsd (c0 := d1) (by omega) hC6 h45d (by omega) (fun q' e => by cases e; exact ⟨h12b, by omega⟩)) (by omega) (Nat.zero_le _) (Nat.zero_le _) ?_
        rintro _ _ ⟨rfl, S7, d2, rfl, hx7, hC7, hd2, hokb⟩
        rw [pB_ok] at hC7 hokb
        refine sX10_tellLaw_110 _ _ _ _ _ ?_
        simp (disch := omega) only [oAld, oCV, oPush, hM.1, List.getElem?_cons_zero, List.getElem?_cons_succ, List.set_cons_zero, List.set_cons_succ, List.drop_succ_cons, List.drop_zero, List.take_succ_cons, List.take_zero, List.length_cons, List.length_nil, List.reverse_cons, List.reverse_nil, List.nil_append, List.cons_append, Option.toList_some, Option.toList_none, va_rf_s, true_and, and_true, true_implies, false_implies, not_true_eq_false, not_false_eq_true, Nat.reduceAdd, Nat.reduceLeDiff, Nat.le_add_left, Nat.zero_le, Nat.le_refl, znew, true_or, or_true, b01_t, b01_f, b01_ok, bool_ft, vp_b01, vp_b0, vp_b1, b01_eq0, b01_eq1, implies_true, nI_add, nI_clamp, zi_in, zi_le_t, zi_le_f, zi_lt_t, zi_lt_f, zi_eq_t, zi_eq_f, nI_leI, nI_ltI, nI_eq, z_in, pk_mul, zu_same, zu_rw, zu_ix, zi_ne0, zi_sub, zi_m1, Nat.add_sub_cancel, Nat.reduceMul, Nat.reduceSub]
        refine zC.of0 (zX10_must hM hA hC7 (by omega) (by omega)) (by omega) (Nat.zero_le _) (Nat.zero_le _) ?_
        rintro _ _ ⟨rfl, S8, rfl, hf8, hC8⟩
        rw [pB_pV] at hC8
        refine sX10_tellLaw_116 _ _ _ _ _ ?_
        simp (disch := omega) only [oAld, oCV, hM.1, List.getElem?_cons_zero, List.getElem?_cons_succ, List.set_cons_zero, List.set_cons_succ, List.drop_succ_cons, List.drop_zero, List.take_succ_cons, List.take_zero, List.length_cons, List.length_nil, List.reverse_cons, List.reverse_nil, List.nil_append, List.cons_append, Option.toList_some, Option.toList_none, va_rf_s, true_and, and_true, true_implies, false_implies, not_true_eq_false, not_false_eq_true, Nat.reduceAdd, Nat.reduceLeDiff, Nat.le_add_left, Nat.zero_le, Nat.le_refl, znew, true_or, or_true, b01_t, b01_f, b01_ok, bool_ft, vp_b01, vp_b0, vp_b1, b01_eq0, b01_eq1, implies_true, nI_add, nI_clamp, zi_in, zi_le_t, zi_le_f, zi_lt_t, zi_lt_f, zi_eq_t, zi_eq_f, nI_leI, nI_ltI, nI_eq, z_in, pk_mul, zu_same, zu_rw, zu_ix, zi_ne0, zi_sub, zi_m1, Nat.add_sub_cancel, Nat.reduceMul, Nat.reduceSub]
        have l8 : lwF b S1 S8 m c0 sd := (l6.tr (lwF.ex hx7 hd1.2.1 (m := m)) (Nat.le_refl _) (Nat.le_refl _) (Nat.le_refl _) (Nat.le_refl _)).tr (lwF.fl hf8 rfl (m := m) (c := c0)) (Nat.le_refl _) (Nat.le_refl _) (Nat.le_refl _) (Nat.le_refl _)
        have hpre : ∀ q', (pB (rdX A 6 q2) fun r => pMust A 32 r.2) = .ok q' → S8 b 12 = nI 0 ∧ d2 ≤ 420 * sd + q'.1 := by
          intro q' e
          obtain ⟨⟨c2, q2'⟩, hx2, hm2⟩ := pB_inv e
          obtain ⟨w1, w2, w3, w4⟩ := hokb c2 q2' hx2
          obtain ⟨-, hq3, -⟩ := pMust_inv hm2
          refine ⟨by rw [hf8.f rfl]; exact w3, ?_⟩
          have : q'.1 = q2'.1 + 1 := by rw [hq3]
          omega
        refine zC.of0 (zX10_term hM hA hsd (c0 := d2) (m := m) (by omega) hC8 (by rw [hf8.f rfl]; exact hd2.1) hd2.2.2 (by rw [hf8.f rfl, hx7.1.f rfl]; exact h39d) (by omega) hpre) (by omega) (Nat.zero_le _) (Nat.zero_le _) ?_
        rintro _ _ ⟨rfl, S9, d3, rfl, hl9, ⟨hrows, h29, h30, h39e⟩, hC9, hd3, hokc⟩
        refine sX10_tellLaw_120 _ _ _ _ _ ?_
        simp (disch := omega) only [oAld, oCV, oPush, hM.1, List.getElem?_cons_zero, List.getElem?_cons_succ, List.set_cons_zero, List.set_cons_succ, List.drop_succ_cons, List.drop_zero, List.take_succ_cons, List.take_zero, List.length_cons, List.length_nil, List.reverse_cons, List.reverse_nil, List.nil_append, List.cons_append, Option.toList_some, Option.toList_none, va_rf_s, true_and, and_true, true_implies, false_implies, not_true_eq_false, not_false_eq_true, Nat.reduceAdd, Nat.reduceLeDiff, Nat.le_add_left, Nat.zero_le, Nat.le_refl, znew, true_or, or_true, b01_t, b01_f, b01_ok, bool_ft, vp_b01, vp_b0, vp_b1, b01_eq0, b01_eq1, implies_true, nI_add, nI_clamp, zi_in, zi_le_t, zi_le_f, zi_lt_t, zi_lt_f, zi_eq_t, zi_eq_f, nI_leI, nI_ltI, nI_eq, z_in, pk_mul, zu_same, zu_rw, zu_ix, zi_ne0, zi_sub, zi_m1, Nat.add_sub_cancel, Nat.reduceMul, Nat.reduceSub]
        refine zC.of0 (zX10_must hM hA hC9 (by omega) (by omega)) (by omega) (Nat.zero_le _) (Nat.zero_le _) ?_
        rintro _ _ ⟨rfl, S10, rfl, hf10, hC10⟩
        rw [pB_pV, pB_as, pB_as] at hC10
        have l10 : lwF b S1 S10 m c0 sd := (l8.tr hl9 (Nat.le_refl _) (Nat.le_refl _) (Nat.le_refl _) (by omega)).tr (lwF.fl hf10 rfl (m := m) (c := c0)) (Nat.le_refl _) (Nat.le_refl _) (Nat.le_refl _) (Nat.le_refl _)
        have h39f : S10 b 39 = nI (m + 1) := by rw [hf10.f rfl]; exact h39e
        have h45f : S10 b 45 = nI d3 := by rw [hf10.f rfl]; exact hd3.1
        refine sX10_tellLaw_126 _ _ _ _ _ ?_
        simp (disch := omega) only [oNop, List.getElem?_cons_zero, List.getElem?_cons_succ, List.set_cons_zero, List.set_cons_succ, List.drop_succ_cons, List.drop_zero, List.take_succ_cons, List.take_zero, List.length_cons, List.length_nil, List.reverse_cons, List.reverse_nil, List.nil_append, List.cons_append, Option.toList_some, Option.toList_none, va_rf_s, true_and, and_true, true_implies, false_implies, not_true_eq_false, not_false_eq_true, Nat.reduceAdd, Nat.reduceLeDiff, Nat.le_add_left, Nat.zero_le, Nat.le_refl, znew, true_or, or_true, b01_t, b01_f, b01_ok, bool_ft, vp_b01, vp_b0, vp_b1, b01_eq0, b01_eq1, implies_true, nI_add, nI_clamp, zi_in, zi_le_t, zi_le_f, zi_lt_t, zi_lt_f, zi_eq_t, zi_eq_f, nI_leI, nI_ltI, nI_eq, z_in, pk_mul, zu_same, zu_rw, zu_ix, zi_ne0, zi_sub, zi_m1, Nat.add_sub_cancel, Nat.reduceMul, Nat.reduceSub]
        have bad : ∀ e x3, mC b S10 L A (.error e) → lwG A (pB (rdX A 6 q2) (fun r2 => pB (pMust A 32 r2.2) (fun q3 => pB (rdX A 6 q3) (fun r3 => pB (pMust A 33 r3.2) (fun q4 => pLwL A f (acc ++ [(true, c1, r2.1, r3.1)]) q4))))) = .error e → zW V YX10_tellLaw 12 [some (.ref b), x1, x2, x3] [] (z, h, S10, L) 0 0 := by
          intro e x3 hCe hee
          exact tl_e12 hVl hVE hVd hM hA hsd (c0 := d3) (m := m + 1) (by omega) (e := e) hCe h45f hd3.2.2 h39f (by omega) (fun S' hl' hC' => hE e hee S' (hF.tr (l10.tr hl' (m := m) (c := c0) (Nat.le_refl _) (by omega) (Nat.le_refl _) (by omega)) (Nat.le_refl _) (by omega) (Nat.le_refl _) (by omega)) hC')
        cases hx2 : rdX A 6 q2 with
        | error e =>
          rw [hx2] at hC10
          exact bad e _ hC10 (by rw [hx2]; rfl)
        | ok r2 =>
          obtain ⟨c2, q2'⟩ := r2
          rw [hx2, pB_ok] at hC10
          have hC10' : mC b S10 L A (pB (pMust A 32 q2') fun a => pB (rdX A 6 a) fun r => pMust A 33 r.2) := hC10
          cases hm2 : pMust A 32 q2' with
          | error e =>
            rw [hm2] at hC10'
            exact bad e _ hC10' (by rw [hx2, pB_ok, show pMust A 32 (c2, q2').2 = .error e from hm2]; rfl)
          | ok q3 =>
            rw [hm2, pB_ok] at hC10'
            cases hx3 : rdX A 6 q3 with
            | error e =>
              rw [hx3] at hC10'
              exact bad e _ hC10' (by rw [hx2, pB_ok, show pMust A 32 (c2, q2').2 = .ok q3 from hm2, pB_ok, hx3]; rfl)
            | ok r3 =>
              obtain ⟨c3, q3'⟩ := r3
              rw [hx3, pB_ok] at hC10'
              have hC11 : mC b S10 L A (pMust A 33 q3') := hC10'
              cases hm3 : pMust A 33 q3' with
              | error e =>
                rw [hm3] at hC11
                exact bad e _ hC11 (by rw [hx2, pB_ok, show pMust A 32 (c2, q2').2 = .ok q3 from hm2, pB_ok, hx3, pB_ok, show pMust A 33 (c3, q3').2 = .error e from hm3]; rfl)
              | ok q4 =>
                rw [hm3] at hC11
                rw [hx2, pB_ok, show pMust A 32 (c2, q2').2 = .ok q3 from hm2, pB_ok, hx3, pB_ok, show pMust A 33 (c3, q3').2 = .ok q4 from hm3, pB_ok] at hE hok
                obtain ⟨w1, w2, w3, w4⟩ := hokb c2 q2' hx2
                obtain ⟨v1, v2, v3, v4⟩ := hokc c3 q3' (by rw [hx2, pB_ok, show pMust A 32 (c2, q2').2 = .ok q3 from hm2]; exact hx3)
                obtain ⟨k5, k6, k7, k8⟩ := rdX_cOK hx2 hq24
                obtain ⟨-, hq3, hq3n⟩ := pMust_inv hm2
                have hq31 : q3.1 = q2'.1 + 1 := by rw [hq3]
                obtain ⟨k9, k10, k11, k12⟩ := rdX_cOK hx3 (by omega)
                obtain ⟨-, hq4', hq4n⟩ := pMust_inv hm3
                have hq41 : q4.1 = q3'.1 + 1 := by rw [hq4']
                have hlen : (acc ++ [(true, c1, c2, c3)]).length = acc.length + 1 := by rw [List.length_append]; rfl
                rw [show nI (acc.length + 1) = nI (acc ++ [(true, c1, c2, c3)]).length by rw [hlen]]
                refine ih (acc ++ [(true, c1, c2, c3)]) q4 S10 (d3 - 420 * sd) (by omega) hC11 (by rw [hf10.f rfl]; exact v3) (hF.tr l10 (Nat.le_refl _) (by omega) (Nat.le_refl _) (by omega)) (by rw [h39f, hlen, hm]; rfl) (by rw [h45f]; congr 1; omega) (by omega) (by omega) (by omega) ?_ hE hok
                rw [show 420 * sd + (d3 - 420 * sd) = d3 by omega]
                refine brsIn.snoc (hbr.keep (by omega) (fun i i1 i2 => l10.2.2 i (by omega)) (fun i i1 i2 o o1 o2 => l10.2.1 o o1 o2 i (by omega))) ?_
                rw [← hm]
                have r8 : ∀ o, 26 ≤ o → o ≤ 28 → S10 (b + o) m = S6 (b + o) m := by
                  intro o o1 o2
                  rw [hf10.1 (b + o) (by omega) (fun x hx => by cases hx), hrows o o1 o2, hf8.1 (b + o) (by omega) (fun x hx => by cases hx), hx7.1.1 (b + o) (by omega) (fun x hx => by simp at hx; omega)]
                have cd6 : cdF b S6 S10 d1 (420 * sd + 420) := (hx7.2.tt (hf8.cd rfl rfl)).tt ((hl9.2.2.wd hd2.2.1 (Nat.le_refl _)).tt (hf10.cd rfl rfl))
                have cd7 : cdF b S7 S10 d2 (420 * sd + 420) := (hf8.cd rfl rfl).tt (hl9.2.2.tt (hf10.cd rfl rfl))
                refine ⟨(r8 26 (by omega) (by omega)).trans e26b, d2, d3, fun _ => ⟨c0, d1, ⟨(r8 27 (by omega) (by omega)).trans e27b, (r8 28 (by omega) (by omega)).trans e28⟩, ⟨by omega, codeAt_keep ca1 (fun j _ (j2 : j < c0 + c1.length) => cd6 j (by omega)), g1.symm, k1⟩, codeAt_keep w2 (fun j _ (j2 : j < d1 + c2.length) => cd7 j (by omega)), w1.symm, k5⟩, ⟨by rw [hf10.at (o := 29) rfl rfl]; exact h29, by rw [hf10.at (o := 30) rfl rfl]; exact h30⟩, by omega, ?_, v1.symm, by omega, k9⟩
                rw [hf10.at (o := 31) rfl rfl, hf10.at (o := 32) rfl rfl]; exact v2
    · have e1 : pLwL A (f + 1) acc q = pLst A acc q := by rw [pLwL, if_neg h31]
      rw [e1] at hE hok
      exact tl_last hVl hVE hVd hM hA hsd acc q S1 c hC h12 hF h39 h45 hnc hcq hnb hbr h31 hE hok
end NE
