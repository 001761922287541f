/-! the model: read, the whole -/
section NN
variable {l : Launch} {E : zE} {b z : Nat} {h : Nat → Option zSh} {S : Nat → Nat → Int32} {L : Nat → Nat → Int64}
/-- the loop of things told -/
theorem rd_loop {V : zV} {lv sd : Nat} {t : ZT} {P : List Int32} {A : List zTk} (hVl : V.1 = l) (hVE : V.2.1 = E) (hVd : V.2.2.1 = 7) (hM : isM h b) (hA : A = tkA P) (hW : tkW A) (hlv : lv < 2) (hsd : sd = 1 - lv) (hZ : mZ b S) (x1 : Option Value)
    (hVQ : ∀ r X, mRd b lv t P z h S L r X → V.2.2.2.2.2.1 r X) :
    ∀ (f : Nat) (p : zPX) (S1 : Nat → Nat → Int32) (L1 : Nat → Nat → Int64), 400 < f + p.2.1 → mXs b S1 lv t → S1 b 2 = nI 0 → zfr Drd Frd b S S1 → (∀ a, a ≠ b + 6 → a ≠ b + 8 → L1 a = L a) → mPx b S1 L1 A sd p → pRd A 401 (x0, 0, 0, 0) = pRd A f p → zW V YX10_read 112 [some (.ref b), x1] [] (z, h, S1, L1) 0 0 := by
  intro f
  induction f with
  | zero =>
    intro p S1 L1 hf hX h2 hfr hL hP hR
    have : p.2.1 ≤ 400 := hP.1.2.2.2.1
    omega
  | succ f ih =>
    intro p S1 L1 hf hX h2 hfr hL hP hR
    obtain ⟨x, q⟩ := p
    have hC : mC b S1 L1 A (.ok q) := hP.1
    have h13 := hC.good
    have hq4 : q.1 ≤ 400 := hC.2.2.2.1
    have hf' : 400 < f + 1 + q.1 := hf
    refine sX10_read_112 _ _ _ _ _ ?_
    simp (disch := omega) only [oAld, oCV, oGI, oIf, oPush, hM.1, h13, List.getElem?_cons_zero, List.getElem?_cons_succ, List.set_cons_zero, List.set_cons_succ, List.drop_succ_cons, List.drop_zero, List.take_succ_cons, List.take_zero, List.length_cons, List.length_nil, List.reverse_cons, List.reverse_nil, List.nil_append, List.cons_append, Option.toList_some, Option.toList_none, va_rf_s, true_and, and_true, true_implies, false_implies, not_true_eq_false, not_false_eq_true, Nat.reduceAdd, Nat.reduceLeDiff, Nat.le_add_left, Nat.zero_le, Nat.le_refl, znew, true_or, or_true, b01_t, b01_f, b01_ok, bool_ft, vp_b01, vp_b0, vp_b1, b01_eq0, b01_eq1, implies_true, nI_add, nI_clamp, zi_in, zi_le_t, zi_le_f, zi_lt_t, zi_lt_f, zi_eq_t, zi_eq_f, nI_leI, nI_ltI, nI_eq, z_in, pk_mul, zu_same, zu_rw, zu_ix, zi_ne0, zi_sub, zi_m1, Nat.add_sub_cancel, Nat.reduceMul, Nat.reduceSub]
    refine zC.of0 (zX10_is hM hW hC (by omega)) (by omega) (Nat.zero_le _) (Nat.zero_le _) ?_
    rintro _ _ ⟨rfl, rfl⟩
    by_cases h0 : tkK A q.1 = 0
    · have hb : isB A 0 (.ok q) = true := decide_eq_true h0
      have e1 : pRd A (f + 1) (x, q) = .ok (x, q) := by rw [pRd, if_pos (show tkK A (x, q).2.1 = 0 from h0)]
      refine sX10_read_124 _ _ _ _ _ ?_
      simp (disch := omega) only [oAld, oCV, oIf, hM.1, hb, List.getElem?_cons_zero, List.getElem?_cons_succ, List.set_cons_zero, List.set_cons_succ, List.drop_succ_cons, List.drop_zero, List.take_succ_cons, List.take_zero, List.length_cons, List.length_nil, List.reverse_cons, List.reverse_nil, List.nil_append, List.cons_append, Option.toList_some, Option.toList_none, va_rf_s, true_and, and_true, true_implies, false_implies, not_true_eq_false, not_false_eq_true, Nat.reduceAdd, Nat.reduceLeDiff, Nat.le_add_left, Nat.zero_le, Nat.le_refl, znew, true_or, or_true, b01_t, b01_f, b01_ok, bool_ft, vp_b01, vp_b0, vp_b1, b01_eq0, b01_eq1, implies_true, nI_add, nI_clamp, zi_in, zi_le_t, zi_le_f, zi_lt_t, zi_lt_f, zi_eq_t, zi_eq_f, nI_leI, nI_ltI, nI_eq, z_in, pk_mul, zu_same, zu_rw, zu_ix, zi_ne0, zi_sub, zi_m1, Nat.add_sub_cancel, Nat.reduceMul, Nat.reduceSub]
      exact rd_end hVl hVE hVd hM hA hlv hsd hZ hX h2 hfr hL hP (by rw [← hA, hR, e1]) x1 hVQ
    · have hb : isB A 0 (.ok q) = false := decide_eq_false h0
      have e1 : pRd A (f + 1) (x, q) = pB (pStm A (x, q)) (pRd A f) := by rw [pRd, if_neg (show ¬ tkK A (x, q).2.1 = 0 from h0)]
      rw [e1] at hR
      refine sX10_read_124 _ _ _ _ _ ?_
      simp (disch := omega) only [oAld, oCV, oIf, hM.1, hb, List.getElem?_cons_zero, List.getElem?_cons_succ, List.set_cons_zero, List.set_cons_succ, List.drop_succ_cons, List.drop_zero, List.take_succ_cons, List.take_zero, List.length_cons, List.length_nil, List.reverse_cons, List.reverse_nil, List.nil_append, List.cons_append, Option.toList_some, Option.toList_none, va_rf_s, true_and, and_true, true_implies, false_implies, not_true_eq_false, not_false_eq_true, Nat.reduceAdd, Nat.reduceLeDiff, Nat.le_add_left, Nat.zero_le, Nat.le_refl, znew, true_or, or_true, b01_t, b01_f, b01_ok, bool_ft, vp_b01, vp_b0, vp_b1, b01_eq0, b01_eq1, implies_true, nI_add, nI_clamp, zi_in, zi_le_t, zi_le_f, zi_lt_t, zi_lt_f, zi_eq_t, zi_eq_f, nI_leI, nI_ltI, nI_eq, z_in, pk_mul, zu_same, zu_rw, zu_ix, zi_ne0, zi_sub, zi_m1, Nat.add_sub_cancel, Nat.reduceMul, Nat.reduceSub]
      refine zC.of0 (zX10_tellOne hM hW hP h0) (by omega) (Nat.zero_le _) (Nat.zero_le _) ?_
      rintro _ _ ⟨rfl, S2, L2, rfl, hF2, hL2, hC2, hok⟩
      have hX2 : mXs b S2 lv t := hX.sd (by
        have e : lv = 1 - sd := by omega
        rw [e]; exact hF2.2) (hF2.1.f rfl)
      have hfr2 : zfr Drd Frd b S S2 := hfr.tr hF2.1 rfl rfl rfl rfl
      have h22 : S2 b 2 = nI 0 := by rw [hF2.1.f rfl]; exact h2
      have hL2' : ∀ a, a ≠ b + 6 → a ≠ b + 8 → L2 a = L a := fun a a1 a2 => (hL2 a a2).trans (hL a a1 a2)
      refine sX10_read_131 _ _ _ _ _ ?_
      simp (disch := omega) only [oNop, List.getElem?_cons_zero, List.getElem?_cons_succ, List.set_cons_zero, List.set_cons_succ, List.drop_succ_cons, List.drop_zero, List.take_succ_cons, List.take_zero, List.length_cons, List.length_nil, List.reverse_cons, List.reverse_nil, List.nil_append, List.cons_append, Option.toList_some, Option.toList_none, va_rf_s, true_and, and_true, true_implies, false_implies, not_true_eq_false, not_false_eq_true, Nat.reduceAdd, Nat.reduceLeDiff, Nat.le_add_left, Nat.zero_le, Nat.le_refl, znew, true_or, or_true, b01_t, b01_f, b01_ok, bool_ft, vp_b01, vp_b0, vp_b1, b01_eq0, b01_eq1, implies_true, nI_add, nI_clamp, zi_in, zi_le_t, zi_le_f, zi_lt_t, zi_lt_f, zi_eq_t, zi_eq_f, nI_leI, nI_ltI, nI_eq, z_in, pk_mul, zu_same, zu_rw, zu_ix, zi_ne0, zi_sub, zi_m1, Nat.add_sub_cancel, Nat.reduceMul, Nat.reduceSub]
      cases hs : pStm A (x, q) with
      | error e =>
        rw [hs] at hC2 hR
        have hC2' : mC b S2 L2 A (.error e) := hC2
        obtain ⟨-, h13', he, he5, h14', -⟩ := id hC2'
        have eT : pTxt P = .error (e.1, e.2) := by rw [pTxt, ← hA, hR]; rfl
        refine sX10_read_112 _ _ _ _ _ ?_
        simp (disch := omega) only [oAld, oCV, oGI, oIf, oPush, hM.1, h13', List.getElem?_cons_zero, List.getElem?_cons_succ, List.set_cons_zero, List.set_cons_succ, List.drop_succ_cons, List.drop_zero, List.take_succ_cons, List.take_zero, List.length_cons, List.length_nil, List.reverse_cons, List.reverse_nil, List.nil_append, List.cons_append, Option.toList_some, Option.toList_none, va_rf_s, true_and, and_true, true_implies, false_implies, not_true_eq_false, not_false_eq_true, Nat.reduceAdd, Nat.reduceLeDiff, Nat.le_add_left, Nat.zero_le, Nat.le_refl, znew, true_or, or_true, b01_t, b01_f, b01_ok, bool_ft, vp_b01, vp_b0, vp_b1, b01_eq0, b01_eq1, implies_true, nI_add, nI_clamp, zi_in, zi_le_t, zi_le_f, zi_lt_t, zi_lt_f, zi_eq_t, zi_eq_f, nI_leI, nI_ltI, nI_eq, z_in, pk_mul, zu_same, zu_rw, zu_ix, zi_ne0, zi_sub, zi_m1, Nat.add_sub_cancel, Nat.reduceMul, Nat.reduceSub]
        refine sX10_read_134 _ _ _ _ _ ?_
        simp (disch := omega) only [oAld, oGI, oIf, oNop, oPush, hM.1, h13', h14', List.getElem?_cons_zero, List.getElem?_cons_succ, List.set_cons_zero, List.set_cons_succ, List.drop_succ_cons, List.drop_zero, List.take_succ_cons, List.take_zero, List.length_cons, List.length_nil, List.reverse_cons, List.reverse_nil, List.nil_append, List.cons_append, Option.toList_some, Option.toList_none, va_rf_s, true_and, and_true, true_implies, false_implies, not_true_eq_false, not_false_eq_true, Nat.reduceAdd, Nat.reduceLeDiff, Nat.le_add_left, Nat.zero_le, Nat.le_refl, znew, true_or, or_true, b01_t, b01_f, b01_ok, bool_ft, vp_b01, vp_b0, vp_b1, b01_eq0, b01_eq1, implies_true, nI_add, nI_clamp, zi_in, zi_le_t, zi_le_f, zi_lt_t, zi_lt_f, zi_eq_t, zi_eq_f, nI_leI, nI_ltI, nI_eq, z_in, pk_mul, zu_same, zu_rw, zu_ix, zi_ne0, zi_sub, zi_m1, Nat.add_sub_cancel, Nat.reduceMul, Nat.reduceSub]
        refine sX10_read_164 _ _ _ _ _ ?_
        simp (disch := omega) only [oAld, oCV, oGI, oIf, oPI, oRI, hM.1, h13', List.getElem?_cons_zero, List.getElem?_cons_succ, List.set_cons_zero, List.set_cons_succ, List.drop_succ_cons, List.drop_zero, List.take_succ_cons, List.take_zero, List.length_cons, List.length_nil, List.reverse_cons, List.reverse_nil, List.nil_append, List.cons_append, Option.toList_some, Option.toList_none, va_rf_s, true_and, and_true, true_implies, false_implies, not_true_eq_false, not_false_eq_true, Nat.reduceAdd, Nat.reduceLeDiff, Nat.le_add_left, Nat.zero_le, Nat.le_refl, znew, true_or, or_true, b01_t, b01_f, b01_ok, bool_ft, vp_b01, vp_b0, vp_b1, b01_eq0, b01_eq1, implies_true, nI_add, nI_clamp, zi_in, zi_le_t, zi_le_f, zi_lt_t, zi_lt_f, zi_eq_t, zi_eq_f, nI_leI, nI_ltI, nI_eq, z_in, pk_mul, zu_same, zu_rw, zu_ix, zi_ne0, zi_sub, zi_m1, Nat.add_sub_cancel, Nat.reduceMul, Nat.reduceSub]
        have hf2 : zfr [] [17] b S2 (zu S2 b 17 (nI e.2)) := zfr.rf.fld (by decide)
        exact hVQ _ _ ⟨_, L2, rfl, hL2', by rw [hf2.f rfl]; exact h22, Or.inl ⟨_, _, eT, rfl, zu_same _ _ _ _, hfr2.tr hf2 rfl rfl rfl rfl, hX2.fr hf2 rfl rfl⟩⟩
      | ok p' =>
        obtain ⟨x', q'⟩ := p'
        rw [hs] at hR
        obtain ⟨⟨-, hlt⟩, -⟩ := stm_0 hs hq4
        exact ih (x', q') S2 L2 (by show 400 < f + q'.1; omega) hX2 h22 hfr2 hL2' (hok x' q' hs) hR
theorem zX10_read {lv : Nat} {t : ZT} {P : List Int32} (hM : isM h b) (hX : mXs b S lv t) (hZ : mZ b S) (hP : mP b S P) (hBy : isBy P) (hKey : mKey b L) :
    zM l E 7 YX10_read [.ref b] (z, h, S, L) 0 0 (mRd b lv t P z h S L) (fun _ _ => False) := by
  obtain ⟨h2, hPl, hPi⟩ := hP
  obtain ⟨h18, hlv⟩ := hX.1.1
  obtain ⟨hW, hA0⟩ := tkA_W hPl
  refine zM.go rfl rfl (Nat.le_of_ble_eq_true rfl) (ls := [some (.ref b), none]) rfl ?_
  intro V hVl hVE hVd hVc hVs hVQ hVX
  have loop : ∀ i, i ≤ P.length → ∀ S1, zfr [2] [4] b S S1 → S1 b 4 = nI P.length → (∀ j, j < i → S1 (b + 2) j = P.getD j 0) → zW V YX10_read 10 [some (.ref b), some (.int (nI i))] [] (z, h, S1, L) 0 0 := by
    refine z_down ?_ (fun i hi ih => ?_)
    · intro S1 hf1 h4 hj
      refine sX10_read_10 _ _ _ _ _ ?_
      simp (disch := omega) only [oAld, oAld1, oAst1, oCV, oGI, oGR, oIfc, oIld, oInc, oNop, oPI, oPush, hM.1, hM.r3, hM.t3, hM.n3, hM.r1, hM.t1, hM.n1, h4, List.getElem?_cons_zero, List.getElem?_cons_succ, List.set_cons_zero, List.set_cons_succ, List.drop_succ_cons, List.drop_zero, List.take_succ_cons, List.take_zero, List.length_cons, List.length_nil, List.reverse_cons, List.reverse_nil, List.nil_append, List.cons_append, Option.toList_some, Option.toList_none, va_rf_s, true_and, and_true, true_implies, false_implies, not_true_eq_false, not_false_eq_true, Nat.reduceAdd, Nat.reduceLeDiff, Nat.le_add_left, Nat.zero_le, Nat.le_refl, znew, true_or, or_true, b01_t, b01_f, b01_ok, bool_ft, vp_b01, vp_b0, vp_b1, b01_eq0, b01_eq1, implies_true, nI_add, nI_clamp, zi_in, zi_le_t, zi_le_f, zi_lt_t, zi_lt_f, zi_eq_t, zi_eq_f, nI_leI, nI_ltI, nI_eq, z_in, pk_mul, zu_same, zu_rw, zu_ix, zi_ne0, zi_sub, zi_m1, Nat.add_sub_cancel, Nat.reduceMul, Nat.reduceSub]
      have hfa : zfr [2] [2, 4] b S (zu S1 b 2 (nI 0)) := (hf1.tr zfr.rf rfl rfl (D' := []) (F' := []) (D2 := [2]) (F2 := [2, 4]) rfl rfl).fld (by decide)
      have hT : mTx b (zu S1 b 2 (nI 0)) P := ⟨by simp (disch := omega) only [List.getElem?_cons_zero, List.getElem?_cons_succ, List.set_cons_zero, List.set_cons_succ, List.drop_succ_cons, List.drop_zero, List.take_succ_cons, List.take_zero, List.length_cons, List.length_nil, List.reverse_cons, List.reverse_nil, List.nil_append, List.cons_append, Option.toList_some, Option.toList_none, va_rf_s, true_and, and_true, true_implies, false_implies, not_true_eq_false, not_false_eq_true, Nat.reduceAdd, Nat.reduceLeDiff, Nat.le_add_left, Nat.zero_le, Nat.le_refl, znew, true_or, or_true, b01_t, b01_f, b01_ok, bool_ft, vp_b01, vp_b0, vp_b1, b01_eq0, b01_eq1, implies_true, nI_add, nI_clamp, zi_in, zi_le_t, zi_le_f, zi_lt_t, zi_lt_f, zi_eq_t, zi_eq_f, nI_leI, nI_ltI, nI_eq, z_in, pk_mul, zu_same, zu_rw, zu_ix, zi_ne0, zi_sub, zi_m1, Nat.add_sub_cancel, Nat.reduceMul, Nat.reduceSub, h4], hPl, fun j hj2 => by rw [zu_rw _ _ (by omega)]; exact hj j hj2⟩
      have h2a : zu S1 b 2 (nI 0) b 2 = nI 0 := zu_same _ _ _ _
      generalize zu S1 b 2 (nI 0) = S2 at hfa hT h2a ⊢
      refine zC.of0 (zX10_cutsUp hM hT hKey) (by omega) (Nat.zero_le _) (Nat.zero_le _) ?_
      rintro _ _ ⟨rfl, S3, L3, rfl, ⟨hf3, hL3⟩, hK3⟩
      have h18a : S3 b 18 = nI lv := by rw [hf3.f rfl, hfa.f rfl]; exact h18
      refine sX10_read_45 _ _ _ _ _ ?_
      simp (disch := omega) only [oAld, oBin, oCV, oGI, oPI, oPush, hM.1, h18a, List.getElem?_cons_zero, List.getElem?_cons_succ, List.set_cons_zero, List.set_cons_succ, List.drop_succ_cons, List.drop_zero, List.take_succ_cons, List.take_zero, List.length_cons, List.length_nil, List.reverse_cons, List.reverse_nil, List.nil_append, List.cons_append, Option.toList_some, Option.toList_none, va_rf_s, true_and, and_true, true_implies, false_implies, not_true_eq_false, not_false_eq_true, Nat.reduceAdd, Nat.reduceLeDiff, Nat.le_add_left, Nat.zero_le, Nat.le_refl, znew, true_or, or_true, b01_t, b01_f, b01_ok, bool_ft, vp_b01, vp_b0, vp_b1, b01_eq0, b01_eq1, implies_true, nI_add, nI_clamp, zi_in, zi_le_t, zi_le_f, zi_lt_t, zi_lt_f, zi_eq_t, zi_eq_f, nI_leI, nI_ltI, nI_eq, z_in, pk_mul, zu_same, zu_rw, zu_ix, zi_ne0, zi_sub, zi_m1, Nat.add_sub_cancel, Nat.reduceMul, Nat.reduceSub]
      obtain ⟨sd, hsd⟩ : ∃ sd, sd = 1 - lv := ⟨_, rfl⟩
      rw [← hsd]
      have hsd2 : sd < 2 := by omega
      have hf4 : zfr [] [11, 12, 13, 15, 19, 20] b S3 (zu (zu (zu (zu (zu (zu S3 b 11 (nI 0)) b 12 (nI 0)) b 13 (nI 0)) b 15 (nI 0)) b 19 (nI sd)) b 20 (nI 0)) := (((((zfr.rf.fld (by decide)).fld (by decide)).fld (by decide)).fld (by decide)).fld (by decide)).fld (by decide)
      have f11 : zu (zu (zu (zu (zu (zu S3 b 11 (nI 0)) b 12 (nI 0)) b 13 (nI 0)) b 15 (nI 0)) b 19 (nI sd)) b 20 (nI 0) b 11 = nI 0 := by simp (disch := omega) only [List.getElem?_cons_zero, List.getElem?_cons_succ, List.set_cons_zero, List.set_cons_succ, List.drop_succ_cons, List.drop_zero, List.take_succ_cons, List.take_zero, List.length_cons, List.length_nil, List.reverse_cons, List.reverse_nil, List.nil_append, List.cons_append, Option.toList_some, Option.toList_none, va_rf_s, true_and, and_true, true_implies, false_implies, not_true_eq_false, not_false_eq_true, Nat.reduceAdd, Nat.reduceLeDiff, Nat.le_add_left, Nat.zero_le, Nat.le_refl, znew, true_or, or_true, b01_t, b01_f, b01_ok, bool_ft, vp_b01, vp_b0, vp_b1, b01_eq0, b01_eq1, implies_true, nI_add, nI_clamp, zi_in, zi_le_t, zi_le_f, zi_lt_t, zi_lt_f, zi_eq_t, zi_eq_f, nI_leI, nI_ltI, nI_eq, z_in, pk_mul, zu_same, zu_rw, zu_ix, zi_ne0, zi_sub, zi_m1, Nat.add_sub_cancel, Nat.reduceMul, Nat.reduceSub, ]
      have f12 : zu (zu (zu (zu (zu (zu S3 b 11 (nI 0)) b 12 (nI 0)) b 13 (nI 0)) b 15 (nI 0)) b 19 (nI sd)) b 20 (nI 0) b 12 = nI 0 := by simp (disch := omega) only [List.getElem?_cons_zero, List.getElem?_cons_succ, List.set_cons_zero, List.set_cons_succ, List.drop_succ_cons, List.drop_zero, List.take_succ_cons, List.take_zero, List.length_cons, List.length_nil, List.reverse_cons, List.reverse_nil, List.nil_append, List.cons_append, Option.toList_some, Option.toList_none, va_rf_s, true_and, and_true, true_implies, false_implies, not_true_eq_false, not_false_eq_true, Nat.reduceAdd, Nat.reduceLeDiff, Nat.le_add_left, Nat.zero_le, Nat.le_refl, znew, true_or, or_true, b01_t, b01_f, b01_ok, bool_ft, vp_b01, vp_b0, vp_b1, b01_eq0, b01_eq1, implies_true, nI_add, nI_clamp, zi_in, zi_le_t, zi_le_f, zi_lt_t, zi_lt_f, zi_eq_t, zi_eq_f, nI_leI, nI_ltI, nI_eq, z_in, pk_mul, zu_same, zu_rw, zu_ix, zi_ne0, zi_sub, zi_m1, Nat.add_sub_cancel, Nat.reduceMul, Nat.reduceSub, ]
      have f13 : zu (zu (zu (zu (zu (zu S3 b 11 (nI 0)) b 12 (nI 0)) b 13 (nI 0)) b 15 (nI 0)) b 19 (nI sd)) b 20 (nI 0) b 13 = nI 0 := by simp (disch := omega) only [List.getElem?_cons_zero, List.getElem?_cons_succ, List.set_cons_zero, List.set_cons_succ, List.drop_succ_cons, List.drop_zero, List.take_succ_cons, List.take_zero, List.length_cons, List.length_nil, List.reverse_cons, List.reverse_nil, List.nil_append, List.cons_append, Option.toList_some, Option.toList_none, va_rf_s, true_and, and_true, true_implies, false_implies, not_true_eq_false, not_false_eq_true, Nat.reduceAdd, Nat.reduceLeDiff, Nat.le_add_left, Nat.zero_le, Nat.le_refl, znew, true_or, or_true, b01_t, b01_f, b01_ok, bool_ft, vp_b01, vp_b0, vp_b1, b01_eq0, b01_eq1, implies_true, nI_add, nI_clamp, zi_in, zi_le_t, zi_le_f, zi_lt_t, zi_lt_f, zi_eq_t, zi_eq_f, nI_leI, nI_ltI, nI_eq, z_in, pk_mul, zu_same, zu_rw, zu_ix, zi_ne0, zi_sub, zi_m1, Nat.add_sub_cancel, Nat.reduceMul, Nat.reduceSub, ]
      have f15 : zu (zu (zu (zu (zu (zu S3 b 11 (nI 0)) b 12 (nI 0)) b 13 (nI 0)) b 15 (nI 0)) b 19 (nI sd)) b 20 (nI 0) b 15 = nI 0 := by simp (disch := omega) only [List.getElem?_cons_zero, List.getElem?_cons_succ, List.set_cons_zero, List.set_cons_succ, List.drop_succ_cons, List.drop_zero, List.take_succ_cons, List.take_zero, List.length_cons, List.length_nil, List.reverse_cons, List.reverse_nil, List.nil_append, List.cons_append, Option.toList_some, Option.toList_none, va_rf_s, true_and, and_true, true_implies, false_implies, not_true_eq_false, not_false_eq_true, Nat.reduceAdd, Nat.reduceLeDiff, Nat.le_add_left, Nat.zero_le, Nat.le_refl, znew, true_or, or_true, b01_t, b01_f, b01_ok, bool_ft, vp_b01, vp_b0, vp_b1, b01_eq0, b01_eq1, implies_true, nI_add, nI_clamp, zi_in, zi_le_t, zi_le_f, zi_lt_t, zi_lt_f, zi_eq_t, zi_eq_f, nI_leI, nI_ltI, nI_eq, z_in, pk_mul, zu_same, zu_rw, zu_ix, zi_ne0, zi_sub, zi_m1, Nat.add_sub_cancel, Nat.reduceMul, Nat.reduceSub, ]
      have f19 : zu (zu (zu (zu (zu (zu S3 b 11 (nI 0)) b 12 (nI 0)) b 13 (nI 0)) b 15 (nI 0)) b 19 (nI sd)) b 20 (nI 0) b 19 = nI sd := by simp (disch := omega) only [List.getElem?_cons_zero, List.getElem?_cons_succ, List.set_cons_zero, List.set_cons_succ, List.drop_succ_cons, List.drop_zero, List.take_succ_cons, List.take_zero, List.length_cons, List.length_nil, List.reverse_cons, List.reverse_nil, List.nil_append, List.cons_append, Option.toList_some, Option.toList_none, va_rf_s, true_and, and_true, true_implies, false_implies, not_true_eq_false, not_false_eq_true, Nat.reduceAdd, Nat.reduceLeDiff, Nat.le_add_left, Nat.zero_le, Nat.le_refl, znew, true_or, or_true, b01_t, b01_f, b01_ok, bool_ft, vp_b01, vp_b0, vp_b1, b01_eq0, b01_eq1, implies_true, nI_add, nI_clamp, zi_in, zi_le_t, zi_le_f, zi_lt_t, zi_lt_f, zi_eq_t, zi_eq_f, nI_leI, nI_ltI, nI_eq, z_in, pk_mul, zu_same, zu_rw, zu_ix, zi_ne0, zi_sub, zi_m1, Nat.add_sub_cancel, Nat.reduceMul, Nat.reduceSub, ]
      have f20 : zu (zu (zu (zu (zu (zu S3 b 11 (nI 0)) b 12 (nI 0)) b 13 (nI 0)) b 15 (nI 0)) b 19 (nI sd)) b 20 (nI 0) b 20 = nI 0 := by simp (disch := omega) only [List.getElem?_cons_zero, List.getElem?_cons_succ, List.set_cons_zero, List.set_cons_succ, List.drop_succ_cons, List.drop_zero, List.take_succ_cons, List.take_zero, List.length_cons, List.length_nil, List.reverse_cons, List.reverse_nil, List.nil_append, List.cons_append, Option.toList_some, Option.toList_none, va_rf_s, true_and, and_true, true_implies, false_implies, not_true_eq_false, not_false_eq_true, Nat.reduceAdd, Nat.reduceLeDiff, Nat.le_add_left, Nat.zero_le, Nat.le_refl, znew, true_or, or_true, b01_t, b01_f, b01_ok, bool_ft, vp_b01, vp_b0, vp_b1, b01_eq0, b01_eq1, implies_true, nI_add, nI_clamp, zi_in, zi_le_t, zi_le_f, zi_lt_t, zi_lt_f, zi_eq_t, zi_eq_f, nI_leI, nI_ltI, nI_eq, z_in, pk_mul, zu_same, zu_rw, zu_ix, zi_ne0, zi_sub, zi_m1, Nat.add_sub_cancel, Nat.reduceMul, Nat.reduceSub, ]
      generalize zu (zu (zu (zu (zu (zu S3 b 11 (nI 0)) b 12 (nI 0)) b 13 (nI 0)) b 15 (nI 0)) b 19 (nI sd)) b 20 (nI 0) = S4 at hf4 f11 f12 f13 f15 f19 f20 ⊢
      refine zC.of0 (zX10_plain hM hsd2) (by omega) (Nat.zero_le _) (Nat.zero_le _) ?_
      rintro _ _ ⟨rfl, S5, rfl, hf5, hs5, hp5⟩
      have f19a : S5 b 19 = nI sd := by rw [hf5.f rfl]; exact f19
      refine sX10_read_88 _ _ _ _ _ ?_
      simp (disch := omega) only [oAld, oBin, oGI, oPI, oPush, hM.1, f19a, List.getElem?_cons_zero, List.getElem?_cons_succ, List.set_cons_zero, List.set_cons_succ, List.drop_succ_cons, List.drop_zero, List.take_succ_cons, List.take_zero, List.length_cons, List.length_nil, List.reverse_cons, List.reverse_nil, List.nil_append, List.cons_append, Option.toList_some, Option.toList_none, va_rf_s, true_and, and_true, true_implies, false_implies, not_true_eq_false, not_false_eq_true, Nat.reduceAdd, Nat.reduceLeDiff, Nat.le_add_left, Nat.zero_le, Nat.le_refl, znew, true_or, or_true, b01_t, b01_f, b01_ok, bool_ft, vp_b01, vp_b0, vp_b1, b01_eq0, b01_eq1, implies_true, nI_add, nI_clamp, zi_in, zi_le_t, zi_le_f, zi_lt_t, zi_lt_f, zi_eq_t, zi_eq_f, nI_leI, nI_ltI, nI_eq, z_in, pk_mul, zu_same, zu_rw, zu_ix, zi_ne0, zi_sub, zi_m1, Nat.add_sub_cancel, Nat.reduceMul, Nat.reduceSub]
      have hf6 : zfr [] [39, 45] b S5 (zu (zu S5 b 39 (nI (130 * sd))) b 45 (nI (420 * sd))) := (zfr.rf.fld (by decide)).fld (by decide)
      have f39 : zu (zu S5 b 39 (nI (130 * sd))) b 45 (nI (420 * sd)) b 39 = nI (130 * sd) := by simp (disch := omega) only [List.getElem?_cons_zero, List.getElem?_cons_succ, List.set_cons_zero, List.set_cons_succ, List.drop_succ_cons, List.drop_zero, List.take_succ_cons, List.take_zero, List.length_cons, List.length_nil, List.reverse_cons, List.reverse_nil, List.nil_append, List.cons_append, Option.toList_some, Option.toList_none, va_rf_s, true_and, and_true, true_implies, false_implies, not_true_eq_false, not_false_eq_true, Nat.reduceAdd, Nat.reduceLeDiff, Nat.le_add_left, Nat.zero_le, Nat.le_refl, znew, true_or, or_true, b01_t, b01_f, b01_ok, bool_ft, vp_b01, vp_b0, vp_b1, b01_eq0, b01_eq1, implies_true, nI_add, nI_clamp, zi_in, zi_le_t, zi_le_f, zi_lt_t, zi_lt_f, zi_eq_t, zi_eq_f, nI_leI, nI_ltI, nI_eq, z_in, pk_mul, zu_same, zu_rw, zu_ix, zi_ne0, zi_sub, zi_m1, Nat.add_sub_cancel, Nat.reduceMul, Nat.reduceSub, ]
      have f45 : zu (zu S5 b 39 (nI (130 * sd))) b 45 (nI (420 * sd)) b 45 = nI (420 * sd) := zu_same _ _ _ _
      generalize zu (zu S5 b 39 (nI (130 * sd))) b 45 (nI (420 * sd)) = S6 at hf6 f39 f45 ⊢
      have hf26 : zfr Drd Frd b S S6 := ((((hfa.tr hf3 rfl rfl rfl rfl (D2 := Drd) (F2 := Frd)).tr hf4 rfl rfl rfl rfl (D2 := Drd) (F2 := Frd)).tr hf5 rfl rfl rfl rfl (D2 := Drd) (F2 := Frd)).tr hf6 rfl rfl rfl rfl)
      have g : ∀ j, [10, 11, 12, 13, 15, 19, 20].contains j = true → S6 b j = S4 b j := by
        intro j hj
        rw [hf6.2 j (fun hx => by simp at hj hx; omega), hf5.2 j (fun hx => by cases hx)]
      have hX6 : mXs b S6 lv t := by
        have hX4 : mXs b S4 lv t := ((hX.fr hfa rfl rfl).fr hf3 rfl rfl).fr hf4 rfl rfl
        have hX5 : mXs b S5 lv t := hX4.sd (by
          have e : lv = 1 - sd := by omega
          rw [e]; exact hs5) (hf5.f rfl)
        exact hX5.fr hf6 rfl rfl
      have hp6 : plS b sd S6 := by
        refine ⟨fun o ho => ?_, fun k hk => ?_⟩
        · have : o ≠ 0 := by simp at ho; omega
          rw [hf6.1 (b + o) (by omega) (fun x hx => by cases hx)]; exact hp5.1 o ho
        · rw [hf6.at (o := 24) rfl rfl, hf6.at (o := 25) rfl rfl]; exact hp5.2 k hk
      have hK6 : mTK b S6 L3 ((tkA P).take 401) := ((hK3.fr hf4 rfl rfl rfl rfl).fr hf5 rfl rfl rfl rfl).fr hf6 rfl rfl rfl rfl
      refine rd_loop hVl hVE hVd hM rfl hW hlv hsd hZ _ hVQ 401 (x0, 0, 0, 0) S6 L3 (by show 400 < 401 + 0; omega) hX6 (by rw [hf6.f rfl, hf5.f rfl, hf4.f rfl, hf3.f rfl]; exact h2a) hf26 (fun a a1 a2 => hL3 a a1) ⟨⟨hK6, ?_⟩, ?_, by rw [g 12 rfl]; exact f12, 0, 0, ⟨f39, f45, fun k hk => ?_⟩, Nat.zero_le _, Nat.zero_le _⟩ rfl
      · exact ⟨by rw [g 13 rfl]; exact f13, by rw [g 11 rfl]; exact f11, by show 0 ≤ 400; omega, hA0, by rw [g 15 rfl]; exact f15, by show 0 ≤ 5; omega, fun hw => absurd rfl hw⟩
      · refine ⟨⟨⟨by rw [g 19 rfl]; exact f19, hsd2⟩, ⟨hp6.1 10 (by decide), by decide⟩, ⟨hp6.1 11 (by decide), by decide⟩, ⟨hp6.1 15 (by decide), by decide⟩, ⟨hp6.1 19 (by decide), by decide⟩⟩, fun s hs => absurd hs (by simp [x0, xS]), fun y hy => absurd hy (by simp [x0, xY]), fun w hw => absurd hw (by simp [x0, xW]), ⟨hp6.1 21 (by decide), hp6.1 22 (by decide), hp6.1 23 (by decide)⟩, [], ⟨by rw [g 20 rfl]; exact f20, by simp, fun k hk => absurd hk (by simp)⟩, rfl, fun w => ?_, fun w => rfl⟩
        rw [xHas, decide_eq_false (by simp [x0, xC, xY, xW])]; rfl
      · exact ⟨0, hp6.2 k hk, fun h => absurd rfl h, Nat.zero_le _, trivial⟩
    · intro S1 hf1 h4 hj
      have e1 : S1 (b + 1) i = P.getD i 0 := by rw [hf1.at (o := 1) rfl rfl]; exact hPi i hi
      have e2 := hBy i
      refine sX10_read_10 _ _ _ _ _ ?_
      simp (disch := omega) only [oAld, oAld1, oAst1, oCV, oGI, oGR, oIfc, oIld, oInc, oNop, oPI, oPush, hM.1, hM.r3, hM.t3, hM.n3, hM.r1, hM.t1, hM.n1, h4, e1, vp_nar_byte, e2, List.getElem?_cons_zero, List.getElem?_cons_succ, List.set_cons_zero, List.set_cons_succ, List.drop_succ_cons, List.drop_zero, List.take_succ_cons, List.take_zero, List.length_cons, List.length_nil, List.reverse_cons, List.reverse_nil, List.nil_append, List.cons_append, Option.toList_some, Option.toList_none, va_rf_s, true_and, and_true, true_implies, false_implies, not_true_eq_false, not_false_eq_true, Nat.reduceAdd, Nat.reduceLeDiff, Nat.le_add_left, Nat.zero_le, Nat.le_refl, znew, true_or, or_true, b01_t, b01_f, b01_ok, bool_ft, vp_b01, vp_b0, vp_b1, b01_eq0, b01_eq1, implies_true, nI_add, nI_clamp, zi_in, zi_le_t, zi_le_f, zi_lt_t, zi_lt_f, zi_eq_t, zi_eq_f, nI_leI, nI_ltI, nI_eq, z_in, pk_mul, zu_same, zu_rw, zu_ix, zi_ne0, zi_sub, zi_m1, Nat.add_sub_cancel, Nat.reduceMul, Nat.reduceSub]
      refine ih _ (hf1.row (by decide) (by decide)) (by rw [zu_rw _ _ (by omega)]; exact h4) (fun j hj2 => ?_)
      rw [zu_rowj]
      by_cases he : j = i
      · rw [if_pos he, he]
      · rw [if_neg he]; exact hj j (by omega)
  refine sX10_read_0 _ _ _ _ _ ?_
  simp (disch := omega) only [oAld, oGI, oIst, oPI, oPush, hM.1, h2, List.getElem?_cons_zero, List.getElem?_cons_succ, List.set_cons_zero, List.set_cons_succ, List.drop_succ_cons, List.drop_zero, List.take_succ_cons, List.take_zero, List.length_cons, List.length_nil, List.reverse_cons, List.reverse_nil, List.nil_append, List.cons_append, Option.toList_some, Option.toList_none, va_rf_s, true_and, and_true, true_implies, false_implies, not_true_eq_false, not_false_eq_true, Nat.reduceAdd, Nat.reduceLeDiff, Nat.le_add_left, Nat.zero_le, Nat.le_refl, znew, true_or, or_true, b01_t, b01_f, b01_ok, bool_ft, vp_b01, vp_b0, vp_b1, b01_eq0, b01_eq1, implies_true, nI_add, nI_clamp, zi_in, zi_le_t, zi_le_f, zi_lt_t, zi_lt_f, zi_eq_t, zi_eq_f, nI_leI, nI_ltI, nI_eq, z_in, pk_mul, zu_same, zu_rw, zu_ix, zi_ne0, zi_sub, zi_m1, Nat.add_sub_cancel, Nat.reduceMul, Nat.reduceSub]
  refine loop 0 (by omega) _ (zfr.rf.fld (by decide)) (zu_same _ _ _ _) (fun j hj => by omega)
end NN
