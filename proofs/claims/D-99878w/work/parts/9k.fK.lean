/-! the component's parser: young ones, words, the rest; one thing told -/
section FK
variable {V : zV} {E : zE} {z : Nat} {h : Nat → Option zSh} {S : Nat → Nat → Int32} {L : Nat → Nat → Int64} {c : Nat} {P : List Int32} {A : List zTk} {N : Nat} {q : zCu} {ta dE : Nat} {eA : Nat → Nat} {B : Nat → Nat → Nat} {x : zTx} {T : zPR zPX} {w : Int32}
theorem td_young (hV : tdV V h S L E c N ta dE q T) (hT : T = pB (pOpen A (xY x).length 6 q) (qYou A x)) (hx : tdX E c z h S P A N ta dE eA B x) (hI : pI c S N q 0) (hnx : q.1 + 1 < N) : zW V YX3_told 266 [some (.ref (c + 9)), some (.int w), none, none] [] (z, h, S, L) 0 0 := by
  obtain ⟨⟨hVE, hVd⟩, ⟨hVc, hVs⟩, -⟩ := id hV
  obtain ⟨⟨hc, he, hd⟩, hX, hta, hct, hp, hb⟩ := hx
  have hB := hX.1
  have hq4 := hI.2.2.2.2.1.1
  obtain ⟨tt, ⟨r0, r1, r2, -⟩, lt0, lt1, lt2, -⟩ := hp.lt
  have htz : ta + 6 ≤ z := hp.2.2.2.2.1
  have hcz := hX.2.1
  have hx2 : xn x 2 = (xY x).length := rfl
  refine sX3_told_266 _ _ _ _ _ ?_
  simp (disch := omega) only [oAld, oCV, oGR, hB.pk, hta, tt, r2, lt2, List.getElem?_cons_zero, List.getElem?_cons_succ, List.set_cons_zero, List.set_cons_succ, List.drop_succ_cons, List.drop_zero, List.take_succ_cons, List.take_zero, List.length_cons, List.length_nil, List.reverse_cons, List.reverse_nil, List.nil_append, List.cons_append, Option.toList_some, Option.toList_none, va_rf_s, true_and, and_true, true_implies, false_implies, not_true_eq_false, not_false_eq_true, Nat.reduceAdd, Nat.reduceLeDiff, Nat.le_add_left, Nat.zero_le, Nat.le_refl, znew, true_or, or_true, b01_t, b01_f, b01_ok, bool_ft, vp_b01, vp_b0, vp_b1, b01_eq0, b01_eq1, implies_true, nI_add, nI_clamp, zi_in, zi_le_t, zi_le_f, zi_lt_t, zi_lt_f, zi_eq_t, zi_eq_f, nI_leI, nI_ltI, nI_eq, z_in, pk_mul, zu_same, zu_rw, zu_ix, zi_ne0, zi_sub, zi_m1, Nat.add_sub_cancel, Nat.reduceMul, Nat.reduceSub]
  refine zC.of0 (zJ5_size (hp.ls (k := 2) (by omega))) (by omega) (Nat.zero_le _) (Nat.zero_le _) ?_
  rintro _ _ ⟨rfl, rfl⟩
  refine sX3_told_277 _ _ _ _ _ ?_
  simp (disch := omega) only [oCV, oPush, hB.pk, List.getElem?_cons_zero, List.getElem?_cons_succ, List.set_cons_zero, List.set_cons_succ, List.drop_succ_cons, List.drop_zero, List.take_succ_cons, List.take_zero, List.length_cons, List.length_nil, List.reverse_cons, List.reverse_nil, List.nil_append, List.cons_append, Option.toList_some, Option.toList_none, va_rf_s, true_and, and_true, true_implies, false_implies, not_true_eq_false, not_false_eq_true, Nat.reduceAdd, Nat.reduceLeDiff, Nat.le_add_left, Nat.zero_le, Nat.le_refl, znew, true_or, or_true, b01_t, b01_f, b01_ok, bool_ft, vp_b01, vp_b0, vp_b1, b01_eq0, b01_eq1, implies_true, nI_add, nI_clamp, zi_in, zi_le_t, zi_le_f, zi_lt_t, zi_lt_f, zi_eq_t, zi_eq_f, nI_leI, nI_ltI, nI_eq, z_in, pk_mul, zu_same, zu_rw, zu_ix, zi_ne0, zi_sub, zi_m1, Nat.add_sub_cancel, Nat.reduceMul, Nat.reduceSub]
  refine zC.of (zX3_begins (n := xn x 2) (m := 6) hX hI hnx (by have := hb.2.2.1; omega) (by omega)) (by omega) (by omega) (by omega) ?_ ?_
  · rintro _ _ ⟨rfl, q1, S1, e1, rfl, f1, p1⟩
    obtain ⟨eq1, h4, hne⟩ := open_ok e1
    have hq1 : q1.1 = q.1 + 1 := by rw [eq1]
    have hT1 : T = qYou A x q1 := by rw [hT, ← hx2, e1]; rfl
    have hq14 : q1.1 ≤ 400 := p1.2.2.2.2.1.1
    have hm1 : q1.1 + 1 ≤ mx T := by
      rw [hT1]
      exact mx1 (by omega) (fun r1 e1 => by
        have h1 := nme_ok e1
        exact mx1 (by omega) (fun r2 e2 => by
          have h2 := num_ok (v := r2.1) (q2 := r2.2) e2
          exact mx1 (by omega) (fun r3 e3 => by
            have h3 := num_ok (v := r3.1) (q2 := r3.2) e3
            exact mx1 (by omega) (fun r4 e4 => by
              have h4 := kn_ok (v := r4.1) (q2 := r4.2) e4
              show q1.1 + 1 ≤ r4.2.1; omega))))
    have g1 : pG c (z, h, S, L) (z + 1, hN h z (39, 0, fun _ => none), SN S1 z, LN L z) := pG.new f1 (fun a ha => SN_o (by omega))
    have hX2 : pX c (z + 1) (hN h z (39, 0, fun _ => none)) (SN S1 z) P A N := hX.g (X := (z, h, S, L)) g1
    have hI2 : pI c (SN S1 z) N q1 0 := p1.n hcz
    have hp2 : txP (z + 1) (hN h z (39, 0, fun _ => none)) (SN S1 z) ta dE eA B x := hp.g hct g1
    have hta2 : zr (hN h z (39, 0, fun _ => none)) (c + 9) 2 = some ta := by rw [hN_ro (by omega)]; exact hta
    refine sX3_told_282 _ _ _ _ _ ?_
    simp (disch := omega) only [oAld, oCV, oDup, oNew, hB.pk, hVc, hVs, List.getElem?_cons_zero, List.getElem?_cons_succ, List.set_cons_zero, List.set_cons_succ, List.drop_succ_cons, List.drop_zero, List.take_succ_cons, List.take_zero, List.length_cons, List.length_nil, List.reverse_cons, List.reverse_nil, List.nil_append, List.cons_append, Option.toList_some, Option.toList_none, va_rf_s, true_and, and_true, true_implies, false_implies, not_true_eq_false, not_false_eq_true, Nat.reduceAdd, Nat.reduceLeDiff, Nat.le_add_left, Nat.zero_le, Nat.le_refl, true_or, or_true, b01_t, b01_f, b01_ok, bool_ft, vp_b01, vp_b0, vp_b1, b01_eq0, b01_eq1, implies_true, zneq, hN_ts, hN_to, hN_ns, hN_no, hN_rs, hN_ro, SN_s, SN_o, zur_t, zur_n, zur_rs, zur_rk, zur_ro, nI_add, nI_clamp, zi_in, zi_le_t, zi_le_f, zi_lt_t, zi_lt_f, zi_eq_t, zi_eq_f, nI_leI, nI_ltI, nI_eq, z_in, pk_mul, zu_same, zu_rw, zu_ix, zi_ne0, zi_sub, zi_m1, Nat.add_sub_cancel, Nat.reduceMul, Nat.reduceSub]
    refine ⟨by omega, by omega, ?_⟩
    refine zC.of (zX3_name (by rw [hVE]; exact hc) (by rw [hVE]; exact he) hX2 hI2 hta2 hct hp2) (by omega) (by omega) (by omega) ?_ ?_
    · rintro _ _ ⟨q2, h3, S3, L3, e2, rfl, rfl, g3, p3, st3, hq2⟩
      have hT2 : T = qYo2 A x (tkN A q1.1) q2 := by rw [hT1]; unfold qYou; rw [e2]; rfl
      generalize tkN A q1.1 = nmw at st3 hT2
      have hq24 : q2.1 ≤ 400 := p3.2.2.2.2.1.1
      have tz : zt h3 z = 39 := by
        have : h3 z = hN h z (39, 0, fun _ => none) z := (g3.2 z (Nat.lt_succ_self z)).1
        have e2 : zt h3 z = zt (hN h z (39, 0, fun _ => none)) z := by unfold zt; rw [this]
        rw [e2]; exact hN_ts
      refine sX3_told_290 _ _ _ _ _ ?_
      simp (disch := omega) only [oCI, List.getElem?_cons_zero, List.getElem?_cons_succ, List.set_cons_zero, List.set_cons_succ, List.drop_succ_cons, List.drop_zero, List.take_succ_cons, List.take_zero, List.length_cons, List.length_nil, List.reverse_cons, List.reverse_nil, List.nil_append, List.cons_append, Option.toList_some, Option.toList_none, va_rf_s, true_and, and_true, true_implies, false_implies, not_true_eq_false, not_false_eq_true, Nat.reduceAdd, Nat.reduceLeDiff, Nat.le_add_left, Nat.zero_le, Nat.le_refl, znew, true_or, or_true, b01_t, b01_f, b01_ok, bool_ft, vp_b01, vp_b0, vp_b1, b01_eq0, b01_eq1, implies_true, nI_add, nI_clamp, zi_in, zi_le_t, zi_le_f, zi_lt_t, zi_lt_f, zi_eq_t, zi_eq_f, nI_leI, nI_ltI, nI_eq, z_in, pk_mul, zu_same, zu_rw, zu_ix, zi_ne0, zi_sub, zi_m1, Nat.add_sub_cancel, Nat.reduceMul, Nat.reduceSub]
      refine zC.ofN (zX19_init tz) (by omega) (by omega) (by omega) ?_
      rintro _ _ ⟨rfl, rfl⟩
      have g4 : pG c (z, h, S, L) (z + 1 + 4, zur h3 z 0 (some (z + 1 + 2)), S3, L3) := (g1.tr g3).up (fun b hb => zur_ne (by have hb' : b < z := hb; omega)) (fun _ _ => rfl)
      have tz4 : zt (zur h3 z 0 (some (z + 1 + 2))) z = 39 := by rw [zur_t]; exact tz
      have rz4 : zr (zur h3 z 0 (some (z + 1 + 2))) z 0 = some (z + 1 + 2) := zur_rs
      have st4 : isSt (zur h3 z 0 (some (z + 1 + 2))) S3 (fun a => z + 1 ≤ a ∧ a < z + 1 + 4) (z + 1 + 2) nmw := st3.fr (fun _ _ => rfl) (fun b hb => zur_ne (by omega)) (fun _ hb => hb)
      generalize zur h3 z 0 (some (z + 1 + 2)) = h4 at g4 tz4 rz4 st4
      have hX4 : pX c (z + 1 + 4) h4 S3 P A N := hX.g (X := (z, h, S, L)) g4
      have hB := hX4.1
      refine sX3_told_293 _ _ _ _ _ ?_
      simp (disch := omega) only [oAld, oAst, oCV, oPush, hB.pk, List.getElem?_cons_zero, List.getElem?_cons_succ, List.set_cons_zero, List.set_cons_succ, List.drop_succ_cons, List.drop_zero, List.take_succ_cons, List.take_zero, List.length_cons, List.length_nil, List.reverse_cons, List.reverse_nil, List.nil_append, List.cons_append, Option.toList_some, Option.toList_none, va_rf_s, true_and, and_true, true_implies, false_implies, not_true_eq_false, not_false_eq_true, Nat.reduceAdd, Nat.reduceLeDiff, Nat.le_add_left, Nat.zero_le, Nat.le_refl, znew, true_or, or_true, b01_t, b01_f, b01_ok, bool_ft, vp_b01, vp_b0, vp_b1, b01_eq0, b01_eq1, implies_true, nI_add, nI_clamp, zi_in, zi_le_t, zi_le_f, zi_lt_t, zi_lt_f, zi_eq_t, zi_eq_f, nI_leI, nI_ltI, nI_eq, z_in, pk_mul, zu_same, zu_rw, zu_ix, zi_ne0, zi_sub, zi_m1, Nat.add_sub_cancel, Nat.reduceMul, Nat.reduceSub]
      refine zC.of (zX3_number hX4 p3 (lo := 10) (hi := 40) (by omega) (by omega)) (by omega) (by omega) (by omega) ?_ ?_
      · rintro _ _ ⟨va, q3, S5, e5, rfl, rfl, f5, p5⟩
        have hq3 := (num_ok e5).1
        have hT3 : T = qYo3 A x nmw va q3 := by rw [hT2]; unfold qYo2; rw [e5]; rfl
        have g6 : pG c (z, h, S, L) (z + 1 + 4, h4, zu S5 z 1 (nI va), L3) := (g4.tr (pG.s f5)).up (fun _ _ => rfl) (fun b hb => zu_rw _ _ (by have hb' : b < z := hb; omega))
        have hX6 : pX c (z + 1 + 4) h4 (zu S5 z 1 (nI va)) P A N := hX.g (X := (z, h, S, L)) g6
        have p6 : pI c (zu S5 z 1 (nI va)) N q3 0 := p5.r (zu_rw _ _ (by omega))
        have hq34 := p6.2.2.2.2.1.1
        have st6 : isSt h4 (zu S5 z 1 (nI va)) (fun a => z + 1 ≤ a ∧ a < z + 1 + 4) (z + 1 + 2) nmw := st4.fr (fun b hb => by rw [zu_rw _ _ (by omega)]; exact f5 b (by omega) (by omega)) (fun _ _ => rfl) (fun _ hb => hb)
        refine sX3_told_303 _ _ _ _ _ ?_
        simp (disch := omega) only [oAld, oCV, oPI, oPush, hB.pk, tz4, List.getElem?_cons_zero, List.getElem?_cons_succ, List.set_cons_zero, List.set_cons_succ, List.drop_succ_cons, List.drop_zero, List.take_succ_cons, List.take_zero, List.length_cons, List.length_nil, List.reverse_cons, List.reverse_nil, List.nil_append, List.cons_append, Option.toList_some, Option.toList_none, va_rf_s, true_and, and_true, true_implies, false_implies, not_true_eq_false, not_false_eq_true, Nat.reduceAdd, Nat.reduceLeDiff, Nat.le_add_left, Nat.zero_le, Nat.le_refl, znew, true_or, or_true, b01_t, b01_f, b01_ok, bool_ft, vp_b01, vp_b0, vp_b1, b01_eq0, b01_eq1, implies_true, nI_add, nI_clamp, zi_in, zi_le_t, zi_le_f, zi_lt_t, zi_lt_f, zi_eq_t, zi_eq_f, nI_leI, nI_ltI, nI_eq, z_in, pk_mul, zu_same, zu_rw, zu_ix, zi_ne0, zi_sub, zi_m1, Nat.add_sub_cancel, Nat.reduceMul, Nat.reduceSub]
        refine zC.of (zX3_number hX6 p6 (lo := 0) (hi := 9) (by omega) (by omega)) (by omega) (by omega) (by omega) ?_ ?_
        · rintro _ _ ⟨vt, q4, S7, e7, rfl, rfl, f7, p7⟩
          have hq4 := (num_ok e7).1
          have hT4 : T = qYo4 A x nmw va vt q4 := by rw [hT3]; unfold qYo3; rw [e7]; rfl
          have g8 : pG c (z, h, S, L) (z + 1 + 4, h4, zu S7 z 2 (nI vt), L3) := (g6.tr (pG.s f7)).up (fun _ _ => rfl) (fun b hb => zu_rw _ _ (by have hb' : b < z := hb; omega))
          have hX8 : pX c (z + 1 + 4) h4 (zu S7 z 2 (nI vt)) P A N := hX.g (X := (z, h, S, L)) g8
          have p8 : pI c (zu S7 z 2 (nI vt)) N q4 0 := p7.r (zu_rw _ _ (by omega))
          have hq44 := p8.2.2.2.2.1.1
          have hm4 : q4.1 + 1 ≤ mx T := by
            rw [hT4]
            exact mx1 (by omega) (fun r4 e4 => by
              have h4 := kn_ok (v := r4.1) (q2 := r4.2) e4
              show q4.1 + 1 ≤ r4.2.1; omega)
          have hp8 : txP (z + 1 + 4) h4 (zu S7 z 2 (nI vt)) ta dE eA B x := hp.g hct g8
          have st8 : isSt h4 (zu S7 z 2 (nI vt)) (fun a => z + 1 ≤ a ∧ a < z + 1 + 4) (z + 1 + 2) nmw := st6.fr (fun b hb => by rw [zu_rw _ _ (by omega)]; exact f7 b (by omega) (by omega)) (fun _ _ => rfl) (fun _ hb => hb)
          have s81 : zu S7 z 2 (nI vt) z 1 = nI va := by rw [zu_ix _ _ (by omega), f7 z (by omega) (by omega), zu_same]
          have s82 : zu S7 z 2 (nI vt) z 2 = nI vt := zu_same _ _ _ _
          obtain ⟨tt8, ⟨r08, -⟩, -⟩ := hp8.lt
          have hta8 : zr h4 (c + 9) 2 = some ta := by
            have : h4 (c + 9) = h (c + 9) := (g8.2 (c + 9) (show c + 9 < z by omega)).1
            unfold zr; rw [this]; exact hta
          refine sX3_told_314 _ _ _ _ _ ?_
          simp (disch := omega) only [oAld, oCV, oGR, oPI, hB.pk, tz4, hta8, tt8, r08, List.getElem?_cons_zero, List.getElem?_cons_succ, List.set_cons_zero, List.set_cons_succ, List.drop_succ_cons, List.drop_zero, List.take_succ_cons, List.take_zero, List.length_cons, List.length_nil, List.reverse_cons, List.reverse_nil, List.nil_append, List.cons_append, Option.toList_some, Option.toList_none, va_rf_s, true_and, and_true, true_implies, false_implies, not_true_eq_false, not_false_eq_true, Nat.reduceAdd, Nat.reduceLeDiff, Nat.le_add_left, Nat.zero_le, Nat.le_refl, znew, true_or, or_true, b01_t, b01_f, b01_ok, bool_ft, vp_b01, vp_b0, vp_b1, b01_eq0, b01_eq1, implies_true, nI_add, nI_clamp, zi_in, zi_le_t, zi_le_f, zi_lt_t, zi_lt_f, zi_eq_t, zi_eq_f, nI_leI, nI_ltI, nI_eq, z_in, pk_mul, zu_same, zu_rw, zu_ix, zi_ne0, zi_sub, zi_m1, Nat.add_sub_cancel, Nat.reduceMul, Nat.reduceSub]
          generalize zu S7 z 2 (nI vt) = S8 at g8 hX8 p8 hp8 st8 s81 s82
          refine zC.of (zX3_known (by rw [hVE]; exact hc) (by rw [hVE]; exact he) hX8 p8 hct hp8) (by omega) (by omega) (by omega) ?_ ?_
          · rintro _ _ ⟨v2, q5, h9, S9, L9, e9, rfl, rfl, g9, p9, hq5⟩
            have hT5 : T = .ok (addY x (nmw, va, vt, oM v2), q5) := by rw [hT4]; unfold qYo4; rw [e9]; rfl
            have o9 : ∀ b, z ≤ b → b < z + 1 + 4 → h9 b = h4 b ∧ S9 b = S8 b := fun b h1 h2 => ⟨(g9.2 b h2).1, (g9.2 b h2).2.1 (by omega) (by omega)⟩
            have tz9 : zt h9 z = 39 := by unfold zt; rw [(o9 z (by omega) (by omega)).1]; exact tz4
            have ga : pG c (z, h, S, L) (z + 1 + 4 + 4, h9, zu S9 z 3 (oM v2), L9) := (g8.tr g9).up (fun _ _ => rfl) (fun b hb => zu_rw _ _ (by have hb' : b < z := hb; omega))
            have hpa : txP (z + 1 + 4 + 4) h9 (zu S9 z 3 (oM v2)) ta dE eA B x := hp.g hct ga
            obtain ⟨tta, ⟨-, -, r2a, -⟩, -, -, lta, -⟩ := hpa.lt
            have htaa : zr h9 (c + 9) 2 = some ta := by
              have : h9 (c + 9) = h (c + 9) := (ga.2 (c + 9) (show c + 9 < z by omega)).1
              unfold zr; rw [this]; exact hta
            have sa := (hpa.2.1 2 (by omega)).2.1
            have hn10 : xn x 2 < 10 := by have := hb.2.2.1; omega
            have hB : isC h9 c := (hX.g (X := (z, h, S, L)) ga).1
            have item : itY h9 (zu S9 z 3 (oM v2)) (txd ta (z + 1 + 4 + 4) eA x) z (nmw, va, vt, oM v2) := by
              refine ⟨hp.nw (Nat.le_refl _) (by omega), tz9, ⟨z + 1 + 2, by unfold zr; rw [(o9 z (by omega) (by omega)).1]; exact rz4, st8.fr (fun b hb => by rw [zu_rw _ _ (by omega)]; exact (o9 b (by omega) (by omega)).2) (fun b hb => (o9 b (by omega) (by omega)).1) (fun b hb => hp.nw (by omega) (by omega))⟩, ?_, ?_, zu_same _ _ _ _⟩
              · rw [zu_ix _ _ (by omega), (o9 z (by omega) (by omega)).2]; exact s81
              · rw [zu_ix _ _ (by omega), (o9 z (by omega) (by omega)).2]; exact s82
            refine sX3_told_329 _ _ _ _ _ ?_
            simp (disch := omega) only [oAld, oCV, oGR, oPI, hB.pk, tz9, htaa, tta, r2a, lta, List.getElem?_cons_zero, List.getElem?_cons_succ, List.set_cons_zero, List.set_cons_succ, List.drop_succ_cons, List.drop_zero, List.take_succ_cons, List.take_zero, List.length_cons, List.length_nil, List.reverse_cons, List.reverse_nil, List.nil_append, List.cons_append, Option.toList_some, Option.toList_none, va_rf_s, true_and, and_true, true_implies, false_implies, not_true_eq_false, not_false_eq_true, Nat.reduceAdd, Nat.reduceLeDiff, Nat.le_add_left, Nat.zero_le, Nat.le_refl, znew, true_or, or_true, b01_t, b01_f, b01_ok, bool_ft, vp_b01, vp_b0, vp_b1, b01_eq0, b01_eq1, implies_true, nI_add, nI_clamp, zi_in, zi_le_t, zi_le_f, zi_lt_t, zi_lt_f, zi_eq_t, zi_eq_f, nI_leI, nI_ltI, nI_eq, z_in, pk_mul, zu_same, zu_rw, zu_ix, zi_ne0, zi_sub, zi_m1, Nat.add_sub_cancel, Nat.reduceMul, Nat.reduceSub]
            refine zC.ofN (zJ5_add (k := 19) (n := xn x 2) (e := eA 2) (by rw [hVE]; exact hd) lta (by omega) sa hn10 tz9 (by simp) (show z < z + 1 + 4 + 4 by omega) (hpa.ad (k := 2) (by omega))) (by omega) (by omega) (by omega) ?_
            rintro _ X5 ⟨rfl, hl⟩
            obtain ⟨zf, hf, Sf, Lf⟩ := X5
            obtain ⟨eA', B', hpf, hzf, hzf', frf⟩ := txP.add (k := 2) (x' := addY x (nmw, va, vt, oM v2)) (by omega) hpa hn10 (by omega) hl (fun j hj => xn_add.2.2.1 _ j hj) rfl rfl (fun eA' B' fr hB r5 => by rw [r5]; exact ((hpa.2.2.1).addY item hB).fr (fun a ha => (fr a ha).2.1) (fun a ha => (fr a ha).1) (fun a ha => (fr a ha).2.2))
            have gf : pG c (ta, h, S, L) (zf, hf, Sf, Lf) := ga.ad (by omega) hzf frf
            refine sX3_told_343 _ _ _ _ _ ?_
            simp (disch := omega) only [oNop, oPop, oRV, List.getElem?_cons_zero, List.getElem?_cons_succ, List.set_cons_zero, List.set_cons_succ, List.drop_succ_cons, List.drop_zero, List.take_succ_cons, List.take_zero, List.length_cons, List.length_nil, List.reverse_cons, List.reverse_nil, List.nil_append, List.cons_append, Option.toList_some, Option.toList_none, va_rf_s, true_and, and_true, true_implies, false_implies, not_true_eq_false, not_false_eq_true, Nat.reduceAdd, Nat.reduceLeDiff, Nat.le_add_left, Nat.zero_le, Nat.le_refl, znew, true_or, or_true, b01_t, b01_f, b01_ok, bool_ft, vp_b01, vp_b0, vp_b1, b01_eq0, b01_eq1, implies_true, nI_add, nI_clamp, zi_in, zi_le_t, zi_le_f, zi_lt_t, zi_lt_f, zi_eq_t, zi_eq_f, nI_leI, nI_ltI, nI_eq, z_in, pk_mul, zu_same, zu_rw, zu_ix, zi_ne0, zi_sub, zi_m1, Nat.add_sub_cancel, Nat.reduceMul, Nat.reduceSub]
            refine hV.fin hT5 (by omega) (by omega) gf (p9.r ?_) hpf ⟨hb.1, hb.2.1, by show (xY x ++ [_]).length ≤ 6; rw [List.length_append, List.length_singleton]; have := hb.2.2.1; omega, hb.2.2.2⟩
            rw [(frf (c + 9) (by omega)).2.1, zu_rw _ _ (by omega)]
          · rintro _ _ ⟨e, z9, h9, S9, L9, e9, rfl, rfl, g9, f4⟩
            exact hV.err _ (by rw [hT4]; unfold qYo4; rw [e9]; rfl) (by omega) (by omega) ((g8.tr g9).lo (by omega)) f4
        · rintro _ _ ⟨e, S7, e7, rfl, rfl, f7, f4⟩
          exact hV.err _ (by rw [hT3]; unfold qYo3; rw [e7]; rfl) (by omega) (by omega) ((g6.tr (pG.s f7)).lo (by omega)) f4
      · rintro _ _ ⟨e, S5, e5, rfl, rfl, f5, f4⟩
        exact hV.err _ (by rw [hT2]; unfold qYo2; rw [e5]; rfl) (by omega) (by omega) ((g4.tr (pG.s f5)).lo (by omega)) f4
    · rintro _ _ ⟨e, z3, h3, S3, L3, e2, rfl, rfl, g3, f4⟩
      exact hV.err _ (by rw [hT1]; unfold qYou; rw [e2]; rfl) (by omega) (by omega) ((g1.tr g3).lo (by omega)) f4
  · rintro _ _ ⟨e, S1, e1, rfl, rfl, f1, f4⟩
    exact hV.err _ (by rw [hT, ← hx2, e1]; rfl) (by omega) (by omega) ((pG.s f1).lo (by omega)) f4
theorem td_word (hV : tdV V h S L E c N ta dE q T) (hT : T = pB (pOpen A (xW x).length 5 q) (qWor A x)) (hx : tdX E c z h S P A N ta dE eA B x) (hI : pI c S N q 0) (hnx : q.1 + 1 < N) : zW V YX3_told 347 [some (.ref (c + 9)), some (.int w), none, none] [] (z, h, S, L) 0 0 := by
  obtain ⟨⟨hVE, hVd⟩, ⟨hVc, hVs⟩, -⟩ := id hV
  obtain ⟨⟨hc, he, hd⟩, hX, hta, hct, hp, hb⟩ := hx
  have hB := hX.1
  have hq4 := hI.2.2.2.2.1.1
  obtain ⟨tt, ⟨r0, r1, r2, r3⟩, lt0, lt1, lt2, lt3⟩ := hp.lt
  have htz : ta + 6 ≤ z := hp.2.2.2.2.1
  have hcz := hX.2.1
  have hx3 : xn x 3 = (xW x).length := rfl
  refine sX3_told_347 _ _ _ _ _ ?_
  simp (disch := omega) only [oAld, oCV, oGR, hB.pk, hta, tt, r3, lt3, List.getElem?_cons_zero, List.getElem?_cons_succ, List.set_cons_zero, List.set_cons_succ, List.drop_succ_cons, List.drop_zero, List.take_succ_cons, List.take_zero, List.length_cons, List.length_nil, List.reverse_cons, List.reverse_nil, List.nil_append, List.cons_append, Option.toList_some, Option.toList_none, va_rf_s, true_and, and_true, true_implies, false_implies, not_true_eq_false, not_false_eq_true, Nat.reduceAdd, Nat.reduceLeDiff, Nat.le_add_left, Nat.zero_le, Nat.le_refl, znew, true_or, or_true, b01_t, b01_f, b01_ok, bool_ft, vp_b01, vp_b0, vp_b1, b01_eq0, b01_eq1, implies_true, nI_add, nI_clamp, zi_in, zi_le_t, zi_le_f, zi_lt_t, zi_lt_f, zi_eq_t, zi_eq_f, nI_leI, nI_ltI, nI_eq, z_in, pk_mul, zu_same, zu_rw, zu_ix, zi_ne0, zi_sub, zi_m1, Nat.add_sub_cancel, Nat.reduceMul, Nat.reduceSub]
  refine zC.of0 (zJ5_size (hp.ls (k := 3) (by omega))) (by omega) (Nat.zero_le _) (Nat.zero_le _) ?_
  rintro _ _ ⟨rfl, rfl⟩
  refine sX3_told_358 _ _ _ _ _ ?_
  simp (disch := omega) only [oCV, oPush, hB.pk, List.getElem?_cons_zero, List.getElem?_cons_succ, List.set_cons_zero, List.set_cons_succ, List.drop_succ_cons, List.drop_zero, List.take_succ_cons, List.take_zero, List.length_cons, List.length_nil, List.reverse_cons, List.reverse_nil, List.nil_append, List.cons_append, Option.toList_some, Option.toList_none, va_rf_s, true_and, and_true, true_implies, false_implies, not_true_eq_false, not_false_eq_true, Nat.reduceAdd, Nat.reduceLeDiff, Nat.le_add_left, Nat.zero_le, Nat.le_refl, znew, true_or, or_true, b01_t, b01_f, b01_ok, bool_ft, vp_b01, vp_b0, vp_b1, b01_eq0, b01_eq1, implies_true, nI_add, nI_clamp, zi_in, zi_le_t, zi_le_f, zi_lt_t, zi_lt_f, zi_eq_t, zi_eq_f, nI_leI, nI_ltI, nI_eq, z_in, pk_mul, zu_same, zu_rw, zu_ix, zi_ne0, zi_sub, zi_m1, Nat.add_sub_cancel, Nat.reduceMul, Nat.reduceSub]
  refine zC.of (zX3_begins (n := xn x 3) (m := 5) hX hI hnx (by have := hb.2.2.2; omega) (by omega)) (by omega) (by omega) (by omega) ?_ ?_
  · rintro _ _ ⟨rfl, q1, S1, e1, rfl, f1, p1⟩
    obtain ⟨eq1, h4, hne⟩ := open_ok e1
    have hq1 : q1.1 = q.1 + 1 := by rw [eq1]
    have hT1 : T = qWor A x q1 := by rw [hT, ← hx3, e1]; rfl
    have hq14 : q1.1 ≤ 400 := p1.2.2.2.2.1.1
    have hm1 : q1.1 + 1 ≤ mx T := by
      rw [hT1]
      exact mx1 (by omega) (fun r1 e1 => by
        have h1 := nme_ok e1
        exact mx1 (by omega) (fun r2 e2 => by
          have h2 := num_ok (v := r2.1) (q2 := r2.2) e2
          show q1.1 + 1 ≤ r2.2.1; omega))
    have g1 : pG c (z, h, S, L) (z + 1, hN h z (40, 0, fun _ => none), SN S1 z, LN L z) := pG.new f1 (fun a ha => SN_o (by omega))
    have hX2 : pX c (z + 1) (hN h z (40, 0, fun _ => none)) (SN S1 z) P A N := hX.g (X := (z, h, S, L)) g1
    have hI2 : pI c (SN S1 z) N q1 0 := p1.n hcz
    have hp2 : txP (z + 1) (hN h z (40, 0, fun _ => none)) (SN S1 z) ta dE eA B x := hp.g hct g1
    have hta2 : zr (hN h z (40, 0, fun _ => none)) (c + 9) 2 = some ta := by rw [hN_ro (by omega)]; exact hta
    refine sX3_told_362 _ _ _ _ _ ?_
    simp (disch := omega) only [oAld, oCV, oDup, oNew, hB.pk, hVc, hVs, List.getElem?_cons_zero, List.getElem?_cons_succ, List.set_cons_zero, List.set_cons_succ, List.drop_succ_cons, List.drop_zero, List.take_succ_cons, List.take_zero, List.length_cons, List.length_nil, List.reverse_cons, List.reverse_nil, List.nil_append, List.cons_append, Option.toList_some, Option.toList_none, va_rf_s, true_and, and_true, true_implies, false_implies, not_true_eq_false, not_false_eq_true, Nat.reduceAdd, Nat.reduceLeDiff, Nat.le_add_left, Nat.zero_le, Nat.le_refl, true_or, or_true, b01_t, b01_f, b01_ok, bool_ft, vp_b01, vp_b0, vp_b1, b01_eq0, b01_eq1, implies_true, zneq, hN_ts, hN_to, hN_ns, hN_no, hN_rs, hN_ro, SN_s, SN_o, zur_t, zur_n, zur_rs, zur_rk, zur_ro, nI_add, nI_clamp, zi_in, zi_le_t, zi_le_f, zi_lt_t, zi_lt_f, zi_eq_t, zi_eq_f, nI_leI, nI_ltI, nI_eq, z_in, pk_mul, zu_same, zu_rw, zu_ix, zi_ne0, zi_sub, zi_m1, Nat.add_sub_cancel, Nat.reduceMul, Nat.reduceSub]
    refine ⟨by omega, by omega, ?_⟩
    refine zC.of (zX3_name (by rw [hVE]; exact hc) (by rw [hVE]; exact he) hX2 hI2 hta2 hct hp2) (by omega) (by omega) (by omega) ?_ ?_
    · rintro _ _ ⟨q2, h3, S3, L3, e2, rfl, rfl, g3, p3, st3, hq2⟩
      have hT2 : T = qWo2 A x (tkN A q1.1) q2 := by rw [hT1]; unfold qWor; rw [e2]; rfl
      generalize tkN A q1.1 = nmw at st3 hT2
      have hq24 : q2.1 ≤ 400 := p3.2.2.2.2.1.1
      have tz : zt h3 z = 40 := by
        have : h3 z = hN h z (40, 0, fun _ => none) z := (g3.2 z (Nat.lt_succ_self z)).1
        have e2 : zt h3 z = zt (hN h z (40, 0, fun _ => none)) z := by unfold zt; rw [this]
        rw [e2]; exact hN_ts
      refine sX3_told_370 _ _ _ _ _ ?_
      simp (disch := omega) only [oCI, List.getElem?_cons_zero, List.getElem?_cons_succ, List.set_cons_zero, List.set_cons_succ, List.drop_succ_cons, List.drop_zero, List.take_succ_cons, List.take_zero, List.length_cons, List.length_nil, List.reverse_cons, List.reverse_nil, List.nil_append, List.cons_append, Option.toList_some, Option.toList_none, va_rf_s, true_and, and_true, true_implies, false_implies, not_true_eq_false, not_false_eq_true, Nat.reduceAdd, Nat.reduceLeDiff, Nat.le_add_left, Nat.zero_le, Nat.le_refl, znew, true_or, or_true, b01_t, b01_f, b01_ok, bool_ft, vp_b01, vp_b0, vp_b1, b01_eq0, b01_eq1, implies_true, nI_add, nI_clamp, zi_in, zi_le_t, zi_le_f, zi_lt_t, zi_lt_f, zi_eq_t, zi_eq_f, nI_leI, nI_ltI, nI_eq, z_in, pk_mul, zu_same, zu_rw, zu_ix, zi_ne0, zi_sub, zi_m1, Nat.add_sub_cancel, Nat.reduceMul, Nat.reduceSub]
      refine zC.ofN (zX20_init tz) (by omega) (by omega) (by omega) ?_
      rintro _ _ ⟨rfl, rfl⟩
      have g4 : pG c (z, h, S, L) (z + 1 + 4, zur h3 z 0 (some (z + 1 + 2)), S3, L3) := (g1.tr g3).up (fun b hb => zur_ne (by have hb' : b < z := hb; omega)) (fun _ _ => rfl)
      have tz4 : zt (zur h3 z 0 (some (z + 1 + 2))) z = 40 := by rw [zur_t]; exact tz
      have rz4 : zr (zur h3 z 0 (some (z + 1 + 2))) z 0 = some (z + 1 + 2) := zur_rs
      have st4 : isSt (zur h3 z 0 (some (z + 1 + 2))) S3 (fun a => z + 1 ≤ a ∧ a < z + 1 + 4) (z + 1 + 2) nmw := st3.fr (fun _ _ => rfl) (fun b hb => zur_ne (by omega)) (fun _ hb => hb)
      generalize zur h3 z 0 (some (z + 1 + 2)) = h4 at g4 tz4 rz4 st4
      have hX4 : pX c (z + 1 + 4) h4 S3 P A N := hX.g (X := (z, h, S, L)) g4
      have hB := hX4.1
      refine sX3_told_373 _ _ _ _ _ ?_
      simp (disch := omega) only [oAld, oAst, oCV, oPush, hB.pk, List.getElem?_cons_zero, List.getElem?_cons_succ, List.set_cons_zero, List.set_cons_succ, List.drop_succ_cons, List.drop_zero, List.take_succ_cons, List.take_zero, List.length_cons, List.length_nil, List.reverse_cons, List.reverse_nil, List.nil_append, List.cons_append, Option.toList_some, Option.toList_none, va_rf_s, true_and, and_true, true_implies, false_implies, not_true_eq_false, not_false_eq_true, Nat.reduceAdd, Nat.reduceLeDiff, Nat.le_add_left, Nat.zero_le, Nat.le_refl, znew, true_or, or_true, b01_t, b01_f, b01_ok, bool_ft, vp_b01, vp_b0, vp_b1, b01_eq0, b01_eq1, implies_true, nI_add, nI_clamp, zi_in, zi_le_t, zi_le_f, zi_lt_t, zi_lt_f, zi_eq_t, zi_eq_f, nI_leI, nI_ltI, nI_eq, z_in, pk_mul, zu_same, zu_rw, zu_ix, zi_ne0, zi_sub, zi_m1, Nat.add_sub_cancel, Nat.reduceMul, Nat.reduceSub]
      refine zC.of (zX3_number hX4 p3 (lo := 0) (hi := 99) (by omega) (by omega)) (by omega) (by omega) (by omega) ?_ ?_
      · rintro _ _ ⟨va, q3, S5, e5, rfl, rfl, f5, p5⟩
        have hq3 := (num_ok e5).1
        have hT3 : T = .ok (addW x (nmw, va), q3) := by rw [hT2]; unfold qWo2; rw [e5]; rfl
        have ga : pG c (z, h, S, L) (z + 1 + 4, h4, zu S5 z 1 (nI va), L3) := (g4.tr (pG.s f5)).up (fun _ _ => rfl) (fun b hb => zu_rw _ _ (by have hb' : b < z := hb; omega))
        have hpa : txP (z + 1 + 4) h4 (zu S5 z 1 (nI va)) ta dE eA B x := hp.g hct ga
        obtain ⟨tta, ⟨-, -, -, r3a⟩, -, -, -, lta⟩ := hpa.lt
        have htaa : zr h4 (c + 9) 2 = some ta := by
          have : h4 (c + 9) = h (c + 9) := (ga.2 (c + 9) (show c + 9 < z by omega)).1
          unfold zr; rw [this]; exact hta
        have sa := (hpa.2.1 3 (by omega)).2.1
        have hn10 : xn x 3 < 10 := by have := hb.2.2.2; omega
        have item : itW h4 (zu S5 z 1 (nI va)) (txd ta (z + 1 + 4) eA x) z (nmw, va) := ⟨hp.nw (Nat.le_refl _) (by omega), tz4, ⟨z + 1 + 2, rz4, st4.fr (fun b hb => by rw [zu_rw _ _ (by omega)]; exact f5 b (by omega) (by omega)) (fun _ _ => rfl) (fun b hb => hp.nw (by omega) (by omega))⟩, zu_same _ _ _ _⟩
        refine sX3_told_382 _ _ _ _ _ ?_
        simp (disch := omega) only [oAld, oCV, oGR, oPI, hB.pk, tz4, htaa, tta, r3a, lta, List.getElem?_cons_zero, List.getElem?_cons_succ, List.set_cons_zero, List.set_cons_succ, List.drop_succ_cons, List.drop_zero, List.take_succ_cons, List.take_zero, List.length_cons, List.length_nil, List.reverse_cons, List.reverse_nil, List.nil_append, List.cons_append, Option.toList_some, Option.toList_none, va_rf_s, true_and, and_true, true_implies, false_implies, not_true_eq_false, not_false_eq_true, Nat.reduceAdd, Nat.reduceLeDiff, Nat.le_add_left, Nat.zero_le, Nat.le_refl, znew, true_or, or_true, b01_t, b01_f, b01_ok, bool_ft, vp_b01, vp_b0, vp_b1, b01_eq0, b01_eq1, implies_true, nI_add, nI_clamp, zi_in, zi_le_t, zi_le_f, zi_lt_t, zi_lt_f, zi_eq_t, zi_eq_f, nI_leI, nI_ltI, nI_eq, z_in, pk_mul, zu_same, zu_rw, zu_ix, zi_ne0, zi_sub, zi_m1, Nat.add_sub_cancel, Nat.reduceMul, Nat.reduceSub]
        refine zC.ofN (zJ5_add (k := 20) (n := xn x 3) (e := eA 3) (by rw [hVE]; exact hd) lta (by omega) sa hn10 tz4 (by simp) (show z < z + 1 + 4 by omega) (hpa.ad (k := 3) (by omega))) (by omega) (by omega) (by omega) ?_
        rintro _ X5 ⟨rfl, hl⟩
        obtain ⟨zf, hf, Sf, Lf⟩ := X5
        obtain ⟨eA', B', hpf, hzf, hzf', frf⟩ := txP.add (k := 3) (x' := addW x (nmw, va)) (by omega) hpa hn10 (by omega) hl (fun j hj => xn_add.2.2.2 _ j hj) rfl rfl (fun eA' B' fr hB r5 => by rw [r5]; exact ((hpa.2.2.1).addW item hB).fr (fun a ha => (fr a ha).2.1) (fun a ha => (fr a ha).1) (fun a ha => (fr a ha).2.2))
        have gf : pG c (ta, h, S, L) (zf, hf, Sf, Lf) := ga.ad (by omega) hzf frf
        refine sX3_told_396 _ _ _ _ _ ?_
        simp (disch := omega) only [oNop, oPop, oRV, List.getElem?_cons_zero, List.getElem?_cons_succ, List.set_cons_zero, List.set_cons_succ, List.drop_succ_cons, List.drop_zero, List.take_succ_cons, List.take_zero, List.length_cons, List.length_nil, List.reverse_cons, List.reverse_nil, List.nil_append, List.cons_append, Option.toList_some, Option.toList_none, va_rf_s, true_and, and_true, true_implies, false_implies, not_true_eq_false, not_false_eq_true, Nat.reduceAdd, Nat.reduceLeDiff, Nat.le_add_left, Nat.zero_le, Nat.le_refl, znew, true_or, or_true, b01_t, b01_f, b01_ok, bool_ft, vp_b01, vp_b0, vp_b1, b01_eq0, b01_eq1, implies_true, nI_add, nI_clamp, zi_in, zi_le_t, zi_le_f, zi_lt_t, zi_lt_f, zi_eq_t, zi_eq_f, nI_leI, nI_ltI, nI_eq, z_in, pk_mul, zu_same, zu_rw, zu_ix, zi_ne0, zi_sub, zi_m1, Nat.add_sub_cancel, Nat.reduceMul, Nat.reduceSub]
        refine hV.fin hT3 (by omega) (by omega) gf (p5.r ?_) hpf ⟨hb.1, hb.2.1, hb.2.2.1, by show (xW x ++ [_]).length ≤ 5; rw [List.length_append, List.length_singleton]; have := hb.2.2.2; omega⟩
        rw [(frf (c + 9) (by omega)).2.1, zu_rw _ _ (by omega)]
      · rintro _ _ ⟨e, S5, e5, rfl, rfl, f5, f4⟩
        exact hV.err _ (by rw [hT2]; unfold qWo2; rw [e5]; rfl) (by omega) (by omega) ((g4.tr (pG.s f5)).lo (by omega)) f4
    · rintro _ _ ⟨e, z3, h3, S3, L3, e2, rfl, rfl, g3, f4⟩
      exact hV.err _ (by rw [hT1]; unfold qWor; rw [e2]; rfl) (by omega) (by omega) ((g1.tr g3).lo (by omega)) f4
  · rintro _ _ ⟨e, S1, e1, rfl, rfl, f1, f4⟩
    exact hV.err _ (by rw [hT, ← hx3, e1]; rfl) (by omega) (by omega) ((pG.s f1).lo (by omega)) f4
end FK
