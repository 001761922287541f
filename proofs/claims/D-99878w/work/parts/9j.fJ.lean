/-! the component's parser: corners, streets -/
section FJ
variable {V : zV} {E : zE} {z : Nat} {h : Nat → Option zSh} {S : Nat → Nat → Int32} {L : Nat → Nat → Int64} {c : Nat} {P : List Int32} {A : List zTk} {N : Nat} {q : zCu} {ta dE : Nat} {eA : Nat → Nat} {B : Nat → Nat → Nat} {x : zTx} {T : zPR zPX} {w : Int32}
theorem txP.lt (hp : txP z h S ta dE eA B x) : zt h ta = 24 ∧ (zr h ta 0 = some (ta + 1) ∧ zr h ta 1 = some (ta + 2) ∧ zr h ta 2 = some (ta + 3) ∧ zr h ta 3 = some (ta + 4)) ∧ (zt h (ta + 1) = 29 ∧ zt h (ta + 2) = 29 ∧ zt h (ta + 3) = 29 ∧ zt h (ta + 4) = 29) := by
  obtain ⟨⟨a1, a2, a3, a4, a5⟩, b, -⟩ := hp
  exact ⟨a1, ⟨a2 0 (by omega), a2 1 (by omega), a2 2 (by omega), a2 3 (by omega)⟩, (b 0 (by omega)).1, (b 1 (by omega)).1, (b 2 (by omega)).1, (b 3 (by omega)).1⟩
/-- the list's state for 'add' -/
theorem txP.ad (hp : txP z h S ta dE eA B x) {k : Nat} (hk : k < 4) : (xn x k = 0 ∧ zr h (ta + 1 + k) 1 = some dE) ∨ (xn x k ≠ 0 ∧ zr h (ta + 1 + k) 1 = some (eA k) ∧ zt h (eA k) = 9 ∧ zn h (eA k) = 10 ∧ eA k < z) := by
  obtain ⟨b1, b2, b3, b4, b5⟩ := hp.2.1 k hk
  by_cases h0 : xn x k = 0
  · exact Or.inl ⟨h0, b4 h0⟩
  · obtain ⟨c1, c2, c3, c4⟩ := b5 h0
    exact Or.inr ⟨h0, c1, c2, c3, (hp.2.2.2.2.2.1 k hk h0).2⟩
theorem pG.ad {c z ta z4 z5 : Nat} {h h4 h5 : Nat → Option zSh} {S S4 S5 : Nat → Nat → Int32} {L L4 L5 : Nat → Nat → Int64} (g : pG c (z, h, S, L) (z4, h4, S4, L4)) (ht : ta ≤ z) (hz : z4 ≤ z5) (fr : ∀ a, a < ta → h5 a = h4 a ∧ S5 a = S4 a ∧ L5 a = L4 a) : pG c (ta, h, S, L) (z5, h5, S5, L5) := by
  refine ⟨Nat.le_trans ht (Nat.le_trans g.1 hz), fun a ha => ?_⟩
  obtain ⟨o1, o2, o3⟩ := g.2 a (Nat.lt_of_lt_of_le ha ht)
  obtain ⟨w1, w2, w3⟩ := fr a ha
  exact ⟨w1.trans o1, fun y1 y2 => w2.trans (o2 y1 y2), w3.trans o3⟩
theorem td_corner (hV : tdV V h S L E c N ta dE q T) (hT : T = pB (pOpen A (xC x).length 7 q) (qCor A x)) (hx : tdX E c z h S P A N ta dE eA B x) (hI : pI c S N q 0) (hnx : q.1 + 1 < N) : zW V YX3_told 116 [some (.ref (c + 9)), some (.int w), none, none] [] (z, h, S, L) 0 0 := by
  obtain ⟨⟨hVE, hVd⟩, ⟨hVc, hVs⟩, -⟩ := id hV
  obtain ⟨⟨hc, he, hd⟩, hX, hta, hct, hp, hb⟩ := hx
  have hB := hX.1
  have hq4 := hI.2.2.2.2.1.1
  obtain ⟨tt, ⟨r0, -⟩, lt0, -⟩ := hp.lt
  have htz : ta + 6 ≤ z := hp.2.2.2.2.1
  have hx0 : xn x 0 = (xC x).length := rfl
  refine sX3_told_116 _ _ _ _ _ ?_
  simp (disch := omega) only [oAld, oCV, oGR, hB.pk, hta, tt, r0, lt0, List.getElem?_cons_zero, List.getElem?_cons_succ, List.set_cons_zero, List.set_cons_succ, List.drop_succ_cons, List.drop_zero, List.take_succ_cons, List.take_zero, List.length_cons, List.length_nil, List.reverse_cons, List.reverse_nil, List.nil_append, List.cons_append, Option.toList_some, Option.toList_none, va_rf_s, true_and, and_true, true_implies, false_implies, not_true_eq_false, not_false_eq_true, Nat.reduceAdd, Nat.reduceLeDiff, Nat.le_add_left, Nat.zero_le, Nat.le_refl, znew, true_or, or_true, b01_t, b01_f, b01_ok, bool_ft, vp_b01, vp_b0, vp_b1, b01_eq0, b01_eq1, implies_true, nI_add, nI_clamp, zi_in, zi_le_t, zi_le_f, zi_lt_t, zi_lt_f, zi_eq_t, zi_eq_f, nI_leI, nI_ltI, nI_eq, z_in, pk_mul, zu_same, zu_rw, zu_ix, zi_ne0, zi_sub, zi_m1, Nat.add_sub_cancel, Nat.reduceMul, Nat.reduceSub]
  refine zC.of0 (zJ5_size (hp.ls (k := 0) (by omega))) (by omega) (Nat.zero_le _) (Nat.zero_le _) ?_
  rintro _ _ ⟨rfl, rfl⟩
  refine sX3_told_127 _ _ _ _ _ ?_
  simp (disch := omega) only [oCV, oPush, hB.pk, List.getElem?_cons_zero, List.getElem?_cons_succ, List.set_cons_zero, List.set_cons_succ, List.drop_succ_cons, List.drop_zero, List.take_succ_cons, List.take_zero, List.length_cons, List.length_nil, List.reverse_cons, List.reverse_nil, List.nil_append, List.cons_append, Option.toList_some, Option.toList_none, va_rf_s, true_and, and_true, true_implies, false_implies, not_true_eq_false, not_false_eq_true, Nat.reduceAdd, Nat.reduceLeDiff, Nat.le_add_left, Nat.zero_le, Nat.le_refl, znew, true_or, or_true, b01_t, b01_f, b01_ok, bool_ft, vp_b01, vp_b0, vp_b1, b01_eq0, b01_eq1, implies_true, nI_add, nI_clamp, zi_in, zi_le_t, zi_le_f, zi_lt_t, zi_lt_f, zi_eq_t, zi_eq_f, nI_leI, nI_ltI, nI_eq, z_in, pk_mul, zu_same, zu_rw, zu_ix, zi_ne0, zi_sub, zi_m1, Nat.add_sub_cancel, Nat.reduceMul, Nat.reduceSub]
  refine zC.of (zX3_begins (n := xn x 0) (m := 7) hX hI hnx (by have := hb.1; omega) (by omega)) (by omega) (by omega) (by omega) ?_ ?_
  · rintro _ _ ⟨rfl, q1, S1, e1, rfl, f1, p1⟩
    obtain ⟨eq1, h4, hne⟩ := open_ok e1
    have hq1 : q1.1 = q.1 + 1 := by rw [eq1]
    have hT1 : T = qCor A x q1 := by rw [hT, ← hx0, e1]; rfl
    have hq14 : q1.1 ≤ 400 := p1.2.2.2.2.1.1
    have hm1 : q1.1 + 1 ≤ mx T := by
      rw [hT1]
      exact mx1 (by omega) (fun q2 e2 => by have := (nme_ok e2).1; show q1.1 + 1 ≤ q2.1; omega)
    have hcz := hX.2.1
    have g1 : pG c (z, h, S, L) (z + 1, hN h z (37, 0, fun _ => none), SN S1 z, LN L z) := pG.new f1 (fun a ha => SN_o (by omega))
    have hX2 : pX c (z + 1) (hN h z (37, 0, fun _ => none)) (SN S1 z) P A N := hX.g (X := (z, h, S, L)) g1
    have hI2 : pI c (SN S1 z) N q1 0 := p1.n hcz
    have hp2 : txP (z + 1) (hN h z (37, 0, fun _ => none)) (SN S1 z) ta dE eA B x := hp.g hct g1
    have hta2 : zr (hN h z (37, 0, fun _ => none)) (c + 9) 2 = some ta := by rw [hN_ro (by omega)]; exact hta
    refine sX3_told_132 _ _ _ _ _ ?_
    simp (disch := omega) only [oAld, oCV, oDup, oGR, oNew, hB.pk, hta, tt, r0, hVc, hVs, List.getElem?_cons_zero, List.getElem?_cons_succ, List.set_cons_zero, List.set_cons_succ, List.drop_succ_cons, List.drop_zero, List.take_succ_cons, List.take_zero, List.length_cons, List.length_nil, List.reverse_cons, List.reverse_nil, List.nil_append, List.cons_append, Option.toList_some, Option.toList_none, va_rf_s, true_and, and_true, true_implies, false_implies, not_true_eq_false, not_false_eq_true, Nat.reduceAdd, Nat.reduceLeDiff, Nat.le_add_left, Nat.zero_le, Nat.le_refl, true_or, or_true, b01_t, b01_f, b01_ok, bool_ft, vp_b01, vp_b0, vp_b1, b01_eq0, b01_eq1, implies_true, zneq, hN_ts, hN_to, hN_ns, hN_no, hN_rs, hN_ro, SN_s, SN_o, zur_t, zur_n, zur_rs, zur_rk, zur_ro, nI_add, nI_clamp, zi_in, zi_le_t, zi_le_f, zi_lt_t, zi_lt_f, zi_eq_t, zi_eq_f, nI_leI, nI_ltI, nI_eq, z_in, pk_mul, zu_same, zu_rw, zu_ix, zi_ne0, zi_sub, zi_m1, Nat.add_sub_cancel, Nat.reduceMul, Nat.reduceSub]
    refine ⟨by omega, by omega, ?_⟩
    refine zC.of (zX3_name (by rw [hVE]; exact hc) (by rw [hVE]; exact he) hX2 hI2 hta2 hct hp2) (by omega) (by omega) (by omega) ?_ ?_
    · rintro _ _ ⟨q2, h3, S3, L3, e2, rfl, rfl, g3, p3, st3, hq2⟩
      have hT2 : T = .ok (addC x (tkN A q1.1), q2) := by rw [hT1]; unfold qCor; rw [e2]; rfl
      have tz : zt h3 z = 37 := by
        have : h3 z = hN h z (37, 0, fun _ => none) z := (g3.2 z (Nat.lt_succ_self z)).1
        have e2 : zt h3 z = zt (hN h z (37, 0, fun _ => none)) z := by unfold zt; rw [this]
        rw [e2]; exact hN_ts
      refine sX3_told_147 _ _ _ _ _ ?_
      simp (disch := omega) only [oCI, List.getElem?_cons_zero, List.getElem?_cons_succ, List.set_cons_zero, List.set_cons_succ, List.drop_succ_cons, List.drop_zero, List.take_succ_cons, List.take_zero, List.length_cons, List.length_nil, List.reverse_cons, List.reverse_nil, List.nil_append, List.cons_append, Option.toList_some, Option.toList_none, va_rf_s, true_and, and_true, true_implies, false_implies, not_true_eq_false, not_false_eq_true, Nat.reduceAdd, Nat.reduceLeDiff, Nat.le_add_left, Nat.zero_le, Nat.le_refl, znew, true_or, or_true, b01_t, b01_f, b01_ok, bool_ft, vp_b01, vp_b0, vp_b1, b01_eq0, b01_eq1, implies_true, nI_add, nI_clamp, zi_in, zi_le_t, zi_le_f, zi_lt_t, zi_lt_f, zi_eq_t, zi_eq_f, nI_leI, nI_ltI, nI_eq, z_in, pk_mul, zu_same, zu_rw, zu_ix, zi_ne0, zi_sub, zi_m1, Nat.add_sub_cancel, Nat.reduceMul, Nat.reduceSub]
      refine zC.ofN (zX17_init tz) (by omega) (by omega) (by omega) ?_
      rintro _ _ ⟨rfl, rfl⟩
      have g4 : pG c (z, h, S, L) (z + 1 + 4, zur h3 z 0 (some (z + 1 + 2)), S3, L3) := (g1.tr g3).up (fun b hb => zur_ne (by have hb' : b < z := hb; omega)) (fun _ _ => rfl)
      have hp4 : txP (z + 1 + 4) (zur h3 z 0 (some (z + 1 + 2))) S3 ta dE eA B x := hp.g hct g4
      obtain ⟨-, -, lt4, -⟩ := hp4.lt
      have s4 := (hp4.2.1 0 (by omega)).2.1
      have hn10 : xn x 0 < 10 := by have := hb.1; omega
      refine sX3_told_150 _ _ _ _ _ ?_
      simp (disch := omega) only [oCV, lt4, List.getElem?_cons_zero, List.getElem?_cons_succ, List.set_cons_zero, List.set_cons_succ, List.drop_succ_cons, List.drop_zero, List.take_succ_cons, List.take_zero, List.length_cons, List.length_nil, List.reverse_cons, List.reverse_nil, List.nil_append, List.cons_append, Option.toList_some, Option.toList_none, va_rf_s, true_and, and_true, true_implies, false_implies, not_true_eq_false, not_false_eq_true, Nat.reduceAdd, Nat.reduceLeDiff, Nat.le_add_left, Nat.zero_le, Nat.le_refl, znew, true_or, or_true, b01_t, b01_f, b01_ok, bool_ft, vp_b01, vp_b0, vp_b1, b01_eq0, b01_eq1, implies_true, nI_add, nI_clamp, zi_in, zi_le_t, zi_le_f, zi_lt_t, zi_lt_f, zi_eq_t, zi_eq_f, nI_leI, nI_ltI, nI_eq, z_in, pk_mul, zu_same, zu_rw, zu_ix, zi_ne0, zi_sub, zi_m1, Nat.add_sub_cancel, Nat.reduceMul, Nat.reduceSub]
      refine zC.ofN (zJ5_add (k := 17) (n := xn x 0) (e := eA 0) (by rw [hVE]; exact hd) lt4 (by omega) s4 hn10 (by rw [zur_t]; exact tz) (by simp) (show z < z + 1 + 4 by omega) (hp4.ad (k := 0) (by omega))) (by omega) (by omega) (by omega) ?_
      rintro _ X5 ⟨rfl, hl⟩
      obtain ⟨z5, h5, S5, L5⟩ := X5
      have item : itC (zur h3 z 0 (some (z + 1 + 2))) S3 (txd ta (z + 1 + 4) eA x) z (tkN A q1.1) := ⟨hp.nw (Nat.le_refl _) (by omega), by rw [zur_t]; exact tz, z + 1 + 2, zur_rs, st3.fr (fun _ _ => rfl) (fun b hb => zur_ne (by omega)) (fun b hb => hp.nw (by omega) (by omega))⟩
      obtain ⟨eA', B', hp5, hz5, hz5', fr5⟩ := txP.add (k := 0) (x' := addC x (tkN A q1.1)) (by omega) hp4 hn10 (by omega) hl (fun j hj => xn_add.1 _ j hj) rfl rfl (fun eA' B' fr hB r5 => by rw [r5]; exact ((hp4.2.2.1).addC item hB).fr (fun a ha => (fr a ha).2.1) (fun a ha => (fr a ha).1) (fun a ha => (fr a ha).2.2))
      have g5 : pG c (ta, h, S, L) (z5, h5, S5, L5) := g4.ad (by omega) hz5 fr5
      refine sX3_told_153 _ _ _ _ _ ?_
      simp (disch := omega) only [oNop, oPop, oRV, List.getElem?_cons_zero, List.getElem?_cons_succ, List.set_cons_zero, List.set_cons_succ, List.drop_succ_cons, List.drop_zero, List.take_succ_cons, List.take_zero, List.length_cons, List.length_nil, List.reverse_cons, List.reverse_nil, List.nil_append, List.cons_append, Option.toList_some, Option.toList_none, va_rf_s, true_and, and_true, true_implies, false_implies, not_true_eq_false, not_false_eq_true, Nat.reduceAdd, Nat.reduceLeDiff, Nat.le_add_left, Nat.zero_le, Nat.le_refl, znew, true_or, or_true, b01_t, b01_f, b01_ok, bool_ft, vp_b01, vp_b0, vp_b1, b01_eq0, b01_eq1, implies_true, nI_add, nI_clamp, zi_in, zi_le_t, zi_le_f, zi_lt_t, zi_lt_f, zi_eq_t, zi_eq_f, nI_leI, nI_ltI, nI_eq, z_in, pk_mul, zu_same, zu_rw, zu_ix, zi_ne0, zi_sub, zi_m1, Nat.add_sub_cancel, Nat.reduceMul, Nat.reduceSub]
      exact hV.fin hT2 (by omega) (by omega) g5 (p3.r (fr5 (c + 9) (by omega)).2.1) hp5 ⟨by show (xC x ++ [_]).length ≤ 7; rw [List.length_append, List.length_singleton]; have := hb.1; omega, hb.2⟩
    · rintro _ _ ⟨e, z3, h3, S3, L3, e2, rfl, rfl, g3, f4⟩
      exact hV.err _ (by rw [hT1]; unfold qCor; rw [e2]; rfl) (by omega) (by omega) ((g1.tr g3).lo (by omega)) f4
  · rintro _ _ ⟨e, S1, e1, rfl, rfl, f1, f4⟩
    exact hV.err _ (by rw [hT, ← hx0, e1]; rfl) (by omega) (by omega) ((pG.s f1).lo (by omega)) f4
theorem td_street (hV : tdV V h S L E c N ta dE q T) (hT : T = pB (pOpen A (xS x).length 10 q) (qStr A x)) (hx : tdX E c z h S P A N ta dE eA B x) (hI : pI c S N q 0) (hnx : q.1 + 1 < N) : zW V YX3_told 157 [some (.ref (c + 9)), some (.int w), none, none] [] (z, h, S, L) 0 0 := by
  obtain ⟨⟨hVE, hVd⟩, ⟨hVc, hVs⟩, -⟩ := id hV
  obtain ⟨⟨hc, he, hd⟩, hX, hta, hct, hp, hb⟩ := hx
  have hB := hX.1
  have hq4 := hI.2.2.2.2.1.1
  obtain ⟨tt, ⟨r0, r1, -⟩, lt0, lt1, -⟩ := hp.lt
  have htz : ta + 6 ≤ z := hp.2.2.2.2.1
  have hcz := hX.2.1
  have hx1 : xn x 1 = (xS x).length := rfl
  refine sX3_told_157 _ _ _ _ _ ?_
  simp (disch := omega) only [oAld, oCV, oGR, hB.pk, hta, tt, r1, lt1, List.getElem?_cons_zero, List.getElem?_cons_succ, List.set_cons_zero, List.set_cons_succ, List.drop_succ_cons, List.drop_zero, List.take_succ_cons, List.take_zero, List.length_cons, List.length_nil, List.reverse_cons, List.reverse_nil, List.nil_append, List.cons_append, Option.toList_some, Option.toList_none, va_rf_s, true_and, and_true, true_implies, false_implies, not_true_eq_false, not_false_eq_true, Nat.reduceAdd, Nat.reduceLeDiff, Nat.le_add_left, Nat.zero_le, Nat.le_refl, znew, true_or, or_true, b01_t, b01_f, b01_ok, bool_ft, vp_b01, vp_b0, vp_b1, b01_eq0, b01_eq1, implies_true, nI_add, nI_clamp, zi_in, zi_le_t, zi_le_f, zi_lt_t, zi_lt_f, zi_eq_t, zi_eq_f, nI_leI, nI_ltI, nI_eq, z_in, pk_mul, zu_same, zu_rw, zu_ix, zi_ne0, zi_sub, zi_m1, Nat.add_sub_cancel, Nat.reduceMul, Nat.reduceSub]
  refine zC.of0 (zJ5_size (hp.ls (k := 1) (by omega))) (by omega) (Nat.zero_le _) (Nat.zero_le _) ?_
  rintro _ _ ⟨rfl, rfl⟩
  refine sX3_told_168 _ _ _ _ _ ?_
  simp (disch := omega) only [oCV, oPush, hB.pk, List.getElem?_cons_zero, List.getElem?_cons_succ, List.set_cons_zero, List.set_cons_succ, List.drop_succ_cons, List.drop_zero, List.take_succ_cons, List.take_zero, List.length_cons, List.length_nil, List.reverse_cons, List.reverse_nil, List.nil_append, List.cons_append, Option.toList_some, Option.toList_none, va_rf_s, true_and, and_true, true_implies, false_implies, not_true_eq_false, not_false_eq_true, Nat.reduceAdd, Nat.reduceLeDiff, Nat.le_add_left, Nat.zero_le, Nat.le_refl, znew, true_or, or_true, b01_t, b01_f, b01_ok, bool_ft, vp_b01, vp_b0, vp_b1, b01_eq0, b01_eq1, implies_true, nI_add, nI_clamp, zi_in, zi_le_t, zi_le_f, zi_lt_t, zi_lt_f, zi_eq_t, zi_eq_f, nI_leI, nI_ltI, nI_eq, z_in, pk_mul, zu_same, zu_rw, zu_ix, zi_ne0, zi_sub, zi_m1, Nat.add_sub_cancel, Nat.reduceMul, Nat.reduceSub]
  refine zC.of (zX3_begins (n := xn x 1) (m := 10) hX hI hnx (by have := hb.2.1; omega) (by omega)) (by omega) (by omega) (by omega) ?_ ?_
  · rintro _ _ ⟨rfl, q1, S1, e1, rfl, f1, p1⟩
    obtain ⟨eq1, h4, hne⟩ := open_ok e1
    have hq1 : q1.1 = q.1 + 1 := by rw [eq1]
    have hT1 : T = qStr A x q1 := by rw [hT, ← hx1, e1]; rfl
    have hq14 : q1.1 ≤ 400 := p1.2.2.2.2.1.1
    have hm1 : q1.1 + 1 ≤ mx T := by
      rw [hT1]
      exact mx1 (by omega) (fun r1 e1 => by
        have h1 := kn_ok (v := r1.1) (q2 := r1.2) e1
        exact mx1 (by omega) (fun r2 e2 => by
          have h2 := kn_ok (v := r2.1) (q2 := r2.2) e2
          exact mx1 (by omega) (fun r3 e3 => by
            have h3 : r3.2.1 = r2.2.1 + 1 := (num_ok (v := r3.1) (q2 := r3.2) e3).1
            show q1.1 + 1 ≤ r3.2.1; omega)))
    have g1 : pG c (z, h, S, L) (z + 1, hN h z (38, 0, fun _ => none), SN S1 z, LN L z) := pG.new f1 (fun a ha => SN_o (by omega))
    have hX2 : pX c (z + 1) (hN h z (38, 0, fun _ => none)) (SN S1 z) P A N := hX.g (X := (z, h, S, L)) g1
    have hI2 : pI c (SN S1 z) N q1 0 := p1.n hcz
    have hp2 : txP (z + 1) (hN h z (38, 0, fun _ => none)) (SN S1 z) ta dE eA B x := hp.g hct g1
    have hta2 : zr (hN h z (38, 0, fun _ => none)) (c + 9) 2 = some ta := by rw [hN_ro (by omega)]; exact hta
    obtain ⟨tt2, ⟨r02, -⟩, -⟩ := hp2.lt
    refine sX3_told_173 _ _ _ _ _ ?_
    simp (disch := omega) only [oCI, oDup, oNew, hVc, hVs, List.getElem?_cons_zero, List.getElem?_cons_succ, List.set_cons_zero, List.set_cons_succ, List.drop_succ_cons, List.drop_zero, List.take_succ_cons, List.take_zero, List.length_cons, List.length_nil, List.reverse_cons, List.reverse_nil, List.nil_append, List.cons_append, Option.toList_some, Option.toList_none, va_rf_s, true_and, and_true, true_implies, false_implies, not_true_eq_false, not_false_eq_true, Nat.reduceAdd, Nat.reduceLeDiff, Nat.le_add_left, Nat.zero_le, Nat.le_refl, true_or, or_true, b01_t, b01_f, b01_ok, bool_ft, vp_b01, vp_b0, vp_b1, b01_eq0, b01_eq1, implies_true, zneq, hN_ts, hN_to, hN_ns, hN_no, hN_rs, hN_ro, SN_s, SN_o, zur_t, zur_n, zur_rs, zur_rk, zur_ro, nI_add, nI_clamp, zi_in, zi_le_t, zi_le_f, zi_lt_t, zi_lt_f, zi_eq_t, zi_eq_f, nI_leI, nI_ltI, nI_eq, z_in, pk_mul, zu_same, zu_rw, zu_ix, zi_ne0, zi_sub, zi_m1, Nat.add_sub_cancel, Nat.reduceMul, Nat.reduceSub]
    refine ⟨by omega, by omega, ?_⟩
    refine zC.ofN (zX18_init _) (by omega) (by omega) (by omega) ?_
    rintro _ _ ⟨rfl, rfl⟩
    have hB := hX2.1
    refine sX3_told_180 _ _ _ _ _ ?_
    simp (disch := omega) only [oAld, oAst, oCV, oGR, hB.pk, hta2, tt2, r02, List.getElem?_cons_zero, List.getElem?_cons_succ, List.set_cons_zero, List.set_cons_succ, List.drop_succ_cons, List.drop_zero, List.take_succ_cons, List.take_zero, List.length_cons, List.length_nil, List.reverse_cons, List.reverse_nil, List.nil_append, List.cons_append, Option.toList_some, Option.toList_none, va_rf_s, true_and, and_true, true_implies, false_implies, not_true_eq_false, not_false_eq_true, Nat.reduceAdd, Nat.reduceLeDiff, Nat.le_add_left, Nat.zero_le, Nat.le_refl, znew, true_or, or_true, b01_t, b01_f, b01_ok, bool_ft, vp_b01, vp_b0, vp_b1, b01_eq0, b01_eq1, implies_true, nI_add, nI_clamp, zi_in, zi_le_t, zi_le_f, zi_lt_t, zi_lt_f, zi_eq_t, zi_eq_f, nI_leI, nI_ltI, nI_eq, z_in, pk_mul, zu_same, zu_rw, zu_ix, zi_ne0, zi_sub, zi_m1, Nat.add_sub_cancel, Nat.reduceMul, Nat.reduceSub]
    refine zC.of (zX3_known (by rw [hVE]; exact hc) (by rw [hVE]; exact he) hX2 hI2 hct hp2) (by omega) (by omega) (by omega) ?_ ?_
    · rintro _ _ ⟨v1, q2, h3, S3, L3, e2, rfl, rfl, g3, p3, hq2⟩
      have hT2 : T = qSt2 A x v1 q2 := by rw [hT1]; unfold qStr; rw [e2]; rfl
      have hq24 : q2.1 ≤ 400 := p3.2.2.2.2.1.1
      have hm2 : q2.1 + 1 ≤ mx T := by
        rw [hT2]
        exact mx1 (by omega) (fun r2 e2 => by
          have h2 := kn_ok (v := r2.1) (q2 := r2.2) e2
          exact mx1 (by omega) (fun r3 e3 => by
            have h3 : r3.2.1 = r2.2.1 + 1 := (num_ok (v := r3.1) (q2 := r3.2) e3).1
            show q2.1 + 1 ≤ r3.2.1; omega))
      have tz : zt h3 z = 38 := by
        have : h3 z = hN h z (38, 0, fun _ => none) z := (g3.2 z (Nat.lt_succ_self z)).1
        have e2 : zt h3 z = zt (hN h z (38, 0, fun _ => none)) z := by unfold zt; rw [this]
        rw [e2]; exact hN_ts
      have g4 : pG c (z, h, S, L) (z + 1 + 4, h3, zu S3 z 0 (oM v1), L3) := (g1.tr g3).up (fun _ _ => rfl) (fun b hb => zu_rw _ _ (by have hb' : b < z := hb; omega))
      have hX4 : pX c (z + 1 + 4) h3 (zu S3 z 0 (oM v1)) P A N := hX.g (X := (z, h, S, L)) g4
      have hp4 : txP (z + 1 + 4) h3 (zu S3 z 0 (oM v1)) ta dE eA B x := hp.g hct g4
      have hI4 : pI c (zu S3 z 0 (oM v1)) N q2 0 := p3.r (zu_rw _ _ (by omega))
      have hta4 : zr h3 (c + 9) 2 = some ta := by
        have : h3 (c + 9) = h (c + 9) := (g4.2 (c + 9) (show c + 9 < z by omega)).1
        unfold zr; rw [this]; exact hta
      obtain ⟨tt4, ⟨r04, -⟩, -⟩ := hp4.lt
      have j3 : zu S3 z 0 (oM v1) (c + 9) 3 = nI q2.1 := hI4.1
      have hB := hX4.1
      refine sX3_told_193 _ _ _ _ _ ?_
      simp (disch := omega) only [oAld, oCV, oGI, oGR, oIst, oPI, hB.pk, tz, hta4, tt4, r04, j3, List.getElem?_cons_zero, List.getElem?_cons_succ, List.set_cons_zero, List.set_cons_succ, List.drop_succ_cons, List.drop_zero, List.take_succ_cons, List.take_zero, List.length_cons, List.length_nil, List.reverse_cons, List.reverse_nil, List.nil_append, List.cons_append, Option.toList_some, Option.toList_none, va_rf_s, true_and, and_true, true_implies, false_implies, not_true_eq_false, not_false_eq_true, Nat.reduceAdd, Nat.reduceLeDiff, Nat.le_add_left, Nat.zero_le, Nat.le_refl, znew, true_or, or_true, b01_t, b01_f, b01_ok, bool_ft, vp_b01, vp_b0, vp_b1, b01_eq0, b01_eq1, implies_true, nI_add, nI_clamp, zi_in, zi_le_t, zi_le_f, zi_lt_t, zi_lt_f, zi_eq_t, zi_eq_f, nI_leI, nI_ltI, nI_eq, z_in, pk_mul, zu_same, zu_rw, zu_ix, zi_ne0, zi_sub, zi_m1, Nat.add_sub_cancel, Nat.reduceMul, Nat.reduceSub]
      refine zC.of (zX3_known (by rw [hVE]; exact hc) (by rw [hVE]; exact he) hX4 hI4 hct hp4) (by omega) (by omega) (by omega) ?_ ?_
      · rintro _ _ ⟨v2, q3, h5, S5, L5, e5, rfl, rfl, g5, p5, hq3⟩
        have hT3 : T = qSt3 A x v1 v2 (q3.1, if v1.isSome = true ∧ v1 = v2 then pTell 3 q2.1 q3.2 else q3.2) := by rw [hT2]; unfold qSt2; rw [e5]; rfl
        have tz5 : zt h5 z = 38 := by
          have : h5 z = h3 z := (g5.2 z (show z < z + 1 + 4 by omega)).1
          unfold zt; rw [this]; exact tz
        have s50 : S5 z 0 = oM v1 := by
          have : S5 z = zu S3 z 0 (oM v1) z := (g5.2 z (show z < z + 1 + 4 by omega)).2.1 (by omega) (by omega)
          rw [this, zu_same]
        have g6 : pG c (z, h, S, L) (z + 1 + 4 + 4, h5, zu S5 z 1 (oM v2), L5) := (g4.tr g5).up (fun _ _ => rfl) (fun b hb => zu_rw _ _ (by have hb' : b < z := hb; omega))
        have s60 : zu S5 z 1 (oM v2) z 0 = oM v1 := by rw [zu_ix _ _ (by omega)]; exact s50
        have hI6 : pI c (zu S5 z 1 (oM v2)) N q3 0 := p5.r (zu_rw _ _ (by omega))
        have hX6 : pX c (z + 1 + 4 + 4) h5 (zu S5 z 1 (oM v2)) P A N := hX.g (X := (z, h, S, L)) g6
        -- the number, the list
        have late : ∀ S7 qt, pFs c (zu S5 z 1 (oM v2)) S7 → pI c S7 N (q3.1, qt) 0 → T = qSt3 A x v1 v2 (q3.1, qt) → zW V YX3_told 240 [some (.ref (c + 9)), some (.int w), some (.ref z), some (.int (nI q2.1))] [] (z + 1 + 4 + 4, h5, S7, L5) (0 + 1 + 0 + 4 + 4) (0 + 3 + 0 + 32 + 32) := by
          intro S7 qt f7 p7 hT7
          have hX7 := hX6.fs f7
          have hB := hX7.1
          have g7 : pG c (z, h, S, L) (z + 1 + 4 + 4, h5, S7, L5) := g6.tr (pG.s f7)
          have s7 : S7 z = zu S5 z 1 (oM v2) z := f7 z (by omega) (by omega)
          refine sX3_told_240 _ _ _ _ _ ?_
          simp (disch := omega) only [oAld, oCV, oPush, hB.pk, List.getElem?_cons_zero, List.getElem?_cons_succ, List.set_cons_zero, List.set_cons_succ, List.drop_succ_cons, List.drop_zero, List.take_succ_cons, List.take_zero, List.length_cons, List.length_nil, List.reverse_cons, List.reverse_nil, List.nil_append, List.cons_append, Option.toList_some, Option.toList_none, va_rf_s, true_and, and_true, true_implies, false_implies, not_true_eq_false, not_false_eq_true, Nat.reduceAdd, Nat.reduceLeDiff, Nat.le_add_left, Nat.zero_le, Nat.le_refl, znew, true_or, or_true, b01_t, b01_f, b01_ok, bool_ft, vp_b01, vp_b0, vp_b1, b01_eq0, b01_eq1, implies_true, nI_add, nI_clamp, zi_in, zi_le_t, zi_le_f, zi_lt_t, zi_lt_f, zi_eq_t, zi_eq_f, nI_leI, nI_ltI, nI_eq, z_in, pk_mul, zu_same, zu_rw, zu_ix, zi_ne0, zi_sub, zi_m1, Nat.add_sub_cancel, Nat.reduceMul, Nat.reduceSub]
          refine zC.of (zX3_number hX7 p7 (lo := 1) (hi := 99) (by omega) (by omega)) (by omega) (by omega) (by omega) ?_ ?_
          · rintro _ _ ⟨v, q4, S8, e8, rfl, rfl, f8, p8⟩
            have hT8 : T = .ok (addS x (oM v1, oM v2, v), q4) := by rw [hT7]; unfold qSt3; rw [e8]; rfl
            have hq4' : q4.1 = q3.1 + 1 := (num_ok e8).1
            have s8 : S8 z = zu S5 z 1 (oM v2) z := (f8 z (by omega) (by omega)).trans s7
            have g9 : pG c (z, h, S, L) (z + 1 + 4 + 4, h5, zu S8 z 2 (nI v), L5) := (g7.tr (pG.s f8)).up (fun _ _ => rfl) (fun b hb => zu_rw _ _ (by have hb' : b < z := hb; omega))
            have hp9 : txP (z + 1 + 4 + 4) h5 (zu S8 z 2 (nI v)) ta dE eA B x := hp.g hct g9
            obtain ⟨tt9, ⟨-, r19, -⟩, -, lt9, -⟩ := hp9.lt
            have hta9 : zr h5 (c + 9) 2 = some ta := by
              have : h5 (c + 9) = h (c + 9) := (g9.2 (c + 9) (show c + 9 < z by omega)).1
              unfold zr; rw [this]; exact hta
            have s9 := (hp9.2.1 1 (by omega)).2.1
            have hn10 : xn x 1 < 10 := by have := hb.2.1; omega
            have hB : isC h5 c := hX7.1
            refine sX3_told_248 _ _ _ _ _ ?_
            simp (disch := omega) only [oAld, oCV, oGR, oPI, hB.pk, tz5, hta9, tt9, r19, lt9, List.getElem?_cons_zero, List.getElem?_cons_succ, List.set_cons_zero, List.set_cons_succ, List.drop_succ_cons, List.drop_zero, List.take_succ_cons, List.take_zero, List.length_cons, List.length_nil, List.reverse_cons, List.reverse_nil, List.nil_append, List.cons_append, Option.toList_some, Option.toList_none, va_rf_s, true_and, and_true, true_implies, false_implies, not_true_eq_false, not_false_eq_true, Nat.reduceAdd, Nat.reduceLeDiff, Nat.le_add_left, Nat.zero_le, Nat.le_refl, znew, true_or, or_true, b01_t, b01_f, b01_ok, bool_ft, vp_b01, vp_b0, vp_b1, b01_eq0, b01_eq1, implies_true, nI_add, nI_clamp, zi_in, zi_le_t, zi_le_f, zi_lt_t, zi_lt_f, zi_eq_t, zi_eq_f, nI_leI, nI_ltI, nI_eq, z_in, pk_mul, zu_same, zu_rw, zu_ix, zi_ne0, zi_sub, zi_m1, Nat.add_sub_cancel, Nat.reduceMul, Nat.reduceSub]
            refine zC.ofN (zJ5_add (k := 18) (n := xn x 1) (e := eA 1) (by rw [hVE]; exact hd) lt9 (by omega) s9 hn10 tz5 (by simp) (show z < z + 1 + 4 + 4 by omega) (hp9.ad (k := 1) (by omega))) (by omega) (by omega) (by omega) ?_
            rintro _ X5 ⟨rfl, hl⟩
            obtain ⟨zf, hf, Sf, Lf⟩ := X5
            have item : itS h5 (zu S8 z 2 (nI v)) (txd ta (z + 1 + 4 + 4) eA x) z (oM v1, oM v2, v) := ⟨hp.nw (Nat.le_refl _) (by omega), tz5, by rw [zu_ix _ _ (by omega), s8, zu_ix _ _ (by omega)]; exact s50, by rw [zu_ix _ _ (by omega), s8, zu_same], zu_same _ _ _ _⟩
            obtain ⟨eA', B', hpf, hzf, hzf', frf⟩ := txP.add (k := 1) (x' := addS x (oM v1, oM v2, v)) (by omega) hp9 hn10 (by omega) hl (fun j hj => xn_add.2.1 _ j hj) rfl rfl (fun eA' B' fr hB r5 => by rw [r5]; exact ((hp9.2.2.1).addS item hB).fr (fun a ha => (fr a ha).2.1) (fun a ha => (fr a ha).1) (fun a ha => (fr a ha).2.2))
            have gf : pG c (ta, h, S, L) (zf, hf, Sf, Lf) := g9.ad (by omega) hzf frf
            refine sX3_told_262 _ _ _ _ _ ?_
            simp (disch := omega) only [oNop, oPop, oRV, List.getElem?_cons_zero, List.getElem?_cons_succ, List.set_cons_zero, List.set_cons_succ, List.drop_succ_cons, List.drop_zero, List.take_succ_cons, List.take_zero, List.length_cons, List.length_nil, List.reverse_cons, List.reverse_nil, List.nil_append, List.cons_append, Option.toList_some, Option.toList_none, va_rf_s, true_and, and_true, true_implies, false_implies, not_true_eq_false, not_false_eq_true, Nat.reduceAdd, Nat.reduceLeDiff, Nat.le_add_left, Nat.zero_le, Nat.le_refl, znew, true_or, or_true, b01_t, b01_f, b01_ok, bool_ft, vp_b01, vp_b0, vp_b1, b01_eq0, b01_eq1, implies_true, nI_add, nI_clamp, zi_in, zi_le_t, zi_le_f, zi_lt_t, zi_lt_f, zi_eq_t, zi_eq_f, nI_leI, nI_ltI, nI_eq, z_in, pk_mul, zu_same, zu_rw, zu_ix, zi_ne0, zi_sub, zi_m1, Nat.add_sub_cancel, Nat.reduceMul, Nat.reduceSub]
            refine hV.fin hT8 (by omega) (by omega) gf (p8.r ?_) hpf ⟨hb.1, by show (xS x ++ [_]).length ≤ 10; rw [List.length_append, List.length_singleton]; omega, hb.2.2⟩
            rw [(frf (c + 9) (by omega)).2.1, zu_rw _ _ (by omega)]
          · rintro _ _ ⟨e, S8, e8, rfl, rfl, f8, f4⟩
            exact hV.err _ (by rw [hT7]; unfold qSt3; rw [e8]; rfl) (by omega) (by omega) ((g7.tr (pG.s f8)).lo (by omega)) f4
        have hB := hX6.1
        cases v1 with
        | none =>
          rw [if_neg (fun q => by cases q.1)] at hT3
          have s60' : zu S5 z 1 (oM v2) z 0 = -1 := s60
          refine sX3_told_213 _ _ _ _ _ ?_
          simp (disch := omega) only [oAld, oCV, oGI, oIf, oIfc, oIld, oPI, oPush, hB.pk, tz5, s60', m1_lt0, List.getElem?_cons_zero, List.getElem?_cons_succ, List.set_cons_zero, List.set_cons_succ, List.drop_succ_cons, List.drop_zero, List.take_succ_cons, List.take_zero, List.length_cons, List.length_nil, List.reverse_cons, List.reverse_nil, List.nil_append, List.cons_append, Option.toList_some, Option.toList_none, va_rf_s, true_and, and_true, true_implies, false_implies, not_true_eq_false, not_false_eq_true, Nat.reduceAdd, Nat.reduceLeDiff, Nat.le_add_left, Nat.zero_le, Nat.le_refl, znew, true_or, or_true, b01_t, b01_f, b01_ok, bool_ft, vp_b01, vp_b0, vp_b1, b01_eq0, b01_eq1, implies_true, nI_add, nI_clamp, zi_in, zi_le_t, zi_le_f, zi_lt_t, zi_lt_f, zi_eq_t, zi_eq_f, nI_leI, nI_ltI, nI_eq, z_in, pk_mul, zu_same, zu_rw, zu_ix, zi_ne0, zi_sub, zi_m1, Nat.add_sub_cancel, Nat.reduceMul, Nat.reduceSub]
          exact late _ q3.2 pFs.rf hI6 hT3
        | some k1 =>
          have hk1 : k1 < 1000 := by
            have : pKn A (xKn x) q1 = .ok (some k1, q2) := e2
            unfold pKn at this
            cases hm : pMust A 1 q1 with
            | error e => rw [hm] at this; cases this
            | ok q' =>
              rw [hm] at this
              have this : (match xKn x (tkN A q1.1) with
                | some c => (.ok (some c, q') : zPR (Option Nat × zCu))
                | none => .ok (none, q'.1, pTell 4 q1.1 q'.2)) = .ok (some k1, q2) := this
              split at this
              · rename_i c' hc'
                cases this
                have := (firstF_lt hc').1
                have := hb.1
                omega
              · cases this
          have s60' : zu S5 z 1 (oM v2) z 0 = nI k1 := s60
          by_cases hvv : some k1 = v2
          · rw [if_pos ⟨rfl, hvv⟩] at hT3
            have e61 : zu S5 z 1 (oM v2) z 1 = nI k1 := by rw [zu_same, ← hvv]; rfl
            refine sX3_told_213 _ _ _ _ _ ?_
            simp (disch := omega) only [oAld, oCV, oGI, oIf, oIfc, oIld, oPI, oPush, hB.pk, tz5, s60', e61, List.getElem?_cons_zero, List.getElem?_cons_succ, List.set_cons_zero, List.set_cons_succ, List.drop_succ_cons, List.drop_zero, List.take_succ_cons, List.take_zero, List.length_cons, List.length_nil, List.reverse_cons, List.reverse_nil, List.nil_append, List.cons_append, Option.toList_some, Option.toList_none, va_rf_s, true_and, and_true, true_implies, false_implies, not_true_eq_false, not_false_eq_true, Nat.reduceAdd, Nat.reduceLeDiff, Nat.le_add_left, Nat.zero_le, Nat.le_refl, znew, true_or, or_true, b01_t, b01_f, b01_ok, bool_ft, vp_b01, vp_b0, vp_b1, b01_eq0, b01_eq1, implies_true, nI_add, nI_clamp, zi_in, zi_le_t, zi_le_f, zi_lt_t, zi_lt_f, zi_eq_t, zi_eq_f, nI_leI, nI_ltI, nI_eq, z_in, pk_mul, zu_same, zu_rw, zu_ix, zi_ne0, zi_sub, zi_m1, Nat.add_sub_cancel, Nat.reduceMul, Nat.reduceSub]
            refine zC.ofN (zX3_tell hX6.1 hI6 (n := 3) (t := q2.1) (by omega) (by have := hX.n; have := p3.2.2.2.2.1.2; omega)) (by omega) (by omega) (by omega) ?_
            rintro _ _ ⟨rfl, S7, rfl, f7, p7⟩
            exact late S7 _ f7 p7 hT3
          · rw [if_neg (fun q => hvv q.2)] at hT3
            have e61 : (nI k1 = oM v2) = False := eq_false (fun q => hvv (by
              cases v2 with
              | none => exact absurd q (nI_nm1 (by omega))
              | some k2 =>
                have hk2 : k2 < 1000 := by
                  have : pKn A (xKn x) q2 = .ok (some k2, q3) := e5
                  unfold pKn at this
                  cases hm : pMust A 1 q2 with
                  | error e => rw [hm] at this; cases this
                  | ok q' =>
                    rw [hm] at this
                    have this : (match xKn x (tkN A q2.1) with
                      | some c => (.ok (some c, q') : zPR (Option Nat × zCu))
                      | none => .ok (none, q'.1, pTell 4 q2.1 q'.2)) = .ok (some k2, q3) := this
                    split at this
                    · rename_i c' hc'
                      cases this
                      have := (firstF_lt hc').1
                      have := hb.1
                      omega
                    · cases this
                have q : nI k1 = nI k2 := q
                rw [nI_eq (by omega) (by omega)] at q
                rw [q]))
            refine sX3_told_213 _ _ _ _ _ ?_
            simp (disch := omega) only [oAld, oCV, oGI, oIf, oIfc, oIld, oPI, oPush, hB.pk, tz5, s60', e61, List.getElem?_cons_zero, List.getElem?_cons_succ, List.set_cons_zero, List.set_cons_succ, List.drop_succ_cons, List.drop_zero, List.take_succ_cons, List.take_zero, List.length_cons, List.length_nil, List.reverse_cons, List.reverse_nil, List.nil_append, List.cons_append, Option.toList_some, Option.toList_none, va_rf_s, true_and, and_true, true_implies, false_implies, not_true_eq_false, not_false_eq_true, Nat.reduceAdd, Nat.reduceLeDiff, Nat.le_add_left, Nat.zero_le, Nat.le_refl, znew, true_or, or_true, b01_t, b01_f, b01_ok, bool_ft, vp_b01, vp_b0, vp_b1, b01_eq0, b01_eq1, implies_true, nI_add, nI_clamp, zi_in, zi_le_t, zi_le_f, zi_lt_t, zi_lt_f, zi_eq_t, zi_eq_f, nI_leI, nI_ltI, nI_eq, z_in, pk_mul, zu_same, zu_rw, zu_ix, zi_ne0, zi_sub, zi_m1, Nat.add_sub_cancel, Nat.reduceMul, Nat.reduceSub]
            exact late _ q3.2 pFs.rf hI6 hT3
      · rintro _ _ ⟨e, z5, h5, S5, L5, e5, rfl, rfl, g5, f4⟩
        exact hV.err _ (by rw [hT2]; unfold qSt2; rw [e5]; rfl) (by omega) (by omega) ((g4.tr g5).lo (by omega)) f4
    · rintro _ _ ⟨e, z3, h3, S3, L3, e2, rfl, rfl, g3, f4⟩
      exact hV.err _ (by rw [hT1]; unfold qStr; rw [e2]; rfl) (by omega) (by omega) ((g1.tr g3).lo (by omega)) f4
  · rintro _ _ ⟨e, S1, e1, rfl, rfl, f1, f4⟩
    exact hV.err _ (by rw [hT, ← hx1, e1]; rfl) (by omega) (by omega) ((pG.s f1).lo (by omega)) f4
end FJ
