/-! the component's parser: parts and sums -/
section FC
variable {l : Launch} {E : zE} {z : Nat} {h : Nat → Option zSh} {S : Nat → Nat → Int32} {L : Nat → Nat → Int64} {c : Nat} {P : List Int32} {A : List zTk} {N : Nat} {q : zCu} {o : Nat}
theorem zX3_part {d : Nat} {u : zRd} (hu : rdOk u) (hU : exM l E d YX3_unit c P A N o u) : exM l E (d + 4) YX3_part c P A N o (rdG A 10 15 u) := by
  intro z h S L q hX hI
  have hB := hX.1
  have hcz := hX.2.1
  have hNl := hX.n
  obtain ⟨i3, i4, i5, i6, ⟨i7, i7'⟩, i8, i9, i10⟩ := id hI
  have hok : rdOk (rdG A 10 15 u) := rdG_ok hu
  have hmx := mx_rd hok i7
  refine zM.go rfl rfl (Nat.le_of_ble_eq_true rfl) (ls := [some (.ref (c + 9)), none, none]) rfl ?_
  intro V hVl hVE hVd hVc hVs hVQ hVX
  have flt : ∀ (ls : List (Option Value)) (e : zFt) z' h' S' L', rdG A 10 15 u q = .error e → ∀ k n, k ≤ 6 * (mx (rdG A 10 15 u q) - q.1) → n ≤ 40 * (mx (rdG A 10 15 u q) - q.1) → pG c (z, h, S, L) (z', h', S', L') → cE c S' e → zOut V ls (c + 1) (z', h', S', L') k n := by
    intro ls e z' h' S' L' h1 k n hk hn f1 f2
    exact ⟨hVX _ _ ⟨e, z', h', S', L', h1, rfl, rfl, f1, f2⟩, by rw [hVc]; exact hk, by rw [hVs]; exact hn⟩
  have loop : ∀ f z1 h1 S1 L1 a cd q1 x2 k n, 400 < f + q1.1 → rdG A 10 15 u q = rdL A 10 15 u f cd q1 → pG c (z, h, S, L) (z1, h1, S1, L1) → pI c S1 N q1 o → isSum h1 S1 (fun b => z ≤ b ∧ b < z1) (q1.1 - q.1) a cd → q.1 ≤ q1.1 → k ≤ 6 * (q1.1 - q.1) → n ≤ 40 * (q1.1 - q.1) → zW V YX3_part 5 [some (.ref (c + 9)), some (.ref a), x2] [] (z1, h1, S1, L1) k n := by
    intro f
    induction f with
    | zero =>
      intro z1 h1 S1 L1 a cd q1 x2 k n hf hT hG hI1
      have := hI1.2.2.2.2.1.1
      omega
    | succ f ih =>
      intro z1 h1 S1 L1 a cd q1 x2 k n hf hT hG hI1 hs hqq hk hn
      have hX1 : pX c z1 h1 S1 P A N := hX.g (X := (z, h, S, L)) hG
      have hB := hX1.1
      have hzz : z ≤ z1 := hG.1
      obtain ⟨j3, j4, j5, j6, ⟨j7, j7'⟩, j8, j9, j10⟩ := id hI1
      have hstep : rdL A 10 15 u (f + 1) cd q1 = if tkK A q1.1 = 10 ∨ tkK A q1.1 = 15 then pB (pGo A q1) (fun q2 => pB (u q2) (fun r => rdL A 10 15 u f (cd ++ (r.1 ++ [(opN (tkK A q1.1), nI 0)])) r.2)) else .ok (cd, q1) := rfl
      have hs1 : isSg 10 := ⟨by omega, by omega, by omega, by omega, by omega⟩
      have hs2 : isSg 15 := ⟨by omega, by omega, by omega, by omega, by omega⟩
      -- a sign of the kind
      have go : (tkK A q1.1 = 10 ∨ tkK A q1.1 = 15) → zC V YX3_pass [.ref (c + 9)] (z1, h1, S1, L1) k n (fun v X' k' n' => zW V YX3_part 40 [some (.ref (c + 9)), some (.ref a), some (.int (nI (sgI (tkK A q1.1))))] (v.toList ++ []) X' k' n') (zOut V [some (.ref (c + 9)), some (.ref a), some (.int (nI (sgI (tkK A q1.1))))]) := by
        intro hkd
        rw [hstep, if_pos hkd] at hT
        have hnx : q1.1 + 1 < N := hX1.nx j7' (by omega) (by omega)
        have hmono0 : q1.1 ≤ mx (rdG A 10 15 u q) := by
          rw [hT]
          cases hg : pGo A q1 with
          | error e => show q1.1 ≤ 401; omega
          | ok q2 =>
            obtain ⟨eq2, h4⟩ := cGo_ok hg
            have hq2 : q2.1 ≤ 400 := by rw [eq2]; show q1.1 + 1 ≤ 400; omega
            have m1 := mx_rd hu hq2
            have m2 : mx (u q2) ≤ mx (pB (u q2) (fun r => rdL A 10 15 u f (cd ++ (r.1 ++ [(opN (tkK A q1.1), nI 0)])) r.2)) := mx_pB (fun r hr => mx_L hu (hu q2 r.1 r.2 hr hq2).1.2.2 (one1_op hs.one (hu q2 r.1 r.2 hr hq2).2.2 _))
            show q1.1 ≤ mx (pB (u q2) _)
            have : q2.1 = q1.1 + 1 := by rw [eq2]
            omega
        refine zC.of (zX3_pass hX1 hI1 hnx) (by omega) (by omega) (by omega) ?_ ?_
        · rintro _ _ ⟨rfl, q2, S2, e2, rfl, f2, p2⟩
          obtain ⟨eq2, h4⟩ := cGo_ok e2
          rw [e2] at hT
          have hT : rdG A 10 15 u q = pB (u q2) (fun r => rdL A 10 15 u f (cd ++ (r.1 ++ [(opN (tkK A q1.1), nI 0)])) r.2) := hT
          have hq2e : q2.1 = q1.1 + 1 := by rw [eq2]
          have hq2 : q2.1 ≤ 400 := p2.2.2.2.2.1.1
          have hX2 : pX c (z1 + 1) (hN h1 z1 (35, 0, fun _ => none)) (SN S2 z1) P A N := (hX1.fs f2).g (X := (z1, h1, S2, L1)) (X' := (z1 + 1, hN h1 z1 (35, 0, fun _ => none), SN S2 z1, LN L1 z1)) pG.n
          have hcz1 : c + 606 ≤ z1 := hX1.2.1
          have hI2 : pI c (SN S2 z1) N q2 o := p2.n hcz1
          have hM := hU (z1 + 1) (hN h1 z1 (35, 0, fun _ => none)) (SN S2 z1) (LN L1 z1) q2 hX2 hI2
          rw [← hVl, ← hVE] at hM
          have m1 := mx_rd hu hq2
          have m2 : mx (u q2) ≤ mx (rdG A 10 15 u q) := by
            rw [hT]
            exact mx_pB (fun r hr => mx_L hu (hu q2 r.1 r.2 hr hq2).1.2.2 (one1_op hs.one (hu q2 r.1 r.2 hr hq2).2.2 _))
          have hB := hX2.1
          refine sX3_part_40 _ _ _ _ _ ?_
          simp (disch := omega) only [oAld, oCV, oDup, oIld, oNew, hB.pk, hVc, hVs, List.getElem?_cons_zero, List.getElem?_cons_succ, List.set_cons_zero, List.set_cons_succ, List.drop_succ_cons, List.drop_zero, List.take_succ_cons, List.take_zero, List.length_cons, List.length_nil, List.reverse_cons, List.reverse_nil, List.nil_append, List.cons_append, Option.toList_some, Option.toList_none, va_rf_s, true_and, and_true, true_implies, false_implies, not_true_eq_false, not_false_eq_true, Nat.reduceAdd, Nat.reduceLeDiff, Nat.le_add_left, Nat.zero_le, Nat.le_refl, true_or, or_true, b01_t, b01_f, b01_ok, bool_ft, vp_b01, vp_b0, vp_b1, b01_eq0, b01_eq1, implies_true, zneq, hN_ts, hN_to, hN_ns, hN_no, hN_rs, hN_ro, SN_s, SN_o, zur_t, zur_n, zur_rs, zur_rk, zur_ro, nI_add, nI_clamp, zi_in, zi_le_t, zi_le_f, zi_lt_t, zi_lt_f, zi_eq_t, zi_eq_f, nI_leI, nI_ltI, nI_eq, z_in, pk_mul, zu_same, zu_rw, zu_ix, zi_ne0, zi_sub, zi_m1, Nat.add_sub_cancel, Nat.reduceMul, Nat.reduceSub]
          refine ⟨by omega, by omega, ?_⟩
          refine zC.of hM (by omega) (by omega) (by omega) ?_ ?_
          · rintro _ _ ⟨cd3, q3, b, z3, h3, S3, L3, e3, rfl, rfl, g3, p3, t3⟩
            have hr3 := hu q2 cd3 q3 e3 hq2
            rw [e3] at hT m2 m1 ⊢
            have em : mx (Except.ok (cd3, q3) : zPR (zCd × zCu)) = q3.1 := rfl
            rw [em] at m2 m1 ⊢
            have hT : rdG A 10 15 u q = rdL A 10 15 u f (cd ++ (cd3 ++ [(opN (tkK A q1.1), nI 0)])) q3 := hT
            have hz3 : z1 + 1 ≤ z3 := g3.1
            have tz : zt h3 z1 = 35 := by
              have he : h3 z1 = hN h1 z1 (35, 0, fun _ => none) z1 := (g3.2 z1 (Nat.lt_succ_self z1)).1
              have e2 : zt h3 z1 = zt (hN h1 z1 (35, 0, fun _ => none)) z1 := by unfold zt; rw [he]
              rw [e2]; exact hN_ts
            have old : ∀ y, y < z1 → h3 y = h1 y ∧ (y ≠ c + 9 → y ≠ c + 1 → S3 y = S1 y) ∧ L3 y = L1 y := fun y hy => by
              obtain ⟨o1, o2, o3⟩ := g3.2 y (show y < z1 + 1 by omega)
              exact ⟨o1.trans (hN_o (by omega)), fun y1 y2 => (o2 y1 y2).trans ((SN_o (by omega)).trans (f2 y y1 y2)), o3.trans (LN_o (by omega))⟩
            refine sX3_part_50 _ _ _ _ _ ?_
            simp (disch := omega) only [oCI, List.getElem?_cons_zero, List.getElem?_cons_succ, List.set_cons_zero, List.set_cons_succ, List.drop_succ_cons, List.drop_zero, List.take_succ_cons, List.take_zero, List.length_cons, List.length_nil, List.reverse_cons, List.reverse_nil, List.nil_append, List.cons_append, Option.toList_some, Option.toList_none, va_rf_s, true_and, and_true, true_implies, false_implies, not_true_eq_false, not_false_eq_true, Nat.reduceAdd, Nat.reduceLeDiff, Nat.le_add_left, Nat.zero_le, Nat.le_refl, znew, true_or, or_true, b01_t, b01_f, b01_ok, bool_ft, vp_b01, vp_b0, vp_b1, b01_eq0, b01_eq1, implies_true, nI_add, nI_clamp, zi_in, zi_le_t, zi_le_f, zi_lt_t, zi_lt_f, zi_eq_t, zi_eq_f, nI_leI, nI_ltI, nI_eq, z_in, pk_mul, zu_same, zu_rw, zu_ix, zi_ne0, zi_sub, zi_m1, Nat.add_sub_cancel, Nat.reduceMul, Nat.reduceSub]
            refine zC.ofN (zX15_init tz) (by omega) (by omega) (by omega) ?_
            rintro _ _ ⟨rfl, rfl⟩
            refine sX3_part_53 _ _ _ _ _ ?_
            simp (disch := omega) only [oAst, oNop, List.getElem?_cons_zero, List.getElem?_cons_succ, List.set_cons_zero, List.set_cons_succ, List.drop_succ_cons, List.drop_zero, List.take_succ_cons, List.take_zero, List.length_cons, List.length_nil, List.reverse_cons, List.reverse_nil, List.nil_append, List.cons_append, Option.toList_some, Option.toList_none, va_rf_s, true_and, and_true, true_implies, false_implies, not_true_eq_false, not_false_eq_true, Nat.reduceAdd, Nat.reduceLeDiff, Nat.le_add_left, Nat.zero_le, Nat.le_refl, znew, true_or, or_true, b01_t, b01_f, b01_ok, bool_ft, vp_b01, vp_b0, vp_b1, b01_eq0, b01_eq1, implies_true, nI_add, nI_clamp, zi_in, zi_le_t, zi_le_f, zi_lt_t, zi_lt_f, zi_eq_t, zi_eq_f, nI_leI, nI_ltI, nI_eq, z_in, pk_mul, zu_same, zu_rw, zu_ix, zi_ne0, zi_sub, zi_m1, Nat.add_sub_cancel, Nat.reduceMul, Nat.reduceSub]
            refine ih z3 _ _ L3 z1 _ q3 _ _ _ (by omega) hT ?_ ?_ ?_ (by omega) (by omega) (by omega)
            · refine ⟨Nat.le_trans hzz (by show z1 ≤ z3; omega), fun y hy => ?_⟩
              have hy' : y < z := hy
              obtain ⟨o1, o2, o3⟩ := old y (by omega)
              obtain ⟨w1, w2, w3⟩ := hG.2 y hy
              refine ⟨?_, fun y1 y2 => ?_, o3.trans w3⟩
              · show zur (zur h3 z1 1 _) z1 2 _ y = h y
                rw [zur_ne (by omega), zur_ne (by omega)]; exact o1.trans w1
              · show zu S3 z1 0 _ y = S y
                rw [zu_rw _ _ (by omega)]; exact (o2 y1 y2).trans (w2 y1 y2)
            · exact p3.r (zu_rw _ _ (by omega))
            · obtain ⟨D, hD⟩ : ∃ D, q3.1 - q.1 = D + 1 := ⟨q3.1 - q.1 - 1, by omega⟩
              rw [hD]
              refine ⟨⟨hzz, by omega⟩, Or.inr (Or.inr ⟨by rw [zur_t, zur_t]; exact tz, tkK A q1.1, a, b, cd, cd3, ?_, ?_, ?_, zur_rs, ?_, ?_, rfl⟩)⟩
              · unfold isOp; omega
              · rw [zu_same]
                rcases hkd with e | e <;> rw [e] <;> rfl
              · rw [zur_rk (by omega)]; exact zur_rs
              · refine (hs.fr (ok' := fun b => z ≤ b ∧ b < z3) (fun y hy => ?_) (fun y hy => ?_) (fun y hy => ⟨hy.1, by omega⟩)).le (by omega)
                · rw [zu_rw _ _ (by omega)]; exact (old y hy.2).2.1 (by omega) (by omega)
                · rw [zur_ne (by omega), zur_ne (by omega)]; exact (old y hy.2).1
              · refine (t3.fr (ok' := fun b => z ≤ b ∧ b < z3) (fun y hy => ?_) (fun y hy => ?_) (fun y hy => ⟨by omega, hy.2⟩)).le (by omega)
                · exact zu_rw _ _ (by omega)
                · rw [zur_ne (by omega), zur_ne (by omega)]
          · rintro _ _ ⟨e, z3, h3, S3, L3, e3, rfl, rfl, g3, f4⟩
            have hR : rdG A 10 15 u q = .error e := by rw [hT, e3]; rfl
            have hm3 : mx (rdG A 10 15 u q) = 401 := by rw [hR]; rfl
            have em : mx (u q2) ≤ 401 := by rw [e3]; exact Nat.le_refl _
            exact flt _ e _ _ _ _ hR _ _ (by omega) (by omega) ((hG.tr (pG.s f2)).tr (pG.n.tr g3)) f4
        · rintro _ _ ⟨e, S', e1, rfl, rfl, f1, f2⟩
          have hR : rdG A 10 15 u q = .error e := by rw [hT, e1]; rfl
          have hm3 : mx (rdG A 10 15 u q) = 401 := by rw [hR]; rfl
          exact flt _ e _ _ _ _ hR _ _ (by omega) (by omega) (hG.tr (pG.s f1)) f2
      have e8 : ∀ kk, isSg kk → tkK A q1.1 = kk → S1 (c + 8) q1.1 = nI (sgI (tkK A q1.1)) := fun kk hkk e => by
        have hkk2 : (A.getD q1.1 tk0).1 = tkK A q1.1 := rfl
        unfold isSg at hkk
        rcases (hX1.tk j7').2 with ⟨e, -⟩ | ⟨e, -⟩ | ⟨e, -, -⟩ | ⟨e, -, -⟩ | ⟨⟨e, e2⟩, -, -⟩ | ⟨-, -, e8⟩
        · rw [hkk2] at e; omega
        · rw [hkk2] at e; omega
        · rw [hkk2] at e; omega
        · rw [hkk2] at e; omega
        · rw [hkk2] at e; omega
        · exact e8
      have hmono1 : q1.1 ≤ mx (rdG A 10 15 u q) := by rw [hT]; exact mx_L hu j7 hs.one
      refine sX3_part_5 _ _ _ _ _ ?_
      simp (disch := omega) only [oAld, oCV, oPush, hB.pk, List.getElem?_cons_zero, List.getElem?_cons_succ, List.set_cons_zero, List.set_cons_succ, List.drop_succ_cons, List.drop_zero, List.take_succ_cons, List.take_zero, List.length_cons, List.length_nil, List.reverse_cons, List.reverse_nil, List.nil_append, List.cons_append, Option.toList_some, Option.toList_none, va_rf_s, true_and, and_true, true_implies, false_implies, not_true_eq_false, not_false_eq_true, Nat.reduceAdd, Nat.reduceLeDiff, Nat.le_add_left, Nat.zero_le, Nat.le_refl, znew, true_or, or_true, b01_t, b01_f, b01_ok, bool_ft, vp_b01, vp_b0, vp_b1, b01_eq0, b01_eq1, implies_true, nI_add, nI_clamp, zi_in, zi_le_t, zi_le_f, zi_lt_t, zi_lt_f, zi_eq_t, zi_eq_f, nI_leI, nI_ltI, nI_eq, z_in, pk_mul, zu_same, zu_rw, zu_ix, zi_ne0, zi_sub, zi_m1, Nat.add_sub_cancel, Nat.reduceMul, Nat.reduceSub]
      refine zC.ofN (zX3_isSign (k := 10) hX1 hI1 hs1) (by omega) (by omega) (by omega) ?_
      rintro _ _ ⟨rfl, rfl⟩
      by_cases hk1 : tkK A q1.1 = 10
      · rw [decide_eq_true hk1]
        have e8' := e8 10 hs1 hk1
        refine sX3_part_11 _ _ _ _ _ ?_
        simp (disch := omega) only [oAld, oAld1, oCV, oGI, oGR, oIf, oIst, oPush, hB.pk, hB.pr0, hB.tk, hB.tr6, hB.tt6, hB.tn6, j3, e8', List.getElem?_cons_zero, List.getElem?_cons_succ, List.set_cons_zero, List.set_cons_succ, List.drop_succ_cons, List.drop_zero, List.take_succ_cons, List.take_zero, List.length_cons, List.length_nil, List.reverse_cons, List.reverse_nil, List.nil_append, List.cons_append, Option.toList_some, Option.toList_none, va_rf_s, true_and, and_true, true_implies, false_implies, not_true_eq_false, not_false_eq_true, Nat.reduceAdd, Nat.reduceLeDiff, Nat.le_add_left, Nat.zero_le, Nat.le_refl, znew, true_or, or_true, b01_t, b01_f, b01_ok, bool_ft, vp_b01, vp_b0, vp_b1, b01_eq0, b01_eq1, implies_true, nI_add, nI_clamp, zi_in, zi_le_t, zi_le_f, zi_lt_t, zi_lt_f, zi_eq_t, zi_eq_f, nI_leI, nI_ltI, nI_eq, z_in, pk_mul, zu_same, zu_rw, zu_ix, zi_ne0, zi_sub, zi_m1, Nat.add_sub_cancel, Nat.reduceMul, Nat.reduceSub]
        exact go (Or.inl hk1)
      · rw [decide_eq_false hk1]
        refine sX3_part_11 _ _ _ _ _ ?_
        simp (disch := omega) only [oAld, oAld1, oCV, oGI, oGR, oIf, oIst, oPush, hB.pk, hB.pr0, hB.tk, hB.tr6, hB.tt6, hB.tn6, List.getElem?_cons_zero, List.getElem?_cons_succ, List.set_cons_zero, List.set_cons_succ, List.drop_succ_cons, List.drop_zero, List.take_succ_cons, List.take_zero, List.length_cons, List.length_nil, List.reverse_cons, List.reverse_nil, List.nil_append, List.cons_append, Option.toList_some, Option.toList_none, va_rf_s, true_and, and_true, true_implies, false_implies, not_true_eq_false, not_false_eq_true, Nat.reduceAdd, Nat.reduceLeDiff, Nat.le_add_left, Nat.zero_le, Nat.le_refl, znew, true_or, or_true, b01_t, b01_f, b01_ok, bool_ft, vp_b01, vp_b0, vp_b1, b01_eq0, b01_eq1, implies_true, nI_add, nI_clamp, zi_in, zi_le_t, zi_le_f, zi_lt_t, zi_lt_f, zi_eq_t, zi_eq_f, nI_leI, nI_ltI, nI_eq, z_in, pk_mul, zu_same, zu_rw, zu_ix, zi_ne0, zi_sub, zi_m1, Nat.add_sub_cancel, Nat.reduceMul, Nat.reduceSub]
        refine zC.ofN (zX3_isSign (k := 15) hX1 hI1 hs2) (by omega) (by omega) (by omega) ?_
        rintro _ _ ⟨rfl, rfl⟩
        by_cases hk2 : tkK A q1.1 = 15
        · rw [decide_eq_true hk2]
          have e8' := e8 15 hs2 hk2
          refine sX3_part_20 _ _ _ _ _ ?_
          simp (disch := omega) only [oAld, oAld1, oCV, oGI, oGR, oIf, oIst, oRA, hB.pk, hB.pr0, hB.tk, hB.tr6, hB.tt6, hB.tn6, j3, e8', List.getElem?_cons_zero, List.getElem?_cons_succ, List.set_cons_zero, List.set_cons_succ, List.drop_succ_cons, List.drop_zero, List.take_succ_cons, List.take_zero, List.length_cons, List.length_nil, List.reverse_cons, List.reverse_nil, List.nil_append, List.cons_append, Option.toList_some, Option.toList_none, va_rf_s, true_and, and_true, true_implies, false_implies, not_true_eq_false, not_false_eq_true, Nat.reduceAdd, Nat.reduceLeDiff, Nat.le_add_left, Nat.zero_le, Nat.le_refl, znew, true_or, or_true, b01_t, b01_f, b01_ok, bool_ft, vp_b01, vp_b0, vp_b1, b01_eq0, b01_eq1, implies_true, nI_add, nI_clamp, zi_in, zi_le_t, zi_le_f, zi_lt_t, zi_lt_f, zi_eq_t, zi_eq_f, nI_leI, nI_ltI, nI_eq, z_in, pk_mul, zu_same, zu_rw, zu_ix, zi_ne0, zi_sub, zi_m1, Nat.add_sub_cancel, Nat.reduceMul, Nat.reduceSub]
          exact go (Or.inr hk2)
        · rw [decide_eq_false hk2]
          rw [hstep, if_neg (by omega)] at hT
          have hm : mx (rdG A 10 15 u q) = q1.1 := by rw [hT]; rfl
          rw [hm] at hVc hVs
          refine sX3_part_20 _ _ _ _ _ ?_
          simp (disch := omega) only [oAld, oAld1, oCV, oGI, oGR, oIf, oIst, oRA, hB.pk, hB.pr0, hB.tk, hB.tr6, hB.tt6, hB.tn6, hVc, hVs, List.getElem?_cons_zero, List.getElem?_cons_succ, List.set_cons_zero, List.set_cons_succ, List.drop_succ_cons, List.drop_zero, List.take_succ_cons, List.take_zero, List.length_cons, List.length_nil, List.reverse_cons, List.reverse_nil, List.nil_append, List.cons_append, Option.toList_some, Option.toList_none, va_rf_s, true_and, and_true, true_implies, false_implies, not_true_eq_false, not_false_eq_true, Nat.reduceAdd, Nat.reduceLeDiff, Nat.le_add_left, Nat.zero_le, Nat.le_refl, znew, true_or, or_true, b01_t, b01_f, b01_ok, bool_ft, vp_b01, vp_b0, vp_b1, b01_eq0, b01_eq1, implies_true, nI_add, nI_clamp, zi_in, zi_le_t, zi_le_f, zi_lt_t, zi_lt_f, zi_eq_t, zi_eq_f, nI_leI, nI_ltI, nI_eq, z_in, pk_mul, zu_same, zu_rw, zu_ix, zi_ne0, zi_sub, zi_m1, Nat.add_sub_cancel, Nat.reduceMul, Nat.reduceSub]
          exact ⟨hVQ _ _ ⟨cd, q1, a, z1, h1, S1, L1, hT, rfl, rfl, hG, hI1, hs⟩, by omega, by omega⟩
  have hM := hU z h S L q hX hI
  rw [← hVl, ← hVE] at hM
  have hGq : rdG A 10 15 u q = pB (u q) (fun r => rdL A 10 15 u 401 r.1 r.2) := rfl
  have m1 := mx_rd hu i7
  have m2 : mx (u q) ≤ mx (rdG A 10 15 u q) := by
    rw [hGq]
    exact mx_pB (fun r hr => mx_L hu (hu q r.1 r.2 hr i7).1.2.2 (hu q r.1 r.2 hr i7).2.2)
  refine sX3_part_0 _ _ _ _ _ ?_
  simp (disch := omega) only [oAld, oCV, hB.pk, List.getElem?_cons_zero, List.getElem?_cons_succ, List.set_cons_zero, List.set_cons_succ, List.drop_succ_cons, List.drop_zero, List.take_succ_cons, List.take_zero, List.length_cons, List.length_nil, List.reverse_cons, List.reverse_nil, List.nil_append, List.cons_append, Option.toList_some, Option.toList_none, va_rf_s, true_and, and_true, true_implies, false_implies, not_true_eq_false, not_false_eq_true, Nat.reduceAdd, Nat.reduceLeDiff, Nat.le_add_left, Nat.zero_le, Nat.le_refl, znew, true_or, or_true, b01_t, b01_f, b01_ok, bool_ft, vp_b01, vp_b0, vp_b1, b01_eq0, b01_eq1, implies_true, nI_add, nI_clamp, zi_in, zi_le_t, zi_le_f, zi_lt_t, zi_lt_f, zi_eq_t, zi_eq_f, nI_leI, nI_ltI, nI_eq, z_in, pk_mul, zu_same, zu_rw, zu_ix, zi_ne0, zi_sub, zi_m1, Nat.add_sub_cancel, Nat.reduceMul, Nat.reduceSub]
  refine zC.of hM (by omega) (by omega) (by omega) ?_ ?_
  · rintro _ _ ⟨cd, q1, a, z1, h1, S1, L1, e1, rfl, rfl, g1, p1, t1⟩
    have hr1 := (hu q cd q1 e1 i7).1
    rw [e1] at hGq ⊢
    have em : mx (Except.ok (cd, q1) : zPR (zCd × zCu)) = q1.1 := rfl
    rw [em]
    refine sX3_part_4 _ _ _ _ _ ?_
    simp (disch := omega) only [oAst, List.getElem?_cons_zero, List.getElem?_cons_succ, List.set_cons_zero, List.set_cons_succ, List.drop_succ_cons, List.drop_zero, List.take_succ_cons, List.take_zero, List.length_cons, List.length_nil, List.reverse_cons, List.reverse_nil, List.nil_append, List.cons_append, Option.toList_some, Option.toList_none, va_rf_s, true_and, and_true, true_implies, false_implies, not_true_eq_false, not_false_eq_true, Nat.reduceAdd, Nat.reduceLeDiff, Nat.le_add_left, Nat.zero_le, Nat.le_refl, znew, true_or, or_true, b01_t, b01_f, b01_ok, bool_ft, vp_b01, vp_b0, vp_b1, b01_eq0, b01_eq1, implies_true, nI_add, nI_clamp, zi_in, zi_le_t, zi_le_f, zi_lt_t, zi_lt_f, zi_eq_t, zi_eq_f, nI_leI, nI_ltI, nI_eq, z_in, pk_mul, zu_same, zu_rw, zu_ix, zi_ne0, zi_sub, zi_m1, Nat.add_sub_cancel, Nat.reduceMul, Nat.reduceSub]
    exact loop 401 z1 h1 S1 L1 a cd q1 _ _ _ (by omega) hGq g1 p1 t1 (by omega) (by omega) (by omega)
  · rintro _ _ ⟨e, z3, h3, S3, L3, e3, rfl, rfl, g3, f4⟩
    have hR : rdG A 10 15 u q = .error e := by rw [hGq, e3]; rfl
    have hm3 : mx (rdG A 10 15 u q) = 401 := by rw [hR]; rfl
    exact flt _ e _ _ _ _ hR _ _ (by omega) (by omega) g3 f4
theorem zX3_sum {d : Nat} {u : zRd} (hu : rdOk u) (hU : exM l E d YX3_part c P A N o u) : exM l E (d + 4) YX3_sum c P A N o (rdG A 8 9 u) := by
  intro z h S L q hX hI
  have hB := hX.1
  have hcz := hX.2.1
  have hNl := hX.n
  obtain ⟨i3, i4, i5, i6, ⟨i7, i7'⟩, i8, i9, i10⟩ := id hI
  have hok : rdOk (rdG A 8 9 u) := rdG_ok hu
  have hmx := mx_rd hok i7
  refine zM.go rfl rfl (Nat.le_of_ble_eq_true rfl) (ls := [some (.ref (c + 9)), none, none]) rfl ?_
  intro V hVl hVE hVd hVc hVs hVQ hVX
  have flt : ∀ (ls : List (Option Value)) (e : zFt) z' h' S' L', rdG A 8 9 u q = .error e → ∀ k n, k ≤ 6 * (mx (rdG A 8 9 u q) - q.1) → n ≤ 40 * (mx (rdG A 8 9 u q) - q.1) → pG c (z, h, S, L) (z', h', S', L') → cE c S' e → zOut V ls (c + 1) (z', h', S', L') k n := by
    intro ls e z' h' S' L' h1 k n hk hn f1 f2
    exact ⟨hVX _ _ ⟨e, z', h', S', L', h1, rfl, rfl, f1, f2⟩, by rw [hVc]; exact hk, by rw [hVs]; exact hn⟩
  have loop : ∀ f z1 h1 S1 L1 a cd q1 x2 k n, 400 < f + q1.1 → rdG A 8 9 u q = rdL A 8 9 u f cd q1 → pG c (z, h, S, L) (z1, h1, S1, L1) → pI c S1 N q1 o → isSum h1 S1 (fun b => z ≤ b ∧ b < z1) (q1.1 - q.1) a cd → q.1 ≤ q1.1 → k ≤ 6 * (q1.1 - q.1) → n ≤ 40 * (q1.1 - q.1) → zW V YX3_sum 5 [some (.ref (c + 9)), some (.ref a), x2] [] (z1, h1, S1, L1) k n := by
    intro f
    induction f with
    | zero =>
      intro z1 h1 S1 L1 a cd q1 x2 k n hf hT hG hI1
      have := hI1.2.2.2.2.1.1
      omega
    | succ f ih =>
      intro z1 h1 S1 L1 a cd q1 x2 k n hf hT hG hI1 hs hqq hk hn
      have hX1 : pX c z1 h1 S1 P A N := hX.g (X := (z, h, S, L)) hG
      have hB := hX1.1
      have hzz : z ≤ z1 := hG.1
      obtain ⟨j3, j4, j5, j6, ⟨j7, j7'⟩, j8, j9, j10⟩ := id hI1
      have hstep : rdL A 8 9 u (f + 1) cd q1 = if tkK A q1.1 = 8 ∨ tkK A q1.1 = 9 then pB (pGo A q1) (fun q2 => pB (u q2) (fun r => rdL A 8 9 u f (cd ++ (r.1 ++ [(opN (tkK A q1.1), nI 0)])) r.2)) else .ok (cd, q1) := rfl
      have hs1 : isSg 8 := ⟨by omega, by omega, by omega, by omega, by omega⟩
      have hs2 : isSg 9 := ⟨by omega, by omega, by omega, by omega, by omega⟩
      -- a sign of the kind
      have go : (tkK A q1.1 = 8 ∨ tkK A q1.1 = 9) → zC V YX3_pass [.ref (c + 9)] (z1, h1, S1, L1) k n (fun v X' k' n' => zW V YX3_sum 40 [some (.ref (c + 9)), some (.ref a), some (.int (nI (sgI (tkK A q1.1))))] (v.toList ++ []) X' k' n') (zOut V [some (.ref (c + 9)), some (.ref a), some (.int (nI (sgI (tkK A q1.1))))]) := by
        intro hkd
        rw [hstep, if_pos hkd] at hT
        have hnx : q1.1 + 1 < N := hX1.nx j7' (by omega) (by omega)
        have hmono0 : q1.1 ≤ mx (rdG A 8 9 u q) := by
          rw [hT]
          cases hg : pGo A q1 with
          | error e => show q1.1 ≤ 401; omega
          | ok q2 =>
            obtain ⟨eq2, h4⟩ := cGo_ok hg
            have hq2 : q2.1 ≤ 400 := by rw [eq2]; show q1.1 + 1 ≤ 400; omega
            have m1 := mx_rd hu hq2
            have m2 : mx (u q2) ≤ mx (pB (u q2) (fun r => rdL A 8 9 u f (cd ++ (r.1 ++ [(opN (tkK A q1.1), nI 0)])) r.2)) := mx_pB (fun r hr => mx_L hu (hu q2 r.1 r.2 hr hq2).1.2.2 (one1_op hs.one (hu q2 r.1 r.2 hr hq2).2.2 _))
            show q1.1 ≤ mx (pB (u q2) _)
            have : q2.1 = q1.1 + 1 := by rw [eq2]
            omega
        refine zC.of (zX3_pass hX1 hI1 hnx) (by omega) (by omega) (by omega) ?_ ?_
        · rintro _ _ ⟨rfl, q2, S2, e2, rfl, f2, p2⟩
          obtain ⟨eq2, h4⟩ := cGo_ok e2
          rw [e2] at hT
          have hT : rdG A 8 9 u q = pB (u q2) (fun r => rdL A 8 9 u f (cd ++ (r.1 ++ [(opN (tkK A q1.1), nI 0)])) r.2) := hT
          have hq2e : q2.1 = q1.1 + 1 := by rw [eq2]
          have hq2 : q2.1 ≤ 400 := p2.2.2.2.2.1.1
          have hX2 : pX c (z1 + 1) (hN h1 z1 (35, 0, fun _ => none)) (SN S2 z1) P A N := (hX1.fs f2).g (X := (z1, h1, S2, L1)) (X' := (z1 + 1, hN h1 z1 (35, 0, fun _ => none), SN S2 z1, LN L1 z1)) pG.n
          have hcz1 : c + 606 ≤ z1 := hX1.2.1
          have hI2 : pI c (SN S2 z1) N q2 o := p2.n hcz1
          have hM := hU (z1 + 1) (hN h1 z1 (35, 0, fun _ => none)) (SN S2 z1) (LN L1 z1) q2 hX2 hI2
          rw [← hVl, ← hVE] at hM
          have m1 := mx_rd hu hq2
          have m2 : mx (u q2) ≤ mx (rdG A 8 9 u q) := by
            rw [hT]
            exact mx_pB (fun r hr => mx_L hu (hu q2 r.1 r.2 hr hq2).1.2.2 (one1_op hs.one (hu q2 r.1 r.2 hr hq2).2.2 _))
          have hB := hX2.1
          refine sX3_sum_40 _ _ _ _ _ ?_
          simp (disch := omega) only [oAld, oCV, oDup, oIld, oNew, hB.pk, hVc, hVs, List.getElem?_cons_zero, List.getElem?_cons_succ, List.set_cons_zero, List.set_cons_succ, List.drop_succ_cons, List.drop_zero, List.take_succ_cons, List.take_zero, List.length_cons, List.length_nil, List.reverse_cons, List.reverse_nil, List.nil_append, List.cons_append, Option.toList_some, Option.toList_none, va_rf_s, true_and, and_true, true_implies, false_implies, not_true_eq_false, not_false_eq_true, Nat.reduceAdd, Nat.reduceLeDiff, Nat.le_add_left, Nat.zero_le, Nat.le_refl, true_or, or_true, b01_t, b01_f, b01_ok, bool_ft, vp_b01, vp_b0, vp_b1, b01_eq0, b01_eq1, implies_true, zneq, hN_ts, hN_to, hN_ns, hN_no, hN_rs, hN_ro, SN_s, SN_o, zur_t, zur_n, zur_rs, zur_rk, zur_ro, nI_add, nI_clamp, zi_in, zi_le_t, zi_le_f, zi_lt_t, zi_lt_f, zi_eq_t, zi_eq_f, nI_leI, nI_ltI, nI_eq, z_in, pk_mul, zu_same, zu_rw, zu_ix, zi_ne0, zi_sub, zi_m1, Nat.add_sub_cancel, Nat.reduceMul, Nat.reduceSub]
          refine ⟨by omega, by omega, ?_⟩
          refine zC.of hM (by omega) (by omega) (by omega) ?_ ?_
          · rintro _ _ ⟨cd3, q3, b, z3, h3, S3, L3, e3, rfl, rfl, g3, p3, t3⟩
            have hr3 := hu q2 cd3 q3 e3 hq2
            rw [e3] at hT m2 m1 ⊢
            have em : mx (Except.ok (cd3, q3) : zPR (zCd × zCu)) = q3.1 := rfl
            rw [em] at m2 m1 ⊢
            have hT : rdG A 8 9 u q = rdL A 8 9 u f (cd ++ (cd3 ++ [(opN (tkK A q1.1), nI 0)])) q3 := hT
            have hz3 : z1 + 1 ≤ z3 := g3.1
            have tz : zt h3 z1 = 35 := by
              have he : h3 z1 = hN h1 z1 (35, 0, fun _ => none) z1 := (g3.2 z1 (Nat.lt_succ_self z1)).1
              have e2 : zt h3 z1 = zt (hN h1 z1 (35, 0, fun _ => none)) z1 := by unfold zt; rw [he]
              rw [e2]; exact hN_ts
            have old : ∀ y, y < z1 → h3 y = h1 y ∧ (y ≠ c + 9 → y ≠ c + 1 → S3 y = S1 y) ∧ L3 y = L1 y := fun y hy => by
              obtain ⟨o1, o2, o3⟩ := g3.2 y (show y < z1 + 1 by omega)
              exact ⟨o1.trans (hN_o (by omega)), fun y1 y2 => (o2 y1 y2).trans ((SN_o (by omega)).trans (f2 y y1 y2)), o3.trans (LN_o (by omega))⟩
            refine sX3_sum_50 _ _ _ _ _ ?_
            simp (disch := omega) only [oCI, List.getElem?_cons_zero, List.getElem?_cons_succ, List.set_cons_zero, List.set_cons_succ, List.drop_succ_cons, List.drop_zero, List.take_succ_cons, List.take_zero, List.length_cons, List.length_nil, List.reverse_cons, List.reverse_nil, List.nil_append, List.cons_append, Option.toList_some, Option.toList_none, va_rf_s, true_and, and_true, true_implies, false_implies, not_true_eq_false, not_false_eq_true, Nat.reduceAdd, Nat.reduceLeDiff, Nat.le_add_left, Nat.zero_le, Nat.le_refl, znew, true_or, or_true, b01_t, b01_f, b01_ok, bool_ft, vp_b01, vp_b0, vp_b1, b01_eq0, b01_eq1, implies_true, nI_add, nI_clamp, zi_in, zi_le_t, zi_le_f, zi_lt_t, zi_lt_f, zi_eq_t, zi_eq_f, nI_leI, nI_ltI, nI_eq, z_in, pk_mul, zu_same, zu_rw, zu_ix, zi_ne0, zi_sub, zi_m1, Nat.add_sub_cancel, Nat.reduceMul, Nat.reduceSub]
            refine zC.ofN (zX15_init tz) (by omega) (by omega) (by omega) ?_
            rintro _ _ ⟨rfl, rfl⟩
            refine sX3_sum_53 _ _ _ _ _ ?_
            simp (disch := omega) only [oAst, oNop, List.getElem?_cons_zero, List.getElem?_cons_succ, List.set_cons_zero, List.set_cons_succ, List.drop_succ_cons, List.drop_zero, List.take_succ_cons, List.take_zero, List.length_cons, List.length_nil, List.reverse_cons, List.reverse_nil, List.nil_append, List.cons_append, Option.toList_some, Option.toList_none, va_rf_s, true_and, and_true, true_implies, false_implies, not_true_eq_false, not_false_eq_true, Nat.reduceAdd, Nat.reduceLeDiff, Nat.le_add_left, Nat.zero_le, Nat.le_refl, znew, true_or, or_true, b01_t, b01_f, b01_ok, bool_ft, vp_b01, vp_b0, vp_b1, b01_eq0, b01_eq1, implies_true, nI_add, nI_clamp, zi_in, zi_le_t, zi_le_f, zi_lt_t, zi_lt_f, zi_eq_t, zi_eq_f, nI_leI, nI_ltI, nI_eq, z_in, pk_mul, zu_same, zu_rw, zu_ix, zi_ne0, zi_sub, zi_m1, Nat.add_sub_cancel, Nat.reduceMul, Nat.reduceSub]
            refine ih z3 _ _ L3 z1 _ q3 _ _ _ (by omega) hT ?_ ?_ ?_ (by omega) (by omega) (by omega)
            · refine ⟨Nat.le_trans hzz (by show z1 ≤ z3; omega), fun y hy => ?_⟩
              have hy' : y < z := hy
              obtain ⟨o1, o2, o3⟩ := old y (by omega)
              obtain ⟨w1, w2, w3⟩ := hG.2 y hy
              refine ⟨?_, fun y1 y2 => ?_, o3.trans w3⟩
              · show zur (zur h3 z1 1 _) z1 2 _ y = h y
                rw [zur_ne (by omega), zur_ne (by omega)]; exact o1.trans w1
              · show zu S3 z1 0 _ y = S y
                rw [zu_rw _ _ (by omega)]; exact (o2 y1 y2).trans (w2 y1 y2)
            · exact p3.r (zu_rw _ _ (by omega))
            · obtain ⟨D, hD⟩ : ∃ D, q3.1 - q.1 = D + 1 := ⟨q3.1 - q.1 - 1, by omega⟩
              rw [hD]
              refine ⟨⟨hzz, by omega⟩, Or.inr (Or.inr ⟨by rw [zur_t, zur_t]; exact tz, tkK A q1.1, a, b, cd, cd3, ?_, ?_, ?_, zur_rs, ?_, ?_, rfl⟩)⟩
              · unfold isOp; omega
              · rw [zu_same]
                rcases hkd with e | e <;> rw [e] <;> rfl
              · rw [zur_rk (by omega)]; exact zur_rs
              · refine (hs.fr (ok' := fun b => z ≤ b ∧ b < z3) (fun y hy => ?_) (fun y hy => ?_) (fun y hy => ⟨hy.1, by omega⟩)).le (by omega)
                · rw [zu_rw _ _ (by omega)]; exact (old y hy.2).2.1 (by omega) (by omega)
                · rw [zur_ne (by omega), zur_ne (by omega)]; exact (old y hy.2).1
              · refine (t3.fr (ok' := fun b => z ≤ b ∧ b < z3) (fun y hy => ?_) (fun y hy => ?_) (fun y hy => ⟨by omega, hy.2⟩)).le (by omega)
                · exact zu_rw _ _ (by omega)
                · rw [zur_ne (by omega), zur_ne (by omega)]
          · rintro _ _ ⟨e, z3, h3, S3, L3, e3, rfl, rfl, g3, f4⟩
            have hR : rdG A 8 9 u q = .error e := by rw [hT, e3]; rfl
            have hm3 : mx (rdG A 8 9 u q) = 401 := by rw [hR]; rfl
            have em : mx (u q2) ≤ 401 := by rw [e3]; exact Nat.le_refl _
            exact flt _ e _ _ _ _ hR _ _ (by omega) (by omega) ((hG.tr (pG.s f2)).tr (pG.n.tr g3)) f4
        · rintro _ _ ⟨e, S', e1, rfl, rfl, f1, f2⟩
          have hR : rdG A 8 9 u q = .error e := by rw [hT, e1]; rfl
          have hm3 : mx (rdG A 8 9 u q) = 401 := by rw [hR]; rfl
          exact flt _ e _ _ _ _ hR _ _ (by omega) (by omega) (hG.tr (pG.s f1)) f2
      have e8 : ∀ kk, isSg kk → tkK A q1.1 = kk → S1 (c + 8) q1.1 = nI (sgI (tkK A q1.1)) := fun kk hkk e => by
        have hkk2 : (A.getD q1.1 tk0).1 = tkK A q1.1 := rfl
        unfold isSg at hkk
        rcases (hX1.tk j7').2 with ⟨e, -⟩ | ⟨e, -⟩ | ⟨e, -, -⟩ | ⟨e, -, -⟩ | ⟨⟨e, e2⟩, -, -⟩ | ⟨-, -, e8⟩
        · rw [hkk2] at e; omega
        · rw [hkk2] at e; omega
        · rw [hkk2] at e; omega
        · rw [hkk2] at e; omega
        · rw [hkk2] at e; omega
        · exact e8
      have hmono1 : q1.1 ≤ mx (rdG A 8 9 u q) := by rw [hT]; exact mx_L hu j7 hs.one
      refine sX3_sum_5 _ _ _ _ _ ?_
      simp (disch := omega) only [oAld, oCV, oPush, hB.pk, List.getElem?_cons_zero, List.getElem?_cons_succ, List.set_cons_zero, List.set_cons_succ, List.drop_succ_cons, List.drop_zero, List.take_succ_cons, List.take_zero, List.length_cons, List.length_nil, List.reverse_cons, List.reverse_nil, List.nil_append, List.cons_append, Option.toList_some, Option.toList_none, va_rf_s, true_and, and_true, true_implies, false_implies, not_true_eq_false, not_false_eq_true, Nat.reduceAdd, Nat.reduceLeDiff, Nat.le_add_left, Nat.zero_le, Nat.le_refl, znew, true_or, or_true, b01_t, b01_f, b01_ok, bool_ft, vp_b01, vp_b0, vp_b1, b01_eq0, b01_eq1, implies_true, nI_add, nI_clamp, zi_in, zi_le_t, zi_le_f, zi_lt_t, zi_lt_f, zi_eq_t, zi_eq_f, nI_leI, nI_ltI, nI_eq, z_in, pk_mul, zu_same, zu_rw, zu_ix, zi_ne0, zi_sub, zi_m1, Nat.add_sub_cancel, Nat.reduceMul, Nat.reduceSub]
      refine zC.ofN (zX3_isSign (k := 8) hX1 hI1 hs1) (by omega) (by omega) (by omega) ?_
      rintro _ _ ⟨rfl, rfl⟩
      by_cases hk1 : tkK A q1.1 = 8
      · rw [decide_eq_true hk1]
        have e8' := e8 8 hs1 hk1
        refine sX3_sum_11 _ _ _ _ _ ?_
        simp (disch := omega) only [oAld, oAld1, oCV, oGI, oGR, oIf, oIst, oPush, hB.pk, hB.pr0, hB.tk, hB.tr6, hB.tt6, hB.tn6, j3, e8', List.getElem?_cons_zero, List.getElem?_cons_succ, List.set_cons_zero, List.set_cons_succ, List.drop_succ_cons, List.drop_zero, List.take_succ_cons, List.take_zero, List.length_cons, List.length_nil, List.reverse_cons, List.reverse_nil, List.nil_append, List.cons_append, Option.toList_some, Option.toList_none, va_rf_s, true_and, and_true, true_implies, false_implies, not_true_eq_false, not_false_eq_true, Nat.reduceAdd, Nat.reduceLeDiff, Nat.le_add_left, Nat.zero_le, Nat.le_refl, znew, true_or, or_true, b01_t, b01_f, b01_ok, bool_ft, vp_b01, vp_b0, vp_b1, b01_eq0, b01_eq1, implies_true, nI_add, nI_clamp, zi_in, zi_le_t, zi_le_f, zi_lt_t, zi_lt_f, zi_eq_t, zi_eq_f, nI_leI, nI_ltI, nI_eq, z_in, pk_mul, zu_same, zu_rw, zu_ix, zi_ne0, zi_sub, zi_m1, Nat.add_sub_cancel, Nat.reduceMul, Nat.reduceSub]
        exact go (Or.inl hk1)
      · rw [decide_eq_false hk1]
        refine sX3_sum_11 _ _ _ _ _ ?_
        simp (disch := omega) only [oAld, oAld1, oCV, oGI, oGR, oIf, oIst, oPush, hB.pk, hB.pr0, hB.tk, hB.tr6, hB.tt6, hB.tn6, List.getElem?_cons_zero, List.getElem?_cons_succ, List.set_cons_zero, List.set_cons_succ, List.drop_succ_cons, List.drop_zero, List.take_succ_cons, List.take_zero, List.length_cons, List.length_nil, List.reverse_cons, List.reverse_nil, List.nil_append, List.cons_append, Option.toList_some, Option.toList_none, va_rf_s, true_and, and_true, true_implies, false_implies, not_true_eq_false, not_false_eq_true, Nat.reduceAdd, Nat.reduceLeDiff, Nat.le_add_left, Nat.zero_le, Nat.le_refl, znew, true_or, or_true, b01_t, b01_f, b01_ok, bool_ft, vp_b01, vp_b0, vp_b1, b01_eq0, b01_eq1, implies_true, nI_add, nI_clamp, zi_in, zi_le_t, zi_le_f, zi_lt_t, zi_lt_f, zi_eq_t, zi_eq_f, nI_leI, nI_ltI, nI_eq, z_in, pk_mul, zu_same, zu_rw, zu_ix, zi_ne0, zi_sub, zi_m1, Nat.add_sub_cancel, Nat.reduceMul, Nat.reduceSub]
        refine zC.ofN (zX3_isSign (k := 9) hX1 hI1 hs2) (by omega) (by omega) (by omega) ?_
        rintro _ _ ⟨rfl, rfl⟩
        by_cases hk2 : tkK A q1.1 = 9
        · rw [decide_eq_true hk2]
          have e8' := e8 9 hs2 hk2
          refine sX3_sum_20 _ _ _ _ _ ?_
          simp (disch := omega) only [oAld, oAld1, oCV, oGI, oGR, oIf, oIst, oRA, hB.pk, hB.pr0, hB.tk, hB.tr6, hB.tt6, hB.tn6, j3, e8', List.getElem?_cons_zero, List.getElem?_cons_succ, List.set_cons_zero, List.set_cons_succ, List.drop_succ_cons, List.drop_zero, List.take_succ_cons, List.take_zero, List.length_cons, List.length_nil, List.reverse_cons, List.reverse_nil, List.nil_append, List.cons_append, Option.toList_some, Option.toList_none, va_rf_s, true_and, and_true, true_implies, false_implies, not_true_eq_false, not_false_eq_true, Nat.reduceAdd, Nat.reduceLeDiff, Nat.le_add_left, Nat.zero_le, Nat.le_refl, znew, true_or, or_true, b01_t, b01_f, b01_ok, bool_ft, vp_b01, vp_b0, vp_b1, b01_eq0, b01_eq1, implies_true, nI_add, nI_clamp, zi_in, zi_le_t, zi_le_f, zi_lt_t, zi_lt_f, zi_eq_t, zi_eq_f, nI_leI, nI_ltI, nI_eq, z_in, pk_mul, zu_same, zu_rw, zu_ix, zi_ne0, zi_sub, zi_m1, Nat.add_sub_cancel, Nat.reduceMul, Nat.reduceSub]
          exact go (Or.inr hk2)
        · rw [decide_eq_false hk2]
          rw [hstep, if_neg (by omega)] at hT
          have hm : mx (rdG A 8 9 u q) = q1.1 := by rw [hT]; rfl
          rw [hm] at hVc hVs
          refine sX3_sum_20 _ _ _ _ _ ?_
          simp (disch := omega) only [oAld, oAld1, oCV, oGI, oGR, oIf, oIst, oRA, hB.pk, hB.pr0, hB.tk, hB.tr6, hB.tt6, hB.tn6, hVc, hVs, List.getElem?_cons_zero, List.getElem?_cons_succ, List.set_cons_zero, List.set_cons_succ, List.drop_succ_cons, List.drop_zero, List.take_succ_cons, List.take_zero, List.length_cons, List.length_nil, List.reverse_cons, List.reverse_nil, List.nil_append, List.cons_append, Option.toList_some, Option.toList_none, va_rf_s, true_and, and_true, true_implies, false_implies, not_true_eq_false, not_false_eq_true, Nat.reduceAdd, Nat.reduceLeDiff, Nat.le_add_left, Nat.zero_le, Nat.le_refl, znew, true_or, or_true, b01_t, b01_f, b01_ok, bool_ft, vp_b01, vp_b0, vp_b1, b01_eq0, b01_eq1, implies_true, nI_add, nI_clamp, zi_in, zi_le_t, zi_le_f, zi_lt_t, zi_lt_f, zi_eq_t, zi_eq_f, nI_leI, nI_ltI, nI_eq, z_in, pk_mul, zu_same, zu_rw, zu_ix, zi_ne0, zi_sub, zi_m1, Nat.add_sub_cancel, Nat.reduceMul, Nat.reduceSub]
          exact ⟨hVQ _ _ ⟨cd, q1, a, z1, h1, S1, L1, hT, rfl, rfl, hG, hI1, hs⟩, by omega, by omega⟩
  have hM := hU z h S L q hX hI
  rw [← hVl, ← hVE] at hM
  have hGq : rdG A 8 9 u q = pB (u q) (fun r => rdL A 8 9 u 401 r.1 r.2) := rfl
  have m1 := mx_rd hu i7
  have m2 : mx (u q) ≤ mx (rdG A 8 9 u q) := by
    rw [hGq]
    exact mx_pB (fun r hr => mx_L hu (hu q r.1 r.2 hr i7).1.2.2 (hu q r.1 r.2 hr i7).2.2)
  refine sX3_sum_0 _ _ _ _ _ ?_
  simp (disch := omega) only [oAld, oCV, hB.pk, List.getElem?_cons_zero, List.getElem?_cons_succ, List.set_cons_zero, List.set_cons_succ, List.drop_succ_cons, List.drop_zero, List.take_succ_cons, List.take_zero, List.length_cons, List.length_nil, List.reverse_cons, List.reverse_nil, List.nil_append, List.cons_append, Option.toList_some, Option.toList_none, va_rf_s, true_and, and_true, true_implies, false_implies, not_true_eq_false, not_false_eq_true, Nat.reduceAdd, Nat.reduceLeDiff, Nat.le_add_left, Nat.zero_le, Nat.le_refl, znew, true_or, or_true, b01_t, b01_f, b01_ok, bool_ft, vp_b01, vp_b0, vp_b1, b01_eq0, b01_eq1, implies_true, nI_add, nI_clamp, zi_in, zi_le_t, zi_le_f, zi_lt_t, zi_lt_f, zi_eq_t, zi_eq_f, nI_leI, nI_ltI, nI_eq, z_in, pk_mul, zu_same, zu_rw, zu_ix, zi_ne0, zi_sub, zi_m1, Nat.add_sub_cancel, Nat.reduceMul, Nat.reduceSub]
  refine zC.of hM (by omega) (by omega) (by omega) ?_ ?_
  · rintro _ _ ⟨cd, q1, a, z1, h1, S1, L1, e1, rfl, rfl, g1, p1, t1⟩
    have hr1 := (hu q cd q1 e1 i7).1
    rw [e1] at hGq ⊢
    have em : mx (Except.ok (cd, q1) : zPR (zCd × zCu)) = q1.1 := rfl
    rw [em]
    refine sX3_sum_4 _ _ _ _ _ ?_
    simp (disch := omega) only [oAst, List.getElem?_cons_zero, List.getElem?_cons_succ, List.set_cons_zero, List.set_cons_succ, List.drop_succ_cons, List.drop_zero, List.take_succ_cons, List.take_zero, List.length_cons, List.length_nil, List.reverse_cons, List.reverse_nil, List.nil_append, List.cons_append, Option.toList_some, Option.toList_none, va_rf_s, true_and, and_true, true_implies, false_implies, not_true_eq_false, not_false_eq_true, Nat.reduceAdd, Nat.reduceLeDiff, Nat.le_add_left, Nat.zero_le, Nat.le_refl, znew, true_or, or_true, b01_t, b01_f, b01_ok, bool_ft, vp_b01, vp_b0, vp_b1, b01_eq0, b01_eq1, implies_true, nI_add, nI_clamp, zi_in, zi_le_t, zi_le_f, zi_lt_t, zi_lt_f, zi_eq_t, zi_eq_f, nI_leI, nI_ltI, nI_eq, z_in, pk_mul, zu_same, zu_rw, zu_ix, zi_ne0, zi_sub, zi_m1, Nat.add_sub_cancel, Nat.reduceMul, Nat.reduceSub]
    exact loop 401 z1 h1 S1 L1 a cd q1 _ _ _ (by omega) hGq g1 p1 t1 (by omega) (by omega) (by omega)
  · rintro _ _ ⟨e, z3, h3, S3, L3, e3, rfl, rfl, g3, f4⟩
    have hR : rdG A 8 9 u q = .error e := by rw [hGq, e3]; rfl
    have hm3 : mx (rdG A 8 9 u q) = 401 := by rw [hR]; rfl
    exact flt _ e _ _ _ _ hR _ _ (by omega) (by omega) g3 f4
/-- all levels -/
theorem zX3_sums : ∀ lv o, lv + o = 6 → exM l E (14 + 14 * lv) YX3_sum c P A N o (rdX A lv)
  | 0, o, ho => by
    have hU : exM l E (0 + 6) YX3_unit c P A N o (rdW A 0) := zX3_unit (lv := 0) (d := 0) (sub := fun q => pErr A 1 q.1) ho (fun h0 => absurd rfl h0)
    exact zX3_sum (rdG_ok (rdW_ok A 0)) (zX3_part (rdW_ok A 0) hU)
  | lv + 1, o, ho => by
    have ih := zX3_sums lv (o + 1) (by omega)
    have hU : exM l E (14 + 14 * lv + 6) YX3_unit c P A N o (rdW A (lv + 1)) := zX3_unit (lv := lv + 1) (sub := rdX A lv) ho (fun _ => ⟨rdX_ok A lv, ih⟩)
    exact zX3_sum (rdG_ok (rdW_ok A (lv + 1))) (zX3_part (rdW_ok A (lv + 1)) hU)
end FC
