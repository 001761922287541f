/-! the component: reach, safe, bridges, cut -/
def rq (n : Nat) (G : Nat → Nat) : Int32 := setF (fun i => decide (G i < 1000)) n
theorem rq_bt {n : Nat} {G : Nat → Nat} {i : Nat} (hn : n ≤ 32) (hi : i < n) : bt (rq n G) i = decide (G i < 1000) := by
  unfold rq
  rw [bt_setF _ hn (by omega), decide_eq_true hi, Bool.true_and]
theorem rq_and {n a b : Nat} {G : Nat → Nat} (hn : n ≤ 32) (ha : a < n) (hb : b < n) : (rq n G &&& (bitF a ||| bitF b) = nI 0) = (¬ G a < 1000 ∧ ¬ G b < 1000) := by
  apply propext
  rw [i_eq0]
  constructor
  · intro h
    have h1 := h a (by omega)
    have h2 := h b (by omega)
    rw [b_and, b_or, bt_bitF (by omega) (by omega), rq_bt hn ha, decide_eq_true rfl, Bool.true_or, Bool.and_true, decide_eq_false_iff_not] at h1
    rw [b_and, b_or, bt_bitF (s := b) (by omega) (by omega), rq_bt hn hb, decide_eq_true (rfl : b = b), Bool.or_true, Bool.and_true, decide_eq_false_iff_not] at h2
    exact ⟨h1, h2⟩
  · rintro ⟨h1, h2⟩ i hi
    rw [b_and, b_or, bt_bitF (by omega) hi, bt_bitF (by omega) hi]
    by_cases e1 : i = a
    · rw [e1, rq_bt hn ha, decide_eq_false h1, Bool.false_and]
    · by_cases e2 : i = b
      · rw [e2, rq_bt hn hb, decide_eq_false h2, Bool.false_and]
      · rw [decide_eq_false e1, decide_eq_false e2]; simp
theorem rq_step {t : ZT} {fr sh : Nat → Bool} {G : Nat → Nat} {s B : Nat} (h7 : tnc t ≤ 7) (hst : stB t) (hs : s < tns t) (hsh : sh s = false) (hB : fB B G) (hB9 : B < 999) : rq (tnc t) (frS t fr sh s G) = if rq (tnc t) G &&& (bitF (tone t s) ||| bitF (toth t s)) = nI 0 then rq (tnc t) G else rq (tnc t) G ||| (bitF (tone t s) ||| bitF (toth t s)) := by
  obtain ⟨h1, h2, h3⟩ := hst s hs
  have hv := fun j => frS_v (t := t) (fr := fr) (g := G) (j := j) hsh h3
  have hw : wS fr s ≤ 1 := by unfold wS; split <;> omega
  have ba := hB (tone t s)
  have bb := hB (toth t s)
  have ho := rq_and (G := G) (show tnc t ≤ 32 by omega) h1 h2
  refine b_ext (fun i hi => ?_)
  by_cases hin : i < tnc t
  · rw [rq_bt (by omega) hin, hv]
    by_cases hz : ¬ G (tone t s) < 1000 ∧ ¬ G (toth t s) < 1000
    · have hz' : rq (tnc t) G &&& (bitF (tone t s) ||| bitF (toth t s)) = nI 0 := by rw [ho]; exact hz
      rw [if_pos hz', rq_bt (by omega) hin]
      congr 1
      apply propext
      by_cases e1 : i = tone t s
      · rw [if_pos e1, e1]; omega
      · rw [if_neg e1]
        by_cases e2 : i = toth t s
        · rw [if_pos e2, e2]; omega
        · rw [if_neg e2]
    · have hz' : ¬ rq (tnc t) G &&& (bitF (tone t s) ||| bitF (toth t s)) = nI 0 := by rw [ho]; exact hz
      rw [if_neg hz', b_or, b_or, rq_bt (by omega) hin, bt_bitF (by omega) hi, bt_bitF (by omega) hi]
      by_cases e1 : i = tone t s
      · rw [if_pos e1, decide_eq_true e1, Bool.true_or, Bool.or_true, decide_eq_true_iff]; omega
      · rw [if_neg e1, decide_eq_false e1, Bool.false_or]
        by_cases e2 : i = toth t s
        · rw [if_pos e2, decide_eq_true e2, Bool.or_true, decide_eq_true_iff]; omega
        · rw [if_neg e2, decide_eq_false e2, Bool.or_false]
  · have hq : ∀ G', bt (rq (tnc t) G') i = false := fun G' => by unfold rq; rw [bt_setF _ (by omega) hi, decide_eq_false hin, Bool.false_and]
    rw [hq]
    split
    · rw [hq]
    · rw [b_or, b_or, hq, bt_bitF (by omega) hi, bt_bitF (by omega) hi, decide_eq_false (by omega), decide_eq_false (by omega)]; rfl
theorem rq_0 {n f : Nat} (hn : n ≤ 32) (hf : f < n) : rq n (fr0 f) = bitF f := by
  refine b_ext (fun i hi => ?_)
  rw [bt_bitF (by omega) hi]
  unfold rq fr0
  rw [bt_setF _ hn hi]
  by_cases e : i = f
  · subst e; simp [hf]
  · simp [e]
section CW
variable {l : Launch} {E : zE} {z : Nat} {h : Nat → Option zSh} {S : Nat → Nat → Int32} {L : Nat → Nat → Int64} {c D ta : Nat} {t : ZT} {q0 T : Nat → Int32} {A : zTA}
theorem zX0_reach (hQ : cQ h S c z D ta t q0 A T) {f : Nat} (hf : f < tnc t) (lit : Int32) : zM l E 3 YX0_reach [.ref c, .int (nI f), .int lit] (z, h, S, L) 0 0 (fun r X => r = some (.int (rq (tnc t) (farL t lit f))) ∧ X = (z, h, S, L)) (fun _ _ => False) := by
  obtain ⟨hB, hTa, hX, hT, hI, hTI⟩ := id hQ
  obtain ⟨h7, h10, h6, h5⟩ := hX.b
  have hst := hX.sb
  have hbit : ∀ s, nI 1 <<< (nI s &&& 31) = bitF s := fun s => rfl
  refine zM.go rfl rfl (Nat.le_of_ble_eq_true rfl) (ls := [some (.ref c), some (.int (nI f)), some (.int lit), none, none, none, none]) rfl ?_
  intro V hVl hVE hVd hVc hVs hVQ hVX
  generalize hfr : bt (nI 0) = fr
  generalize hsh : bt (lit ^^^ (-1)) = sh
  have hfar : farL t lit f = frN t fr sh (tnc t) (fr0 f) := by rw [← fr_7 hst h7, ← hfr, ← hsh]; rfl
  have hshl : ∀ s, s < 32 → sh s = !bt lit s := fun s hs => by rw [← hsh, bt_not _ hs]
  have streets : ∀ k, k < tnc t → (∀ x5 x6, zW V YX0_reach 7 [some (.ref c), some (.int (nI f)), some (.int lit), some (.int (rq (tnc t) (frN t fr sh (k + 1) (fr0 f)))), some (.int (nI (k + 1))), x5, x6] [] (z, h, S, L) 0 0) →
      ∀ s, s ≤ tns t → ∀ x6, zW V YX0_reach 19 [some (.ref c), some (.int (nI f)), some (.int lit), some (.int (rq (tnc t) (frR t fr sh s (frN t fr sh k (fr0 f))))), some (.int (nI k)), some (.int (nI s)), x6] [] (z, h, S, L) 0 0 := by
    intro k hk hn
    refine z_down ?_ (fun s hs ih => ?_)
    · intro x6
      refine sX0_reach_19 _ _ _ _ _ ?_
      simp (disch := omega) only [oAld, oCV, oIld, hB.k, List.getElem?_cons_zero, List.getElem?_cons_succ, List.set_cons_zero, List.set_cons_succ, List.drop_succ_cons, List.drop_zero, List.take_succ_cons, List.take_zero, List.length_cons, List.length_nil, List.reverse_cons, List.reverse_nil, List.nil_append, List.cons_append, Option.toList_some, Option.toList_none, va_rf_s, true_and, and_true, true_implies, false_implies, not_true_eq_false, not_false_eq_true, Nat.reduceAdd, Nat.reduceLeDiff, Nat.le_add_left, Nat.zero_le, Nat.le_refl, znew, true_or, or_true, b01_t, b01_f, b01_ok, bool_ft, vp_b01, vp_b0, vp_b1, b01_eq0, b01_eq1, implies_true, nI_add, nI_clamp, zi_in, zi_le_t, zi_le_f, zi_lt_t, zi_lt_f, zi_eq_t, zi_eq_f, nI_leI, nI_ltI, nI_eq, z_in, pk_mul, zu_same, zu_rw, zu_ix, zi_ne0, zi_sub, zi_m1, Nat.add_sub_cancel, Nat.reduceMul, Nat.reduceSub]
      refine zC.of0 (zX0_streets hQ) (by omega) (Nat.zero_le _) (Nat.zero_le _) ?_
      rintro _ _ ⟨rfl, rfl⟩
      refine sX0_reach_25 _ _ _ _ _ ?_
      simp (disch := omega) only [oAld, oCV, oGR, oIfc, oIld, oInc, oNop, oPush, hB.k, hTa, hX.k, hX.r1, hX.z0, hX.z1, hX.z2, hX.z3, List.getElem?_cons_zero, List.getElem?_cons_succ, List.set_cons_zero, List.set_cons_succ, List.drop_succ_cons, List.drop_zero, List.take_succ_cons, List.take_zero, List.length_cons, List.length_nil, List.reverse_cons, List.reverse_nil, List.nil_append, List.cons_append, Option.toList_some, Option.toList_none, va_rf_s, true_and, and_true, true_implies, false_implies, not_true_eq_false, not_false_eq_true, Nat.reduceAdd, Nat.reduceLeDiff, Nat.le_add_left, Nat.zero_le, Nat.le_refl, znew, true_or, or_true, b01_t, b01_f, b01_ok, bool_ft, vp_b01, vp_b0, vp_b1, b01_eq0, b01_eq1, implies_true, nI_add, nI_clamp, zi_in, zi_le_t, zi_le_f, zi_lt_t, zi_lt_f, zi_eq_t, zi_eq_f, nI_leI, nI_ltI, nI_eq, z_in, pk_mul, zu_same, zu_rw, zu_ix, zi_ne0, zi_sub, zi_m1, Nat.add_sub_cancel, Nat.reduceMul, Nat.reduceSub]
      exact hn _ _
    · intro x6
      obtain ⟨-, s1, s2, s3, s4, s5, s6, s7⟩ := hX.st hs
      have hBd := frR_B (fr := fr) (sh := sh) hst (frN_B (fr := fr) (sh := sh) (f := f) hst h10 k (by omega)) s (by omega) (by omega)
      have ihE : frR t fr sh (s + 1) (frN t fr sh k (fr0 f)) = frS t fr sh s (frR t fr sh s (frN t fr sh k (fr0 f))) := rfl
      rw [ihE] at ih
      generalize frR t fr sh s (frN t fr sh k (fr0 f)) = G at hBd ih ⊢
      have hb1 := b_one1 lit (s := s) (by omega)
      refine sX0_reach_19 _ _ _ _ _ ?_
      simp (disch := omega) only [oAld, oCV, oIld, hB.k, List.getElem?_cons_zero, List.getElem?_cons_succ, List.set_cons_zero, List.set_cons_succ, List.drop_succ_cons, List.drop_zero, List.take_succ_cons, List.take_zero, List.length_cons, List.length_nil, List.reverse_cons, List.reverse_nil, List.nil_append, List.cons_append, Option.toList_some, Option.toList_none, va_rf_s, true_and, and_true, true_implies, false_implies, not_true_eq_false, not_false_eq_true, Nat.reduceAdd, Nat.reduceLeDiff, Nat.le_add_left, Nat.zero_le, Nat.le_refl, znew, true_or, or_true, b01_t, b01_f, b01_ok, bool_ft, vp_b01, vp_b0, vp_b1, b01_eq0, b01_eq1, implies_true, nI_add, nI_clamp, zi_in, zi_le_t, zi_le_f, zi_lt_t, zi_lt_f, zi_eq_t, zi_eq_f, nI_leI, nI_ltI, nI_eq, z_in, pk_mul, zu_same, zu_rw, zu_ix, zi_ne0, zi_sub, zi_m1, Nat.add_sub_cancel, Nat.reduceMul, Nat.reduceSub]
      refine zC.of0 (zX0_streets hQ) (by omega) (Nat.zero_le _) (Nat.zero_le _) ?_
      rintro _ _ ⟨rfl, rfl⟩
      refine sX0_reach_25 _ _ _ _ _ ?_
      simp (disch := omega) only [oAld, oCV, oGR, oIfc, oIld, oInc, oNop, oPush, hB.k, hTa, hX.k, hX.r1, hX.z0, hX.z1, hX.z2, hX.z3, List.getElem?_cons_zero, List.getElem?_cons_succ, List.set_cons_zero, List.set_cons_succ, List.drop_succ_cons, List.drop_zero, List.take_succ_cons, List.take_zero, List.length_cons, List.length_nil, List.reverse_cons, List.reverse_nil, List.nil_append, List.cons_append, Option.toList_some, Option.toList_none, va_rf_s, true_and, and_true, true_implies, false_implies, not_true_eq_false, not_false_eq_true, Nat.reduceAdd, Nat.reduceLeDiff, Nat.le_add_left, Nat.zero_le, Nat.le_refl, znew, true_or, or_true, b01_t, b01_f, b01_ok, bool_ft, vp_b01, vp_b0, vp_b1, b01_eq0, b01_eq1, implies_true, nI_add, nI_clamp, zi_in, zi_le_t, zi_le_f, zi_lt_t, zi_lt_f, zi_eq_t, zi_eq_f, nI_leI, nI_ltI, nI_eq, z_in, pk_mul, zu_same, zu_rw, zu_ix, zi_ne0, zi_sub, zi_m1, Nat.add_sub_cancel, Nat.reduceMul, Nat.reduceSub]
      refine zC.of0 (zJ5_get hX.l1 hs) (by omega) (Nat.zero_le _) (Nat.zero_le _) ?_
      rintro _ _ ⟨rfl, rfl⟩
      refine sX0_reach_41 _ _ _ _ _ ?_
      simp (disch := omega) only [oAld, oBin, oCV, oCast, oGI, oGR, oIld, oPush, hB.k, hTa, hX.k, hX.r1, hX.z0, hX.z1, hX.z2, hX.z3, s1, s2, hbit, List.getElem?_cons_zero, List.getElem?_cons_succ, List.set_cons_zero, List.set_cons_succ, List.drop_succ_cons, List.drop_zero, List.take_succ_cons, List.take_zero, List.length_cons, List.length_nil, List.reverse_cons, List.reverse_nil, List.nil_append, List.cons_append, Option.toList_some, Option.toList_none, va_rf_s, true_and, and_true, true_implies, false_implies, not_true_eq_false, not_false_eq_true, Nat.reduceAdd, Nat.reduceLeDiff, Nat.le_add_left, Nat.zero_le, Nat.le_refl, znew, true_or, or_true, b01_t, b01_f, b01_ok, bool_ft, vp_b01, vp_b0, vp_b1, b01_eq0, b01_eq1, implies_true, nI_add, nI_clamp, zi_in, zi_le_t, zi_le_f, zi_lt_t, zi_lt_f, zi_eq_t, zi_eq_f, nI_leI, nI_ltI, nI_eq, z_in, pk_mul, zu_same, zu_rw, zu_ix, zi_ne0, zi_sub, zi_m1, Nat.add_sub_cancel, Nat.reduceMul, Nat.reduceSub]
      refine zC.of0 (zJ5_get hX.l1 hs) (by omega) (Nat.zero_le _) (Nat.zero_le _) ?_
      rintro _ _ ⟨rfl, rfl⟩
      refine sX0_reach_61 _ _ _ _ _ ?_
      simp (disch := omega) only [oBin, oCast, oGI, oIf, oIfc, oIld, oInc, oIst, oNop, oPush, s1, s3, hbit, hb1, List.getElem?_cons_zero, List.getElem?_cons_succ, List.set_cons_zero, List.set_cons_succ, List.drop_succ_cons, List.drop_zero, List.take_succ_cons, List.take_zero, List.length_cons, List.length_nil, List.reverse_cons, List.reverse_nil, List.nil_append, List.cons_append, Option.toList_some, Option.toList_none, va_rf_s, true_and, and_true, true_implies, false_implies, not_true_eq_false, not_false_eq_true, Nat.reduceAdd, Nat.reduceLeDiff, Nat.le_add_left, Nat.zero_le, Nat.le_refl, znew, true_or, or_true, b01_t, b01_f, b01_ok, bool_ft, vp_b01, vp_b0, vp_b1, b01_eq0, b01_eq1, implies_true, nI_add, nI_clamp, zi_in, zi_le_t, zi_le_f, zi_lt_t, zi_lt_f, zi_eq_t, zi_eq_f, nI_leI, nI_ltI, nI_eq, z_in, pk_mul, zu_same, zu_rw, zu_ix, zi_ne0, zi_sub, zi_m1, Nat.add_sub_cancel, Nat.reduceMul, Nat.reduceSub]
      refine ⟨fun h0 => ?_, fun h0 => ?_⟩
      · rw [rq_step h7 hst hs (by rw [hshl s (by omega), h0]; rfl) hBd (by omega)] at ih
        refine ⟨fun h1 => ?_, fun h1 => ?_⟩
        · rw [if_pos h1] at ih; exact ih _
        · rw [if_neg h1] at ih; exact ih _
      · rw [frS_t (by rw [hshl s (by omega)]; simpa using h0)] at ih; exact ih _
  have rounds : ∀ k, k ≤ tnc t → ∀ x5 x6, zW V YX0_reach 7 [some (.ref c), some (.int (nI f)), some (.int lit), some (.int (rq (tnc t) (frN t fr sh k (fr0 f)))), some (.int (nI k)), x5, x6] [] (z, h, S, L) 0 0 := by
    refine z_down ?_ (fun k hk ih => ?_)
    · intro x5 x6
      refine sX0_reach_7 _ _ _ _ _ ?_
      simp (disch := omega) only [oAld, oCV, oIld, hB.k, List.getElem?_cons_zero, List.getElem?_cons_succ, List.set_cons_zero, List.set_cons_succ, List.drop_succ_cons, List.drop_zero, List.take_succ_cons, List.take_zero, List.length_cons, List.length_nil, List.reverse_cons, List.reverse_nil, List.nil_append, List.cons_append, Option.toList_some, Option.toList_none, va_rf_s, true_and, and_true, true_implies, false_implies, not_true_eq_false, not_false_eq_true, Nat.reduceAdd, Nat.reduceLeDiff, Nat.le_add_left, Nat.zero_le, Nat.le_refl, znew, true_or, or_true, b01_t, b01_f, b01_ok, bool_ft, vp_b01, vp_b0, vp_b1, b01_eq0, b01_eq1, implies_true, nI_add, nI_clamp, zi_in, zi_le_t, zi_le_f, zi_lt_t, zi_lt_f, zi_eq_t, zi_eq_f, nI_leI, nI_ltI, nI_eq, z_in, pk_mul, zu_same, zu_rw, zu_ix, zi_ne0, zi_sub, zi_m1, Nat.add_sub_cancel, Nat.reduceMul, Nat.reduceSub]
      refine zC.of0 (zX0_corners hQ) (by omega) (Nat.zero_le _) (Nat.zero_le _) ?_
      rintro _ _ ⟨rfl, rfl⟩
      refine sX0_reach_13 _ _ _ _ _ ?_
      simp (disch := omega) only [oIfc, oIld, oIst, oPush, oRI, List.getElem?_cons_zero, List.getElem?_cons_succ, List.set_cons_zero, List.set_cons_succ, List.drop_succ_cons, List.drop_zero, List.take_succ_cons, List.take_zero, List.length_cons, List.length_nil, List.reverse_cons, List.reverse_nil, List.nil_append, List.cons_append, Option.toList_some, Option.toList_none, va_rf_s, true_and, and_true, true_implies, false_implies, not_true_eq_false, not_false_eq_true, Nat.reduceAdd, Nat.reduceLeDiff, Nat.le_add_left, Nat.zero_le, Nat.le_refl, znew, true_or, or_true, b01_t, b01_f, b01_ok, bool_ft, vp_b01, vp_b0, vp_b1, b01_eq0, b01_eq1, implies_true, nI_add, nI_clamp, zi_in, zi_le_t, zi_le_f, zi_lt_t, zi_lt_f, zi_eq_t, zi_eq_f, nI_leI, nI_ltI, nI_eq, z_in, pk_mul, zu_same, zu_rw, zu_ix, zi_ne0, zi_sub, zi_m1, Nat.add_sub_cancel, Nat.reduceMul, Nat.reduceSub]
      exact hVQ _ _ ⟨by rw [hfar], rfl⟩
    · intro x5 x6
      refine sX0_reach_7 _ _ _ _ _ ?_
      simp (disch := omega) only [oAld, oCV, oIld, hB.k, List.getElem?_cons_zero, List.getElem?_cons_succ, List.set_cons_zero, List.set_cons_succ, List.drop_succ_cons, List.drop_zero, List.take_succ_cons, List.take_zero, List.length_cons, List.length_nil, List.reverse_cons, List.reverse_nil, List.nil_append, List.cons_append, Option.toList_some, Option.toList_none, va_rf_s, true_and, and_true, true_implies, false_implies, not_true_eq_false, not_false_eq_true, Nat.reduceAdd, Nat.reduceLeDiff, Nat.le_add_left, Nat.zero_le, Nat.le_refl, znew, true_or, or_true, b01_t, b01_f, b01_ok, bool_ft, vp_b01, vp_b0, vp_b1, b01_eq0, b01_eq1, implies_true, nI_add, nI_clamp, zi_in, zi_le_t, zi_le_f, zi_lt_t, zi_lt_f, zi_eq_t, zi_eq_f, nI_leI, nI_ltI, nI_eq, z_in, pk_mul, zu_same, zu_rw, zu_ix, zi_ne0, zi_sub, zi_m1, Nat.add_sub_cancel, Nat.reduceMul, Nat.reduceSub]
      refine zC.of0 (zX0_corners hQ) (by omega) (Nat.zero_le _) (Nat.zero_le _) ?_
      rintro _ _ ⟨rfl, rfl⟩
      refine sX0_reach_13 _ _ _ _ _ ?_
      simp (disch := omega) only [oIfc, oIld, oIst, oPush, oRI, List.getElem?_cons_zero, List.getElem?_cons_succ, List.set_cons_zero, List.set_cons_succ, List.drop_succ_cons, List.drop_zero, List.take_succ_cons, List.take_zero, List.length_cons, List.length_nil, List.reverse_cons, List.reverse_nil, List.nil_append, List.cons_append, Option.toList_some, Option.toList_none, va_rf_s, true_and, and_true, true_implies, false_implies, not_true_eq_false, not_false_eq_true, Nat.reduceAdd, Nat.reduceLeDiff, Nat.le_add_left, Nat.zero_le, Nat.le_refl, znew, true_or, or_true, b01_t, b01_f, b01_ok, bool_ft, vp_b01, vp_b0, vp_b1, b01_eq0, b01_eq1, implies_true, nI_add, nI_clamp, zi_in, zi_le_t, zi_le_f, zi_lt_t, zi_lt_f, zi_eq_t, zi_eq_f, nI_leI, nI_ltI, nI_eq, z_in, pk_mul, zu_same, zu_rw, zu_ix, zi_ne0, zi_sub, zi_m1, Nat.add_sub_cancel, Nat.reduceMul, Nat.reduceSub]
      exact streets k hk ih 0 (by omega) _
  have r0 := rounds 0 (by omega) none none
  rw [show frN t fr sh 0 (fr0 f) = fr0 f from rfl, rq_0 (by omega) hf] at r0
  refine sX0_reach_0 _ _ _ _ _ ?_
  simp (disch := omega) only [oBin, oIld, oIst, oPush, hbit, List.getElem?_cons_zero, List.getElem?_cons_succ, List.set_cons_zero, List.set_cons_succ, List.drop_succ_cons, List.drop_zero, List.take_succ_cons, List.take_zero, List.length_cons, List.length_nil, List.reverse_cons, List.reverse_nil, List.nil_append, List.cons_append, Option.toList_some, Option.toList_none, va_rf_s, true_and, and_true, true_implies, false_implies, not_true_eq_false, not_false_eq_true, Nat.reduceAdd, Nat.reduceLeDiff, Nat.le_add_left, Nat.zero_le, Nat.le_refl, znew, true_or, or_true, b01_t, b01_f, b01_ok, bool_ft, vp_b01, vp_b0, vp_b1, b01_eq0, b01_eq1, implies_true, nI_add, nI_clamp, zi_in, zi_le_t, zi_le_f, zi_lt_t, zi_lt_f, zi_eq_t, zi_eq_f, nI_leI, nI_ltI, nI_eq, z_in, pk_mul, zu_same, zu_rw, zu_ix, zi_ne0, zi_sub, zi_m1, Nat.add_sub_cancel, Nat.reduceMul, Nat.reduceSub]
  exact r0
theorem zX0_safe (hQ : cQ h S c z D ta t q0 A T) (f : Int32) : zM l E 5 YX0_safe [.ref c, .int f] (z, h, S, L) 0 0 (fun r X => r = some (.int (safeR t T f)) ∧ X = (z, h, S, L)) (fun _ _ => False) := by
  obtain ⟨hB, hTa, hX, hT, hI, hTI⟩ := id hQ
  obtain ⟨h7, h10, h6, h5⟩ := hX.b
  have hW := hB.tn
  refine zM.go rfl rfl (Nat.le_of_ble_eq_true rfl) (ls := [some (.ref c), some (.int f)]) rfl ?_
  intro V hVl hVE hVd hVc hVs hVQ hVX
  refine sX0_safe_0 _ _ _ _ _ ?_
  simp (disch := omega) only [oAld, oCV, oIld, hB.k, List.getElem?_cons_zero, List.getElem?_cons_succ, List.set_cons_zero, List.set_cons_succ, List.drop_succ_cons, List.drop_zero, List.take_succ_cons, List.take_zero, List.length_cons, List.length_nil, List.reverse_cons, List.reverse_nil, List.nil_append, List.cons_append, Option.toList_some, Option.toList_none, va_rf_s, true_and, and_true, true_implies, false_implies, not_true_eq_false, not_false_eq_true, Nat.reduceAdd, Nat.reduceLeDiff, Nat.le_add_left, Nat.zero_le, Nat.le_refl, znew, true_or, or_true, b01_t, b01_f, b01_ok, bool_ft, vp_b01, vp_b0, vp_b1, b01_eq0, b01_eq1, implies_true, nI_add, nI_clamp, zi_in, zi_le_t, zi_le_f, zi_lt_t, zi_lt_f, zi_eq_t, zi_eq_f, nI_leI, nI_ltI, nI_eq, z_in, pk_mul, zu_same, zu_rw, zu_ix, zi_ne0, zi_sub, zi_m1, Nat.add_sub_cancel, Nat.reduceMul, Nat.reduceSub]
  refine zC.of0 (zX0_isCorner hQ _) (by omega) (Nat.zero_le _) (Nat.zero_le _) ?_
  rintro _ _ ⟨rfl, rfl⟩
  cases hok : okI f (tnc t) with
  | false =>
    refine sX0_safe_5 _ _ _ _ _ ?_
    simp (disch := omega) only [oAld, oCV, oGR, oIf, oIld, oPush, oRI, hB.k, hB.r7, hTa, hW.k, List.getElem?_cons_zero, List.getElem?_cons_succ, List.set_cons_zero, List.set_cons_succ, List.drop_succ_cons, List.drop_zero, List.take_succ_cons, List.take_zero, List.length_cons, List.length_nil, List.reverse_cons, List.reverse_nil, List.nil_append, List.cons_append, Option.toList_some, Option.toList_none, va_rf_s, true_and, and_true, true_implies, false_implies, not_true_eq_false, not_false_eq_true, Nat.reduceAdd, Nat.reduceLeDiff, Nat.le_add_left, Nat.zero_le, Nat.le_refl, znew, true_or, or_true, b01_t, b01_f, b01_ok, bool_ft, vp_b01, vp_b0, vp_b1, b01_eq0, b01_eq1, implies_true, nI_add, nI_clamp, zi_in, zi_le_t, zi_le_f, zi_lt_t, zi_lt_f, zi_eq_t, zi_eq_f, nI_leI, nI_ltI, nI_eq, z_in, pk_mul, zu_same, zu_rw, zu_ix, zi_ne0, zi_sub, zi_m1, Nat.add_sub_cancel, Nat.reduceMul, Nat.reduceSub]
    exact hVQ _ _ ⟨by rw [safeR, if_neg (by rw [hok]; decide)], rfl⟩
  | true =>
    obtain ⟨i, hi, rfl⟩ := (okI_iff (by omega)).mp hok
    refine sX0_safe_5 _ _ _ _ _ ?_
    simp (disch := omega) only [oAld, oCV, oGR, oIf, oIld, oPush, oRI, hB.k, hB.r7, hTa, hW.k, List.getElem?_cons_zero, List.getElem?_cons_succ, List.set_cons_zero, List.set_cons_succ, List.drop_succ_cons, List.drop_zero, List.take_succ_cons, List.take_zero, List.length_cons, List.length_nil, List.reverse_cons, List.reverse_nil, List.nil_append, List.cons_append, Option.toList_some, Option.toList_none, va_rf_s, true_and, and_true, true_implies, false_implies, not_true_eq_false, not_false_eq_true, Nat.reduceAdd, Nat.reduceLeDiff, Nat.le_add_left, Nat.zero_le, Nat.le_refl, znew, true_or, or_true, b01_t, b01_f, b01_ok, bool_ft, vp_b01, vp_b0, vp_b1, b01_eq0, b01_eq1, implies_true, nI_add, nI_clamp, zi_in, zi_le_t, zi_le_f, zi_lt_t, zi_lt_f, zi_eq_t, zi_eq_f, nI_leI, nI_ltI, nI_eq, z_in, pk_mul, zu_same, zu_rw, zu_ix, zi_ne0, zi_sub, zi_m1, Nat.add_sub_cancel, Nat.reduceMul, Nat.reduceSub]
    refine zC.of0 (zX5_lit hW hX hT hI hTI) (by omega) (Nat.zero_le _) (Nat.zero_le _) ?_
    rintro _ _ ⟨rfl, rfl⟩
    refine sX0_safe_21 _ _ _ _ _ ?_
    simp (disch := omega) only [oCV, hB.k, List.getElem?_cons_zero, List.getElem?_cons_succ, List.set_cons_zero, List.set_cons_succ, List.drop_succ_cons, List.drop_zero, List.take_succ_cons, List.take_zero, List.length_cons, List.length_nil, List.reverse_cons, List.reverse_nil, List.nil_append, List.cons_append, Option.toList_some, Option.toList_none, va_rf_s, true_and, and_true, true_implies, false_implies, not_true_eq_false, not_false_eq_true, Nat.reduceAdd, Nat.reduceLeDiff, Nat.le_add_left, Nat.zero_le, Nat.le_refl, znew, true_or, or_true, b01_t, b01_f, b01_ok, bool_ft, vp_b01, vp_b0, vp_b1, b01_eq0, b01_eq1, implies_true, nI_add, nI_clamp, zi_in, zi_le_t, zi_le_f, zi_lt_t, zi_lt_f, zi_eq_t, zi_eq_f, nI_leI, nI_ltI, nI_eq, z_in, pk_mul, zu_same, zu_rw, zu_ix, zi_ne0, zi_sub, zi_m1, Nat.add_sub_cancel, Nat.reduceMul, Nat.reduceSub]
    refine zC.of0 (zX0_reach hQ hi _) (by omega) (Nat.zero_le _) (Nat.zero_le _) ?_
    rintro _ _ ⟨rfl, rfl⟩
    refine sX0_safe_24 _ _ _ _ _ ?_
    simp (disch := omega) only [oNop, oRI, List.getElem?_cons_zero, List.getElem?_cons_succ, List.set_cons_zero, List.set_cons_succ, List.drop_succ_cons, List.drop_zero, List.take_succ_cons, List.take_zero, List.length_cons, List.length_nil, List.reverse_cons, List.reverse_nil, List.nil_append, List.cons_append, Option.toList_some, Option.toList_none, va_rf_s, true_and, and_true, true_implies, false_implies, not_true_eq_false, not_false_eq_true, Nat.reduceAdd, Nat.reduceLeDiff, Nat.le_add_left, Nat.zero_le, Nat.le_refl, znew, true_or, or_true, b01_t, b01_f, b01_ok, bool_ft, vp_b01, vp_b0, vp_b1, b01_eq0, b01_eq1, implies_true, nI_add, nI_clamp, zi_in, zi_le_t, zi_le_f, zi_lt_t, zi_lt_f, zi_eq_t, zi_eq_f, nI_leI, nI_ltI, nI_eq, z_in, pk_mul, zu_same, zu_rw, zu_ix, zi_ne0, zi_sub, zi_m1, Nat.add_sub_cancel, Nat.reduceMul, Nat.reduceSub]
    exact hVQ _ _ ⟨by rw [safeR, if_pos hok, nI_clamp (by omega)]; rfl, rfl⟩
theorem zX0_bridges (hQ : cQ h S c z D ta t q0 A T) : zM l E 5 YX0_bridges [.ref c] (z, h, S, L) 0 0 (fun r X => r = some (.int (bridgesR t T)) ∧ X = (z, h, S, L)) (fun _ _ => False) := by
  obtain ⟨hB, hTa, hX, hT, hI, hTI⟩ := id hQ
  obtain ⟨h7, h10, h6, h5⟩ := hX.b
  have hW := hB.tn
  have hbit : ∀ s, nI 1 <<< (nI s &&& 31) = bitF s := fun s => rfl
  refine zM.go rfl rfl (Nat.le_of_ble_eq_true rfl) (ls := [some (.ref c), none, none, none, none]) rfl ?_
  intro V hVl hVE hVd hVc hVs hVQ hVX
  refine sX0_bridges_0 _ _ _ _ _ ?_
  simp (disch := omega) only [oAld, oCV, oGR, oIst, oPush, hB.k, hB.r7, hTa, hW.k, List.getElem?_cons_zero, List.getElem?_cons_succ, List.set_cons_zero, List.set_cons_succ, List.drop_succ_cons, List.drop_zero, List.take_succ_cons, List.take_zero, List.length_cons, List.length_nil, List.reverse_cons, List.reverse_nil, List.nil_append, List.cons_append, Option.toList_some, Option.toList_none, va_rf_s, true_and, and_true, true_implies, false_implies, not_true_eq_false, not_false_eq_true, Nat.reduceAdd, Nat.reduceLeDiff, Nat.le_add_left, Nat.zero_le, Nat.le_refl, znew, true_or, or_true, b01_t, b01_f, b01_ok, bool_ft, vp_b01, vp_b0, vp_b1, b01_eq0, b01_eq1, implies_true, nI_add, nI_clamp, zi_in, zi_le_t, zi_le_f, zi_lt_t, zi_lt_f, zi_eq_t, zi_eq_f, nI_leI, nI_ltI, nI_eq, z_in, pk_mul, zu_same, zu_rw, zu_ix, zi_ne0, zi_sub, zi_m1, Nat.add_sub_cancel, Nat.reduceMul, Nat.reduceSub]
  refine zC.of0 (zX5_lit hW hX hT hI hTI) (by omega) (Nat.zero_le _) (Nat.zero_le _) ?_
  rintro _ _ ⟨rfl, rfl⟩
  rw [bridgesR] at hVQ
  generalize litR t T = lit at hVQ ⊢
  have hbr : ∀ s, brB t lit s = (bt lit s && decide (¬ farL t (lit &&& (bitF s ^^^ (-1))) (tone t s) (toth t s) < 1000)) := fun s => rfl
  have loop : ∀ s, s ≤ tns t → ∀ x4, zW V YX0_bridges 16 [some (.ref c), some (.int (setF (brB t lit) s)), some (.int lit), some (.int (nI s)), x4] [] (z, h, S, L) 0 0 := by
    refine z_down ?_ (fun s hs ih => ?_)
    · intro x4
      refine sX0_bridges_16 _ _ _ _ _ ?_
      simp (disch := omega) only [oAld, oCV, oIld, hB.k, List.getElem?_cons_zero, List.getElem?_cons_succ, List.set_cons_zero, List.set_cons_succ, List.drop_succ_cons, List.drop_zero, List.take_succ_cons, List.take_zero, List.length_cons, List.length_nil, List.reverse_cons, List.reverse_nil, List.nil_append, List.cons_append, Option.toList_some, Option.toList_none, va_rf_s, true_and, and_true, true_implies, false_implies, not_true_eq_false, not_false_eq_true, Nat.reduceAdd, Nat.reduceLeDiff, Nat.le_add_left, Nat.zero_le, Nat.le_refl, znew, true_or, or_true, b01_t, b01_f, b01_ok, bool_ft, vp_b01, vp_b0, vp_b1, b01_eq0, b01_eq1, implies_true, nI_add, nI_clamp, zi_in, zi_le_t, zi_le_f, zi_lt_t, zi_lt_f, zi_eq_t, zi_eq_f, nI_leI, nI_ltI, nI_eq, z_in, pk_mul, zu_same, zu_rw, zu_ix, zi_ne0, zi_sub, zi_m1, Nat.add_sub_cancel, Nat.reduceMul, Nat.reduceSub]
      refine zC.of0 (zX0_streets hQ) (by omega) (Nat.zero_le _) (Nat.zero_le _) ?_
      rintro _ _ ⟨rfl, rfl⟩
      refine sX0_bridges_21 _ _ _ _ _ ?_
      simp (disch := omega) only [oAld, oCV, oGR, oIfc, oIld, oRI, hB.k, hTa, hX.k, hX.r1, hX.z0, hX.z1, hX.z2, hX.z3, List.getElem?_cons_zero, List.getElem?_cons_succ, List.set_cons_zero, List.set_cons_succ, List.drop_succ_cons, List.drop_zero, List.take_succ_cons, List.take_zero, List.length_cons, List.length_nil, List.reverse_cons, List.reverse_nil, List.nil_append, List.cons_append, Option.toList_some, Option.toList_none, va_rf_s, true_and, and_true, true_implies, false_implies, not_true_eq_false, not_false_eq_true, Nat.reduceAdd, Nat.reduceLeDiff, Nat.le_add_left, Nat.zero_le, Nat.le_refl, znew, true_or, or_true, b01_t, b01_f, b01_ok, bool_ft, vp_b01, vp_b0, vp_b1, b01_eq0, b01_eq1, implies_true, nI_add, nI_clamp, zi_in, zi_le_t, zi_le_f, zi_lt_t, zi_lt_f, zi_eq_t, zi_eq_f, nI_leI, nI_ltI, nI_eq, z_in, pk_mul, zu_same, zu_rw, zu_ix, zi_ne0, zi_sub, zi_m1, Nat.add_sub_cancel, Nat.reduceMul, Nat.reduceSub]
      exact hVQ _ _ ⟨rfl, rfl⟩
    · intro x4
      obtain ⟨-, s1, s2, s3, s4, s5, s6, s7⟩ := hX.st hs
      have hb1 := b_one1 lit (s := s) (by omega)
      refine sX0_bridges_16 _ _ _ _ _ ?_
      simp (disch := omega) only [oAld, oCV, oIld, hB.k, List.getElem?_cons_zero, List.getElem?_cons_succ, List.set_cons_zero, List.set_cons_succ, List.drop_succ_cons, List.drop_zero, List.take_succ_cons, List.take_zero, List.length_cons, List.length_nil, List.reverse_cons, List.reverse_nil, List.nil_append, List.cons_append, Option.toList_some, Option.toList_none, va_rf_s, true_and, and_true, true_implies, false_implies, not_true_eq_false, not_false_eq_true, Nat.reduceAdd, Nat.reduceLeDiff, Nat.le_add_left, Nat.zero_le, Nat.le_refl, znew, true_or, or_true, b01_t, b01_f, b01_ok, bool_ft, vp_b01, vp_b0, vp_b1, b01_eq0, b01_eq1, implies_true, nI_add, nI_clamp, zi_in, zi_le_t, zi_le_f, zi_lt_t, zi_lt_f, zi_eq_t, zi_eq_f, nI_leI, nI_ltI, nI_eq, z_in, pk_mul, zu_same, zu_rw, zu_ix, zi_ne0, zi_sub, zi_m1, Nat.add_sub_cancel, Nat.reduceMul, Nat.reduceSub]
      refine zC.of0 (zX0_streets hQ) (by omega) (Nat.zero_le _) (Nat.zero_le _) ?_
      rintro _ _ ⟨rfl, rfl⟩
      refine sX0_bridges_21 _ _ _ _ _ ?_
      simp (disch := omega) only [oAld, oCV, oGR, oIfc, oIld, oRI, hB.k, hTa, hX.k, hX.r1, hX.z0, hX.z1, hX.z2, hX.z3, List.getElem?_cons_zero, List.getElem?_cons_succ, List.set_cons_zero, List.set_cons_succ, List.drop_succ_cons, List.drop_zero, List.take_succ_cons, List.take_zero, List.length_cons, List.length_nil, List.reverse_cons, List.reverse_nil, List.nil_append, List.cons_append, Option.toList_some, Option.toList_none, va_rf_s, true_and, and_true, true_implies, false_implies, not_true_eq_false, not_false_eq_true, Nat.reduceAdd, Nat.reduceLeDiff, Nat.le_add_left, Nat.zero_le, Nat.le_refl, znew, true_or, or_true, b01_t, b01_f, b01_ok, bool_ft, vp_b01, vp_b0, vp_b1, b01_eq0, b01_eq1, implies_true, nI_add, nI_clamp, zi_in, zi_le_t, zi_le_f, zi_lt_t, zi_lt_f, zi_eq_t, zi_eq_f, nI_leI, nI_ltI, nI_eq, z_in, pk_mul, zu_same, zu_rw, zu_ix, zi_ne0, zi_sub, zi_m1, Nat.add_sub_cancel, Nat.reduceMul, Nat.reduceSub]
      refine zC.of0 (zJ5_get hX.l1 hs) (by omega) (Nat.zero_le _) (Nat.zero_le _) ?_
      rintro _ _ ⟨rfl, rfl⟩
      refine sX0_bridges_35 _ _ _ _ _ ?_
      simp (disch := omega) only [oAld, oAst, oBin, oCV, oCast, oGI, oIfc, oIld, oInc, oIst, oNop, oPush, hB.k, s1, s2, hb1, hbit, i_or0, List.getElem?_cons_zero, List.getElem?_cons_succ, List.set_cons_zero, List.set_cons_succ, List.drop_succ_cons, List.drop_zero, List.take_succ_cons, List.take_zero, List.length_cons, List.length_nil, List.reverse_cons, List.reverse_nil, List.nil_append, List.cons_append, Option.toList_some, Option.toList_none, va_rf_s, true_and, and_true, true_implies, false_implies, not_true_eq_false, not_false_eq_true, Nat.reduceAdd, Nat.reduceLeDiff, Nat.le_add_left, Nat.zero_le, Nat.le_refl, znew, true_or, or_true, b01_t, b01_f, b01_ok, bool_ft, vp_b01, vp_b0, vp_b1, b01_eq0, b01_eq1, implies_true, nI_add, nI_clamp, zi_in, zi_le_t, zi_le_f, zi_lt_t, zi_lt_f, zi_eq_t, zi_eq_f, nI_leI, nI_ltI, nI_eq, z_in, pk_mul, zu_same, zu_rw, zu_ix, zi_ne0, zi_sub, zi_m1, Nat.add_sub_cancel, Nat.reduceMul, Nat.reduceSub]
      refine ⟨fun h0 => ?_, fun h0 => ?_⟩
      · refine zC.of0 (zX0_reach hQ s5 _) (by omega) (Nat.zero_le _) (Nat.zero_le _) ?_
        rintro _ _ ⟨rfl, rfl⟩
        have hz := b_one0 (rq (tnc t) (farL t (lit &&& (bitF s ^^^ (-1))) (tone t s))) (s := toth t s) (by omega)
        rw [rq_bt (by omega) s6] at hz
        by_cases h1 : farL t (lit &&& (bitF s ^^^ (-1))) (tone t s) (toth t s) < 1000
        · rw [decide_eq_true h1] at hz
          have hz' := hz.trans (eq_false (by decide))
          rw [setF_f (by rw [hbr, decide_eq_false (fun q => q h1), Bool.and_false]; decide)] at ih
          refine sX0_bridges_66 _ _ _ _ _ ?_
          simp (disch := omega) only [oAld, oBin, oGI, oIf, oIld, oInc, oIst, oNop, oPush, s1, s3, hz', i_or0, List.getElem?_cons_zero, List.getElem?_cons_succ, List.set_cons_zero, List.set_cons_succ, List.drop_succ_cons, List.drop_zero, List.take_succ_cons, List.take_zero, List.length_cons, List.length_nil, List.reverse_cons, List.reverse_nil, List.nil_append, List.cons_append, Option.toList_some, Option.toList_none, va_rf_s, true_and, and_true, true_implies, false_implies, not_true_eq_false, not_false_eq_true, Nat.reduceAdd, Nat.reduceLeDiff, Nat.le_add_left, Nat.zero_le, Nat.le_refl, znew, true_or, or_true, b01_t, b01_f, b01_ok, bool_ft, vp_b01, vp_b0, vp_b1, b01_eq0, b01_eq1, implies_true, nI_add, nI_clamp, zi_in, zi_le_t, zi_le_f, zi_lt_t, zi_lt_f, zi_eq_t, zi_eq_f, nI_leI, nI_ltI, nI_eq, z_in, pk_mul, zu_same, zu_rw, zu_ix, zi_ne0, zi_sub, zi_m1, Nat.add_sub_cancel, Nat.reduceMul, Nat.reduceSub]
          exact ih _
        · rw [decide_eq_false h1] at hz
          have hz' := hz.trans (eq_true rfl)
          rw [setF_t (by rw [hbr, decide_eq_true h1, h0]; rfl)] at ih
          refine sX0_bridges_66 _ _ _ _ _ ?_
          simp (disch := omega) only [oAld, oBin, oGI, oIf, oIld, oInc, oIst, oNop, oPush, s1, s3, hz', hbit, List.getElem?_cons_zero, List.getElem?_cons_succ, List.set_cons_zero, List.set_cons_succ, List.drop_succ_cons, List.drop_zero, List.take_succ_cons, List.take_zero, List.length_cons, List.length_nil, List.reverse_cons, List.reverse_nil, List.nil_append, List.cons_append, Option.toList_some, Option.toList_none, va_rf_s, true_and, and_true, true_implies, false_implies, not_true_eq_false, not_false_eq_true, Nat.reduceAdd, Nat.reduceLeDiff, Nat.le_add_left, Nat.zero_le, Nat.le_refl, znew, true_or, or_true, b01_t, b01_f, b01_ok, bool_ft, vp_b01, vp_b0, vp_b1, b01_eq0, b01_eq1, implies_true, nI_add, nI_clamp, zi_in, zi_le_t, zi_le_f, zi_lt_t, zi_lt_f, zi_eq_t, zi_eq_f, nI_leI, nI_ltI, nI_eq, z_in, pk_mul, zu_same, zu_rw, zu_ix, zi_ne0, zi_sub, zi_m1, Nat.add_sub_cancel, Nat.reduceMul, Nat.reduceSub]
          exact ih _
      · rw [setF_f (by rw [hbr]; simp [h0])] at ih
        exact ih _
  refine sX0_bridges_13 _ _ _ _ _ ?_
  simp (disch := omega) only [oIst, oPush, List.getElem?_cons_zero, List.getElem?_cons_succ, List.set_cons_zero, List.set_cons_succ, List.drop_succ_cons, List.drop_zero, List.take_succ_cons, List.take_zero, List.length_cons, List.length_nil, List.reverse_cons, List.reverse_nil, List.nil_append, List.cons_append, Option.toList_some, Option.toList_none, va_rf_s, true_and, and_true, true_implies, false_implies, not_true_eq_false, not_false_eq_true, Nat.reduceAdd, Nat.reduceLeDiff, Nat.le_add_left, Nat.zero_le, Nat.le_refl, znew, true_or, or_true, b01_t, b01_f, b01_ok, bool_ft, vp_b01, vp_b0, vp_b1, b01_eq0, b01_eq1, implies_true, nI_add, nI_clamp, zi_in, zi_le_t, zi_le_f, zi_lt_t, zi_lt_f, zi_eq_t, zi_eq_f, nI_leI, nI_ltI, nI_eq, z_in, pk_mul, zu_same, zu_rw, zu_ix, zi_ne0, zi_sub, zi_m1, Nat.add_sub_cancel, Nat.reduceMul, Nat.reduceSub]
  exact loop 0 (by omega) _
/-- the least cut so far -/
def bN (d : Nat) : Nat := cntN (bt (nI d)) 10
theorem bN_e (d : Nat) : bitsF 10 (nI d) = nI (bN d) := bitsF_N _ (by omega)
theorem bN_le (d : Nat) : bN d ≤ 10 := cntN_le _ _
def cbN (t : ZT) (lit : Int32) (f to : Nat) : Nat → Nat
  | 0 => 1000000
  | d + 1 => if cutP t lit f to d ∧ bN d < cbN t lit f to d then bN d else cbN t lit f to d
theorem cbN_le {t : ZT} {lit : Int32} {f to : Nat} : ∀ d, cbN t lit f to d ≤ 1000000
  | 0 => Nat.le_refl _
  | d + 1 => by rw [cbN]; have := cbN_le (t := t) (lit := lit) (f := f) (to := to) d; split <;> omega
theorem cut_cb {t : ZT} {lit : Int32} {f to : Nat} : ∀ d, cutF t lit f to d = nI (min 10 (cbN t lit f to d))
  | 0 => rfl
  | d + 1 => by
    have ih := cut_cb (t := t) (lit := lit) (f := f) (to := to) d
    have hb := bN_le d
    rw [cutF, cbN, ih, bN_e]
    have hl := cbN_le (t := t) (lit := lit) (f := f) (to := to) d
    by_cases hc : cutP t lit f to d
    · by_cases h1 : bN d < cbN t lit f to d
      · rw [if_pos (show _ ∧ _ from ⟨hc, h1⟩)]
        by_cases h2 : bN d < min 10 (cbN t lit f to d)
        · rw [if_pos ⟨hc, nI_lt h2 (by omega)⟩]; congr 1; omega
        · rw [if_neg (fun q => absurd q.2 (nI_nlt (by omega) (by omega)))]; congr 1; omega
      · rw [if_neg (show ¬ (_ ∧ bN d < _) from fun q => h1 q.2), if_neg (fun q => absurd q.2 (nI_nlt (by omega) (by omega)))]
    · rw [if_neg (fun q => hc q.1), if_neg (fun q => hc q.1)]
theorem sub_le {d L : Nat} (hd : d < 1024) (hL : L < 1024) (h : nI d &&& (nI L ^^^ (-1)) = nI 0) : d ≤ L := by
  have h1 := (i_eq0 _).mp h
  have e : d &&& L = d := by
    refine Nat.eq_of_testBit_eq (fun i => ?_)
    rw [Nat.testBit_and]
    by_cases hi : i < 32
    · have := h1 i hi
      rw [b_and, bt_nI _ hi, bt_not _ hi, bt_nI _ hi] at this
      cases hb : d.testBit i with
      | false => rfl
      | true => rw [hb] at this; simpa using this
    · have hp : 2 ^ 10 ≤ 2 ^ i := Nat.pow_le_pow_right (by omega) (by omega)
      rw [Nat.testBit_lt_two_pow (show d < 2 ^ i by omega), Bool.false_and]
  rw [← e]; exact Nat.and_le_right
theorem cut_top {t : ZT} {L f to : Nat} (hL : L < 1024) : ∀ e, L + 1 + e ≤ 1024 → cutF t (nI L) f to (L + 1 + e) = cutF t (nI L) f to (L + 1)
  | 0, _ => rfl
  | e + 1, he => by
    rw [← cut_top hL e (by omega), ← Nat.add_assoc, cutF, if_neg]
    intro q
    have := sub_le (by omega) hL q.1.1
    omega
theorem fr_shut {fr sh : Nat → Bool} {g : Nat → Nat} (h : ∀ s, s < tns t → sh s = true) : ∀ k, frN t fr sh k g = g
  | 0 => rfl
  | k + 1 => by
    have : ∀ s, s ≤ tns t → frR t fr sh s g = g := by
      intro s
      induction s with
      | zero => intro _; rfl
      | succ s ih => intro hs; show frS t fr sh s (frR t fr sh s g) = g; rw [ih (by omega), frS_t (h s (by omega))]
    show frR t fr sh (tns t) (frN t fr sh k g) = g
    rw [fr_shut h k, this _ (Nat.le_refl _)]
theorem cut_all {L f to : Nat} (h10 : tns t ≤ 10) (hL : L < 1024) (hne : f ≠ to) : cutP t (nI L) f to L := by
  have e : nI L &&& (nI L ^^^ (-1)) = nI 0 := by
    rw [i_eq0]
    intro i hi
    rw [b_and, bt_not _ hi]
    cases bt (nI L) i <;> rfl
  refine ⟨e, ?_⟩
  rw [e]
  unfold farL farM
  rw [fr_shut (fun s hs => by rw [bt_not _ (by omega), bt_nI0]; rfl)]
  unfold fr0
  rw [if_neg (Ne.symm hne)]
  omega
theorem zX0_cut (hQ : cQ h S c z D ta t q0 A T) (f to : Int32) : zM l E 5 YX0_cut [.ref c, .int f, .int to] (z, h, S, L) 0 0 (fun r X => r = some (.int (cutR t T f to)) ∧ X = (z, h, S, L)) (fun _ _ => False) := by
  obtain ⟨hB, hTa, hX, hT, hI, hTI⟩ := id hQ
  obtain ⟨h7, h10, h6, h5⟩ := hX.b
  have hW := hB.tn
  refine zM.go rfl rfl (Nat.le_of_ble_eq_true rfl) (ls := [some (.ref c), some (.int f), some (.int to), none, none, none]) rfl ?_
  intro V hVl hVE hVd hVc hVs hVQ hVX
  refine sX0_cut_0 _ _ _ _ _ ?_
  simp (disch := omega) only [oAld, oCV, oIld, hB.k, List.getElem?_cons_zero, List.getElem?_cons_succ, List.set_cons_zero, List.set_cons_succ, List.drop_succ_cons, List.drop_zero, List.take_succ_cons, List.take_zero, List.length_cons, List.length_nil, List.reverse_cons, List.reverse_nil, List.nil_append, List.cons_append, Option.toList_some, Option.toList_none, va_rf_s, true_and, and_true, true_implies, false_implies, not_true_eq_false, not_false_eq_true, Nat.reduceAdd, Nat.reduceLeDiff, Nat.le_add_left, Nat.zero_le, Nat.le_refl, znew, true_or, or_true, b01_t, b01_f, b01_ok, bool_ft, vp_b01, vp_b0, vp_b1, b01_eq0, b01_eq1, implies_true, nI_add, nI_clamp, zi_in, zi_le_t, zi_le_f, zi_lt_t, zi_lt_f, zi_eq_t, zi_eq_f, nI_leI, nI_ltI, nI_eq, z_in, pk_mul, zu_same, zu_rw, zu_ix, zi_ne0, zi_sub, zi_m1, Nat.add_sub_cancel, Nat.reduceMul, Nat.reduceSub]
  refine zC.of0 (zX0_isCorner hQ _) (by omega) (Nat.zero_le _) (Nat.zero_le _) ?_
  rintro _ _ ⟨rfl, rfl⟩
  cases hok : okI f (tnc t) with
  | false =>
    refine sX0_cut_5 _ _ _ _ _ ?_
    simp (disch := omega) only [oAld, oCV, oIf, oIld, oPush, oRI, hB.k, List.getElem?_cons_zero, List.getElem?_cons_succ, List.set_cons_zero, List.set_cons_succ, List.drop_succ_cons, List.drop_zero, List.take_succ_cons, List.take_zero, List.length_cons, List.length_nil, List.reverse_cons, List.reverse_nil, List.nil_append, List.cons_append, Option.toList_some, Option.toList_none, va_rf_s, true_and, and_true, true_implies, false_implies, not_true_eq_false, not_false_eq_true, Nat.reduceAdd, Nat.reduceLeDiff, Nat.le_add_left, Nat.zero_le, Nat.le_refl, znew, true_or, or_true, b01_t, b01_f, b01_ok, bool_ft, vp_b01, vp_b0, vp_b1, b01_eq0, b01_eq1, implies_true, nI_add, nI_clamp, zi_in, zi_le_t, zi_le_f, zi_lt_t, zi_lt_f, zi_eq_t, zi_eq_f, nI_leI, nI_ltI, nI_eq, z_in, pk_mul, zu_same, zu_rw, zu_ix, zi_ne0, zi_sub, zi_m1, Nat.add_sub_cancel, Nat.reduceMul, Nat.reduceSub]
    exact hVQ _ _ ⟨by rw [cutR, if_neg (fun q => by rw [hok] at q; exact absurd q.1 (by decide))], rfl⟩
  | true =>
    obtain ⟨i, hi, rfl⟩ := (okI_iff (by omega)).mp hok
    refine sX0_cut_5 _ _ _ _ _ ?_
    simp (disch := omega) only [oAld, oCV, oIf, oIld, oPush, oRI, hB.k, List.getElem?_cons_zero, List.getElem?_cons_succ, List.set_cons_zero, List.set_cons_succ, List.drop_succ_cons, List.drop_zero, List.take_succ_cons, List.take_zero, List.length_cons, List.length_nil, List.reverse_cons, List.reverse_nil, List.nil_append, List.cons_append, Option.toList_some, Option.toList_none, va_rf_s, true_and, and_true, true_implies, false_implies, not_true_eq_false, not_false_eq_true, Nat.reduceAdd, Nat.reduceLeDiff, Nat.le_add_left, Nat.zero_le, Nat.le_refl, znew, true_or, or_true, b01_t, b01_f, b01_ok, bool_ft, vp_b01, vp_b0, vp_b1, b01_eq0, b01_eq1, implies_true, nI_add, nI_clamp, zi_in, zi_le_t, zi_le_f, zi_lt_t, zi_lt_f, zi_eq_t, zi_eq_f, nI_leI, nI_ltI, nI_eq, z_in, pk_mul, zu_same, zu_rw, zu_ix, zi_ne0, zi_sub, zi_m1, Nat.add_sub_cancel, Nat.reduceMul, Nat.reduceSub]
    refine zC.of0 (zX0_isCorner hQ _) (by omega) (Nat.zero_le _) (Nat.zero_le _) ?_
    rintro _ _ ⟨rfl, rfl⟩
    cases hok2 : okI to (tnc t) with
    | false =>
      refine sX0_cut_13 _ _ _ _ _ ?_
      simp (disch := omega) only [oAld, oCV, oGR, oIf, oIfc, oIld, oPush, oRI, hB.k, hB.r7, hTa, hW.k, List.getElem?_cons_zero, List.getElem?_cons_succ, List.set_cons_zero, List.set_cons_succ, List.drop_succ_cons, List.drop_zero, List.take_succ_cons, List.take_zero, List.length_cons, List.length_nil, List.reverse_cons, List.reverse_nil, List.nil_append, List.cons_append, Option.toList_some, Option.toList_none, va_rf_s, true_and, and_true, true_implies, false_implies, not_true_eq_false, not_false_eq_true, Nat.reduceAdd, Nat.reduceLeDiff, Nat.le_add_left, Nat.zero_le, Nat.le_refl, znew, true_or, or_true, b01_t, b01_f, b01_ok, bool_ft, vp_b01, vp_b0, vp_b1, b01_eq0, b01_eq1, implies_true, nI_add, nI_clamp, zi_in, zi_le_t, zi_le_f, zi_lt_t, zi_lt_f, zi_eq_t, zi_eq_f, nI_leI, nI_ltI, nI_eq, z_in, pk_mul, zu_same, zu_rw, zu_ix, zi_ne0, zi_sub, zi_m1, Nat.add_sub_cancel, Nat.reduceMul, Nat.reduceSub]
      exact hVQ _ _ ⟨by rw [cutR, if_neg (fun q => by rw [hok2] at q; exact absurd q.2.1 (by decide))], rfl⟩
    | true =>
      obtain ⟨j, hj, rfl⟩ := (okI_iff (by omega)).mp hok2
      by_cases hij : i = j
      · subst hij
        refine sX0_cut_13 _ _ _ _ _ ?_
        simp (disch := omega) only [oAld, oCV, oGR, oIf, oIfc, oIld, oPush, oRI, hB.k, hB.r7, hTa, hW.k, List.getElem?_cons_zero, List.getElem?_cons_succ, List.set_cons_zero, List.set_cons_succ, List.drop_succ_cons, List.drop_zero, List.take_succ_cons, List.take_zero, List.length_cons, List.length_nil, List.reverse_cons, List.reverse_nil, List.nil_append, List.cons_append, Option.toList_some, Option.toList_none, va_rf_s, true_and, and_true, true_implies, false_implies, not_true_eq_false, not_false_eq_true, Nat.reduceAdd, Nat.reduceLeDiff, Nat.le_add_left, Nat.zero_le, Nat.le_refl, znew, true_or, or_true, b01_t, b01_f, b01_ok, bool_ft, vp_b01, vp_b0, vp_b1, b01_eq0, b01_eq1, implies_true, nI_add, nI_clamp, zi_in, zi_le_t, zi_le_f, zi_lt_t, zi_lt_f, zi_eq_t, zi_eq_f, nI_leI, nI_ltI, nI_eq, z_in, pk_mul, zu_same, zu_rw, zu_ix, zi_ne0, zi_sub, zi_m1, Nat.add_sub_cancel, Nat.reduceMul, Nat.reduceSub]
        exact hVQ _ _ ⟨by rw [cutR, if_neg (fun q => q.2.2 rfl)], rfl⟩
      have hne : ¬ nI i = nI j := fun e => hij ((nI_eq (by omega) (by omega)).mp e)
      rw [cutR, if_pos ⟨hok, hok2, hne⟩, nI_clamp (by omega), nI_clamp (by omega)] at hVQ
      refine sX0_cut_13 _ _ _ _ _ ?_
      simp (disch := omega) only [oAld, oCV, oGR, oIf, oIfc, oIld, oPush, oRI, hB.k, hB.r7, hTa, hW.k, List.getElem?_cons_zero, List.getElem?_cons_succ, List.set_cons_zero, List.set_cons_succ, List.drop_succ_cons, List.drop_zero, List.take_succ_cons, List.take_zero, List.length_cons, List.length_nil, List.reverse_cons, List.reverse_nil, List.nil_append, List.cons_append, Option.toList_some, Option.toList_none, va_rf_s, true_and, and_true, true_implies, false_implies, not_true_eq_false, not_false_eq_true, Nat.reduceAdd, Nat.reduceLeDiff, Nat.le_add_left, Nat.zero_le, Nat.le_refl, znew, true_or, or_true, b01_t, b01_f, b01_ok, bool_ft, vp_b01, vp_b0, vp_b1, b01_eq0, b01_eq1, implies_true, nI_add, nI_clamp, zi_in, zi_le_t, zi_le_f, zi_lt_t, zi_lt_f, zi_eq_t, zi_eq_f, nI_leI, nI_ltI, nI_eq, z_in, pk_mul, zu_same, zu_rw, zu_ix, zi_ne0, zi_sub, zi_m1, Nat.add_sub_cancel, Nat.reduceMul, Nat.reduceSub]
      refine zC.of0 (zX5_lit hW hX hT hI hTI) (by omega) (Nat.zero_le _) (Nat.zero_le _) ?_
      rintro _ _ ⟨rfl, rfl⟩
      obtain ⟨L', hL', eL⟩ : ∃ N, N < 1024 ∧ litR t T = nI N := by
        unfold litR
        rw [setF_N _ (by omega)]
        have h2 : 2 ^ tns t ≤ 2 ^ 10 := Nat.pow_le_pow_right (by omega) h10
        exact ⟨_, Nat.lt_of_lt_of_le (setN_lt _ _) h2, rfl⟩
      rw [eL] at hVQ ⊢
      have htop := cut_top (t := t) (f := i) (to := j) hL' (1023 - L') (by omega)
      rw [show L' + 1 + (1023 - L') = 1024 by omega] at htop
      have hcb : cbN t (nI L') i j (L' + 1) ≤ 10 := by
        rw [cbN]
        have := bN_le L'
        by_cases q : bN L' < cbN t (nI L') i j L'
        · rw [if_pos ⟨cut_all h10 hL' hij, q⟩]; exact this
        · rw [if_neg (fun w => q w.2)]; omega
      rw [htop, cut_cb, Nat.min_eq_right hcb] at hVQ
      have loop : ∀ d, d ≤ L' + 1 → zW V YX0_cut 43 [some (.ref c), some (.int (nI i)), some (.int (nI j)), some (.int (nI L')), some (.int (nI (cbN t (nI L') i j d))), some (.int (nI d))] [] (z, h, S, L) 0 0 := by
        refine z_down ?_ (fun d hd ih => ?_)
        · refine sX0_cut_43 _ _ _ _ _ ?_
          simp (disch := omega) only [oBin, oCS, oIf, oIfc, oIld, oInc, oNop, oPush, oRI, List.getElem?_cons_zero, List.getElem?_cons_succ, List.set_cons_zero, List.set_cons_succ, List.drop_succ_cons, List.drop_zero, List.take_succ_cons, List.take_zero, List.length_cons, List.length_nil, List.reverse_cons, List.reverse_nil, List.nil_append, List.cons_append, Option.toList_some, Option.toList_none, va_rf_s, true_and, and_true, true_implies, false_implies, not_true_eq_false, not_false_eq_true, Nat.reduceAdd, Nat.reduceLeDiff, Nat.le_add_left, Nat.zero_le, Nat.le_refl, znew, true_or, or_true, b01_t, b01_f, b01_ok, bool_ft, vp_b01, vp_b0, vp_b1, b01_eq0, b01_eq1, implies_true, nI_add, nI_clamp, zi_in, zi_le_t, zi_le_f, zi_lt_t, zi_lt_f, zi_eq_t, zi_eq_f, nI_leI, nI_ltI, nI_eq, z_in, pk_mul, zu_same, zu_rw, zu_ix, zi_ne0, zi_sub, zi_m1, Nat.add_sub_cancel, Nat.reduceMul, Nat.reduceSub]
          exact hVQ _ _ ⟨rfl, rfl⟩
        · have hcl := cbN_le (t := t) (lit := nI L') (f := i) (to := j) d
          have hbl := bN_le d
          rw [cbN] at ih
          refine sX0_cut_43 _ _ _ _ _ ?_
          simp (disch := omega) only [oBin, oCS, oIf, oIfc, oIld, oInc, oNop, oPush, oRI, List.getElem?_cons_zero, List.getElem?_cons_succ, List.set_cons_zero, List.set_cons_succ, List.drop_succ_cons, List.drop_zero, List.take_succ_cons, List.take_zero, List.length_cons, List.length_nil, List.reverse_cons, List.reverse_nil, List.nil_append, List.cons_append, Option.toList_some, Option.toList_none, va_rf_s, true_and, and_true, true_implies, false_implies, not_true_eq_false, not_false_eq_true, Nat.reduceAdd, Nat.reduceLeDiff, Nat.le_add_left, Nat.zero_le, Nat.le_refl, znew, true_or, or_true, b01_t, b01_f, b01_ok, bool_ft, vp_b01, vp_b0, vp_b1, b01_eq0, b01_eq1, implies_true, nI_add, nI_clamp, zi_in, zi_le_t, zi_le_f, zi_lt_t, zi_lt_f, zi_eq_t, zi_eq_f, nI_leI, nI_ltI, nI_eq, z_in, pk_mul, zu_same, zu_rw, zu_ix, zi_ne0, zi_sub, zi_m1, Nat.add_sub_cancel, Nat.reduceMul, Nat.reduceSub]
          refine ⟨fun h0 => ?_, fun h0 => ?_⟩
          · refine zC.of0 (zJ16_bitCount _ _) (by omega) (Nat.zero_le _) (Nat.zero_le _) ?_
            rintro _ _ ⟨v, rfl, hv, rfl⟩
            rw [(bc10 d (by omega)).1, bN_e] at hv
            subst hv
            by_cases h1 : bN d < cbN t (nI L') i j d
            · refine sX0_cut_63 _ _ _ _ _ ?_
              simp (disch := omega) only [oAld, oBin, oCV, oIfc, oIld, oInc, oNop, oPush, hB.k, List.getElem?_cons_zero, List.getElem?_cons_succ, List.set_cons_zero, List.set_cons_succ, List.drop_succ_cons, List.drop_zero, List.take_succ_cons, List.take_zero, List.length_cons, List.length_nil, List.reverse_cons, List.reverse_nil, List.nil_append, List.cons_append, Option.toList_some, Option.toList_none, va_rf_s, true_and, and_true, true_implies, false_implies, not_true_eq_false, not_false_eq_true, Nat.reduceAdd, Nat.reduceLeDiff, Nat.le_add_left, Nat.zero_le, Nat.le_refl, znew, true_or, or_true, b01_t, b01_f, b01_ok, bool_ft, vp_b01, vp_b0, vp_b1, b01_eq0, b01_eq1, implies_true, nI_add, nI_clamp, zi_in, zi_le_t, zi_le_f, zi_lt_t, zi_lt_f, zi_eq_t, zi_eq_f, nI_leI, nI_ltI, nI_eq, z_in, pk_mul, zu_same, zu_rw, zu_ix, zi_ne0, zi_sub, zi_m1, Nat.add_sub_cancel, Nat.reduceMul, Nat.reduceSub]
              refine zC.of0 (zX0_reach hQ hi _) (by omega) (Nat.zero_le _) (Nat.zero_le _) ?_
              rintro _ _ ⟨rfl, rfl⟩
              have hz := b_one0 (rq (tnc t) (farL t (nI L' &&& (nI d ^^^ (-1))) i)) (s := j) (by omega)
              rw [rq_bt (by omega) hj] at hz
              by_cases h2 : farL t (nI L' &&& (nI d ^^^ (-1))) i j < 1000
              · rw [decide_eq_true h2] at hz
                have hz' := hz.trans (eq_false (by decide))
                rw [if_neg (fun q => q.1.2 h2)] at ih
                refine sX0_cut_82 _ _ _ _ _ ?_
                simp (disch := omega) only [oBin, oCS, oIf, oIld, oInc, oNop, oPush, hz', List.getElem?_cons_zero, List.getElem?_cons_succ, List.set_cons_zero, List.set_cons_succ, List.drop_succ_cons, List.drop_zero, List.take_succ_cons, List.take_zero, List.length_cons, List.length_nil, List.reverse_cons, List.reverse_nil, List.nil_append, List.cons_append, Option.toList_some, Option.toList_none, va_rf_s, true_and, and_true, true_implies, false_implies, not_true_eq_false, not_false_eq_true, Nat.reduceAdd, Nat.reduceLeDiff, Nat.le_add_left, Nat.zero_le, Nat.le_refl, znew, true_or, or_true, b01_t, b01_f, b01_ok, bool_ft, vp_b01, vp_b0, vp_b1, b01_eq0, b01_eq1, implies_true, nI_add, nI_clamp, zi_in, zi_le_t, zi_le_f, zi_lt_t, zi_lt_f, zi_eq_t, zi_eq_f, nI_leI, nI_ltI, nI_eq, z_in, pk_mul, zu_same, zu_rw, zu_ix, zi_ne0, zi_sub, zi_m1, Nat.add_sub_cancel, Nat.reduceMul, Nat.reduceSub]
                exact ih
              · rw [decide_eq_false h2] at hz
                have hz' := hz.trans (eq_true rfl)
                rw [if_pos ⟨⟨h0, h2⟩, h1⟩] at ih
                refine sX0_cut_82 _ _ _ _ _ ?_
                simp (disch := omega) only [oBin, oCS, oIf, oIld, oInc, oNop, oPush, hz', List.getElem?_cons_zero, List.getElem?_cons_succ, List.set_cons_zero, List.set_cons_succ, List.drop_succ_cons, List.drop_zero, List.take_succ_cons, List.take_zero, List.length_cons, List.length_nil, List.reverse_cons, List.reverse_nil, List.nil_append, List.cons_append, Option.toList_some, Option.toList_none, va_rf_s, true_and, and_true, true_implies, false_implies, not_true_eq_false, not_false_eq_true, Nat.reduceAdd, Nat.reduceLeDiff, Nat.le_add_left, Nat.zero_le, Nat.le_refl, znew, true_or, or_true, b01_t, b01_f, b01_ok, bool_ft, vp_b01, vp_b0, vp_b1, b01_eq0, b01_eq1, implies_true, nI_add, nI_clamp, zi_in, zi_le_t, zi_le_f, zi_lt_t, zi_lt_f, zi_eq_t, zi_eq_f, nI_leI, nI_ltI, nI_eq, z_in, pk_mul, zu_same, zu_rw, zu_ix, zi_ne0, zi_sub, zi_m1, Nat.add_sub_cancel, Nat.reduceMul, Nat.reduceSub]
                refine zC.of0 (zJ16_bitCount _ _) (by omega) (Nat.zero_le _) (Nat.zero_le _) ?_
                rintro _ _ ⟨v, rfl, hv, rfl⟩
                rw [(bc10 d (by omega)).1, bN_e] at hv
                subst hv
                refine sX0_cut_94 _ _ _ _ _ ?_
                simp (disch := omega) only [oInc, oIst, oNop, List.getElem?_cons_zero, List.getElem?_cons_succ, List.set_cons_zero, List.set_cons_succ, List.drop_succ_cons, List.drop_zero, List.take_succ_cons, List.take_zero, List.length_cons, List.length_nil, List.reverse_cons, List.reverse_nil, List.nil_append, List.cons_append, Option.toList_some, Option.toList_none, va_rf_s, true_and, and_true, true_implies, false_implies, not_true_eq_false, not_false_eq_true, Nat.reduceAdd, Nat.reduceLeDiff, Nat.le_add_left, Nat.zero_le, Nat.le_refl, znew, true_or, or_true, b01_t, b01_f, b01_ok, bool_ft, vp_b01, vp_b0, vp_b1, b01_eq0, b01_eq1, implies_true, nI_add, nI_clamp, zi_in, zi_le_t, zi_le_f, zi_lt_t, zi_lt_f, zi_eq_t, zi_eq_f, nI_leI, nI_ltI, nI_eq, z_in, pk_mul, zu_same, zu_rw, zu_ix, zi_ne0, zi_sub, zi_m1, Nat.add_sub_cancel, Nat.reduceMul, Nat.reduceSub]
                exact ih
            · rw [if_neg (fun q => h1 q.2)] at ih
              refine sX0_cut_63 _ _ _ _ _ ?_
              simp (disch := omega) only [oAld, oBin, oCV, oIfc, oIld, oInc, oNop, oPush, hB.k, List.getElem?_cons_zero, List.getElem?_cons_succ, List.set_cons_zero, List.set_cons_succ, List.drop_succ_cons, List.drop_zero, List.take_succ_cons, List.take_zero, List.length_cons, List.length_nil, List.reverse_cons, List.reverse_nil, List.nil_append, List.cons_append, Option.toList_some, Option.toList_none, va_rf_s, true_and, and_true, true_implies, false_implies, not_true_eq_false, not_false_eq_true, Nat.reduceAdd, Nat.reduceLeDiff, Nat.le_add_left, Nat.zero_le, Nat.le_refl, znew, true_or, or_true, b01_t, b01_f, b01_ok, bool_ft, vp_b01, vp_b0, vp_b1, b01_eq0, b01_eq1, implies_true, nI_add, nI_clamp, zi_in, zi_le_t, zi_le_f, zi_lt_t, zi_lt_f, zi_eq_t, zi_eq_f, nI_leI, nI_ltI, nI_eq, z_in, pk_mul, zu_same, zu_rw, zu_ix, zi_ne0, zi_sub, zi_m1, Nat.add_sub_cancel, Nat.reduceMul, Nat.reduceSub]
              exact ih
          · rw [if_neg (fun q => h0 q.1.1)] at ih
            exact ih
      refine sX0_cut_34 _ _ _ _ _ ?_
      simp (disch := omega) only [oIst, oPush, mill, List.getElem?_cons_zero, List.getElem?_cons_succ, List.set_cons_zero, List.set_cons_succ, List.drop_succ_cons, List.drop_zero, List.take_succ_cons, List.take_zero, List.length_cons, List.length_nil, List.reverse_cons, List.reverse_nil, List.nil_append, List.cons_append, Option.toList_some, Option.toList_none, va_rf_s, true_and, and_true, true_implies, false_implies, not_true_eq_false, not_false_eq_true, Nat.reduceAdd, Nat.reduceLeDiff, Nat.le_add_left, Nat.zero_le, Nat.le_refl, znew, true_or, or_true, b01_t, b01_f, b01_ok, bool_ft, vp_b01, vp_b0, vp_b1, b01_eq0, b01_eq1, implies_true, nI_add, nI_clamp, zi_in, zi_le_t, zi_le_f, zi_lt_t, zi_lt_f, zi_eq_t, zi_eq_f, nI_leI, nI_ltI, nI_eq, z_in, pk_mul, zu_same, zu_rw, zu_ix, zi_ne0, zi_sub, zi_m1, Nat.add_sub_cancel, Nat.reduceMul, Nat.reduceSub]
      exact loop 0 (by omega)
end CW
