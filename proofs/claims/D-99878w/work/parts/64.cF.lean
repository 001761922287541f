/-! the component: copies of towns; a word; airs -/
theorem within_N {v : Int32} {m : Nat} (hm : m < 2 ^ 31) : ∃ q, withinF v (nI 0) (nI m) = nI q ∧ q ≤ m := by
  unfold withinF
  split
  · exact ⟨0, rfl, by omega⟩
  · rename_i h1
    split
    · exact ⟨m, rfl, Nat.le_refl _⟩
    · rename_i h2
      obtain ⟨q, hq, rfl⟩ := nI_of (x := v) h1
      have := Int32.not_lt.mp h2
      rw [Int32.le_iff_toInt_le, nI_toInt hq, nI_toInt hm] at this
      exact ⟨q, rfl, by omega⟩
theorem min999 {a b : Nat} (ha : a ≤ 999) (hb : b ≤ 999) : minF (nI 999) (nI a + nI b) = withinF (nI a + nI b) (nI 0) (nI 999) := by
  rw [nI_add]
  unfold minF withinF
  rw [if_neg (show ¬ nI (a + b) < nI 0 from nI_nlt (by omega) (by omega))]
  by_cases h : 999 < a + b
  · rw [if_neg (nI_nlt (by omega) (by omega)), if_pos (nI_lt h (by omega))]
  · rw [if_neg (show ¬ nI 999 < nI (a + b) from nI_nlt (by omega) (by omega))]
    by_cases h2 : a + b < 999
    · rw [if_pos (nI_lt h2 (by omega))]
    · have : a + b = 999 := by omega
      rw [this, if_neg (nI_nlt (by omega) (by omega))]
theorem max_sub {a b m : Nat} (ha : a ≤ m) (hm : m ≤ 10000) (hb : b ≤ 10000) : maxF (nI 0) (nI a - nI b) = withinF (nI a - nI b) (nI 0) (nI m) := by
  have e : (nI a - nI b).toInt = (a : Int) - b := pk_sub_toInt (by omega) (by omega)
  unfold maxF withinF
  have h2 : ¬ nI m < nI a - nI b := by
    rw [Int32.lt_iff_toInt_lt, e, nI_toInt (by omega)]; omega
  rw [if_neg h2]
  by_cases h : nI 0 < nI a - nI b
  · rw [if_pos h, if_neg (Int32.not_lt.mpr (Int32.le_of_lt h))]
  · rw [if_neg h]
    by_cases h3 : nI a - nI b < nI 0
    · rw [if_pos h3]
    · rw [if_neg h3]; exact Int32.le_antisymm (Int32.not_lt.mp h3) (Int32.not_lt.mp h)
section CF
variable {l : Launch} {E : zE} {z : Nat} {h : Nat → Option zSh} {S : Nat → Nat → Int32} {L : Nat → Nat → Int64} {ok : Nat → Prop} {D ta w : Nat} {t : ZT} {q0 T : Nat → Int32} {A : zTA} {sd : Int32}
theorem zX5_copies {a0 a n : Nat} (h0 : zt h a0 = 0) (h1 : zt h a = 0) (n0 : zn h a0 = n) (n1 : zn h a = n) (hn : n < 1000) : zM l E 1 YX5_copies [.ref a0, .ref a] (z, h, S, L) 0 0 (fun r X => r = none ∧ ∃ S', X = (z, h, S', L) ∧ (∀ b, b ≠ a → S' b = S b) ∧ ∀ j, j < n → S' a j = S a0 j) (fun _ _ => False) := by
  refine zM.go rfl rfl (Nat.le_of_ble_eq_true rfl) (ls := [some (.ref a0), some (.ref a)]) rfl ?_
  intro V hVl hVE hVd hVc hVs hVQ hVX
  have hp0 : (nI 0 < (0 : Int32)) = False := eq_false (by decide)
  have hpn : (nI n < (0 : Int32)) = False := eq_false (nI_pos (by omega))
  have hf : ∀ x : Int32, (fits (zty 0) (.int x) = true) = True := fun x => eq_true rfl
  refine sX5_copies_0 (by omega) _ _ _ _ _ ?_
  simp (disch := omega) only [oAld, oCopy, oLen, oPush, oRV, h0, h1, n0, n1, hp0, hpn, hf, List.getElem?_cons_zero, List.getElem?_cons_succ, List.set_cons_zero, List.set_cons_succ, List.drop_succ_cons, List.drop_zero, List.take_succ_cons, List.take_zero, List.length_cons, List.length_nil, List.reverse_cons, List.reverse_nil, List.nil_append, List.cons_append, Option.toList_some, Option.toList_none, va_rf_s, true_and, and_true, true_implies, false_implies, not_true_eq_false, not_false_eq_true, Nat.reduceAdd, Nat.reduceLeDiff, Nat.le_add_left, Nat.zero_le, Nat.le_refl, znew, true_or, or_true, b01_t, b01_f, b01_ok, bool_ft, vp_b01, vp_b0, vp_b1, b01_eq0, b01_eq1, implies_true, nI_add, nI_clamp, zi_in, zi_le_t, zi_le_f, zi_lt_t, zi_lt_f, zi_eq_t, zi_eq_f, nI_leI, nI_ltI, nI_eq, z_in, pk_mul, zu_same, zu_rw, zu_ix, zi_ne0, zi_sub, zi_m1, Nat.add_sub_cancel, Nat.reduceMul, Nat.reduceSub]
  refine ⟨⟨by omega, by omega⟩, hVQ _ _ ⟨rfl, _, rfl, fun b hb => ?_, fun j hj => ?_⟩⟩
  · unfold zcp; rw [if_neg hb]
  · unfold zcp; rw [if_pos rfl]; unfold va_cpy
    rw [if_pos (by omega)]; congr 1; omega
theorem zX5_takes {o : Nat} (hW : isTw h w) (hO : isTw h o) (hd : o + 10 ≤ w ∨ w + 10 ≤ o) : zM l E 2 YX5_takes [.ref w, .ref o] (z, h, S, L) 0 0 (fun r X => r = none ∧ ∃ S', X = (z, h, S', L) ∧ twF w S S' ∧ ∀ t sd T, tw S o t sd T → tw S' w t sd T) (fun _ _ => False) := by
  refine zM.go rfl rfl (Nat.le_of_ble_eq_true rfl) (ls := [some (.ref w), some (.ref o)]) rfl ?_
  intro V hVl hVE hVd hVc hVs hVQ hVX
  refine sX5_takes_0 _ _ _ _ _ ?_
  simp (disch := omega) only [oAld, oCS, oGR, hW.k, hW.r0, hW.t0, hW.n0, hO.k, hO.r0, List.getElem?_cons_zero, List.getElem?_cons_succ, List.set_cons_zero, List.set_cons_succ, List.drop_succ_cons, List.drop_zero, List.take_succ_cons, List.take_zero, List.length_cons, List.length_nil, List.reverse_cons, List.reverse_nil, List.nil_append, List.cons_append, Option.toList_some, Option.toList_none, va_rf_s, true_and, and_true, true_implies, false_implies, not_true_eq_false, not_false_eq_true, Nat.reduceAdd, Nat.reduceLeDiff, Nat.le_add_left, Nat.zero_le, Nat.le_refl, znew, true_or, or_true, b01_t, b01_f, b01_ok, bool_ft, vp_b01, vp_b0, vp_b1, b01_eq0, b01_eq1, implies_true, nI_add, nI_clamp, zi_in, zi_le_t, zi_le_f, zi_lt_t, zi_lt_f, zi_eq_t, zi_eq_f, nI_leI, nI_ltI, nI_eq, z_in, pk_mul, zu_same, zu_rw, zu_ix, zi_ne0, zi_sub, zi_m1, Nat.add_sub_cancel, Nat.reduceMul, Nat.reduceSub]
  refine zC.of0 (zX5_copies hO.t0 hW.t0 hO.n0 hW.n0 (by omega)) (by omega) (Nat.zero_le _) (Nat.zero_le _) ?_
  rintro _ _ ⟨rfl, S1, rfl, f1, c1⟩
  refine sX5_takes_11 _ _ _ _ _ ?_
  simp (disch := omega) only [oAld, oCS, oGR, hW.k, hW.r1, hW.t1, hW.n1, hO.k, hO.r1, List.getElem?_cons_zero, List.getElem?_cons_succ, List.set_cons_zero, List.set_cons_succ, List.drop_succ_cons, List.drop_zero, List.take_succ_cons, List.take_zero, List.length_cons, List.length_nil, List.reverse_cons, List.reverse_nil, List.nil_append, List.cons_append, Option.toList_some, Option.toList_none, va_rf_s, true_and, and_true, true_implies, false_implies, not_true_eq_false, not_false_eq_true, Nat.reduceAdd, Nat.reduceLeDiff, Nat.le_add_left, Nat.zero_le, Nat.le_refl, znew, true_or, or_true, b01_t, b01_f, b01_ok, bool_ft, vp_b01, vp_b0, vp_b1, b01_eq0, b01_eq1, implies_true, nI_add, nI_clamp, zi_in, zi_le_t, zi_le_f, zi_lt_t, zi_lt_f, zi_eq_t, zi_eq_f, nI_leI, nI_ltI, nI_eq, z_in, pk_mul, zu_same, zu_rw, zu_ix, zi_ne0, zi_sub, zi_m1, Nat.add_sub_cancel, Nat.reduceMul, Nat.reduceSub]
  refine zC.of0 (zX5_copies hO.t1 hW.t1 hO.n1 hW.n1 (by omega)) (by omega) (Nat.zero_le _) (Nat.zero_le _) ?_
  rintro _ _ ⟨rfl, S2, rfl, f2, c2⟩
  refine sX5_takes_22 _ _ _ _ _ ?_
  simp (disch := omega) only [oAld, oCS, oGR, hW.k, hW.r2, hW.t2, hW.n2, hO.k, hO.r2, List.getElem?_cons_zero, List.getElem?_cons_succ, List.set_cons_zero, List.set_cons_succ, List.drop_succ_cons, List.drop_zero, List.take_succ_cons, List.take_zero, List.length_cons, List.length_nil, List.reverse_cons, List.reverse_nil, List.nil_append, List.cons_append, Option.toList_some, Option.toList_none, va_rf_s, true_and, and_true, true_implies, false_implies, not_true_eq_false, not_false_eq_true, Nat.reduceAdd, Nat.reduceLeDiff, Nat.le_add_left, Nat.zero_le, Nat.le_refl, znew, true_or, or_true, b01_t, b01_f, b01_ok, bool_ft, vp_b01, vp_b0, vp_b1, b01_eq0, b01_eq1, implies_true, nI_add, nI_clamp, zi_in, zi_le_t, zi_le_f, zi_lt_t, zi_lt_f, zi_eq_t, zi_eq_f, nI_leI, nI_ltI, nI_eq, z_in, pk_mul, zu_same, zu_rw, zu_ix, zi_ne0, zi_sub, zi_m1, Nat.add_sub_cancel, Nat.reduceMul, Nat.reduceSub]
  refine zC.of0 (zX5_copies hO.t2 hW.t2 hO.n2 hW.n2 (by omega)) (by omega) (Nat.zero_le _) (Nat.zero_le _) ?_
  rintro _ _ ⟨rfl, S3, rfl, f3, c3⟩
  refine sX5_takes_33 _ _ _ _ _ ?_
  simp (disch := omega) only [oAld, oCS, oGR, hW.k, hW.r3, hW.t3, hW.n3, hO.k, hO.r3, List.getElem?_cons_zero, List.getElem?_cons_succ, List.set_cons_zero, List.set_cons_succ, List.drop_succ_cons, List.drop_zero, List.take_succ_cons, List.take_zero, List.length_cons, List.length_nil, List.reverse_cons, List.reverse_nil, List.nil_append, List.cons_append, Option.toList_some, Option.toList_none, va_rf_s, true_and, and_true, true_implies, false_implies, not_true_eq_false, not_false_eq_true, Nat.reduceAdd, Nat.reduceLeDiff, Nat.le_add_left, Nat.zero_le, Nat.le_refl, znew, true_or, or_true, b01_t, b01_f, b01_ok, bool_ft, vp_b01, vp_b0, vp_b1, b01_eq0, b01_eq1, implies_true, nI_add, nI_clamp, zi_in, zi_le_t, zi_le_f, zi_lt_t, zi_lt_f, zi_eq_t, zi_eq_f, nI_leI, nI_ltI, nI_eq, z_in, pk_mul, zu_same, zu_rw, zu_ix, zi_ne0, zi_sub, zi_m1, Nat.add_sub_cancel, Nat.reduceMul, Nat.reduceSub]
  refine zC.of0 (zX5_copies hO.t3 hW.t3 hO.n3 hW.n3 (by omega)) (by omega) (Nat.zero_le _) (Nat.zero_le _) ?_
  rintro _ _ ⟨rfl, S4, rfl, f4, c4⟩
  refine sX5_takes_44 _ _ _ _ _ ?_
  simp (disch := omega) only [oAld, oCS, oGR, hW.k, hW.r4, hW.t4, hW.n4, hO.k, hO.r4, List.getElem?_cons_zero, List.getElem?_cons_succ, List.set_cons_zero, List.set_cons_succ, List.drop_succ_cons, List.drop_zero, List.take_succ_cons, List.take_zero, List.length_cons, List.length_nil, List.reverse_cons, List.reverse_nil, List.nil_append, List.cons_append, Option.toList_some, Option.toList_none, va_rf_s, true_and, and_true, true_implies, false_implies, not_true_eq_false, not_false_eq_true, Nat.reduceAdd, Nat.reduceLeDiff, Nat.le_add_left, Nat.zero_le, Nat.le_refl, znew, true_or, or_true, b01_t, b01_f, b01_ok, bool_ft, vp_b01, vp_b0, vp_b1, b01_eq0, b01_eq1, implies_true, nI_add, nI_clamp, zi_in, zi_le_t, zi_le_f, zi_lt_t, zi_lt_f, zi_eq_t, zi_eq_f, nI_leI, nI_ltI, nI_eq, z_in, pk_mul, zu_same, zu_rw, zu_ix, zi_ne0, zi_sub, zi_m1, Nat.add_sub_cancel, Nat.reduceMul, Nat.reduceSub]
  refine zC.of0 (zX5_copies hO.t4 hW.t4 hO.n4 hW.n4 (by omega)) (by omega) (Nat.zero_le _) (Nat.zero_le _) ?_
  rintro _ _ ⟨rfl, S5, rfl, f5, c5⟩
  refine sX5_takes_55 _ _ _ _ _ ?_
  simp (disch := omega) only [oAld, oCS, oGR, hW.k, hW.r5, hW.t5, hW.n5, hO.k, hO.r5, List.getElem?_cons_zero, List.getElem?_cons_succ, List.set_cons_zero, List.set_cons_succ, List.drop_succ_cons, List.drop_zero, List.take_succ_cons, List.take_zero, List.length_cons, List.length_nil, List.reverse_cons, List.reverse_nil, List.nil_append, List.cons_append, Option.toList_some, Option.toList_none, va_rf_s, true_and, and_true, true_implies, false_implies, not_true_eq_false, not_false_eq_true, Nat.reduceAdd, Nat.reduceLeDiff, Nat.le_add_left, Nat.zero_le, Nat.le_refl, znew, true_or, or_true, b01_t, b01_f, b01_ok, bool_ft, vp_b01, vp_b0, vp_b1, b01_eq0, b01_eq1, implies_true, nI_add, nI_clamp, zi_in, zi_le_t, zi_le_f, zi_lt_t, zi_lt_f, zi_eq_t, zi_eq_f, nI_leI, nI_ltI, nI_eq, z_in, pk_mul, zu_same, zu_rw, zu_ix, zi_ne0, zi_sub, zi_m1, Nat.add_sub_cancel, Nat.reduceMul, Nat.reduceSub]
  refine zC.of0 (zX5_copies hO.t5 hW.t5 hO.n5 hW.n5 (by omega)) (by omega) (Nat.zero_le _) (Nat.zero_le _) ?_
  rintro _ _ ⟨rfl, S6, rfl, f6, c6⟩
  have g6 : ∀ b, (b < w + 1 ∨ w + 7 ≤ b) → S6 b = S b := fun b hb => by rw [f6 b (by omega), f5 b (by omega), f4 b (by omega), f3 b (by omega), f2 b (by omega), f1 b (by omega)]
  have k1 : ∀ j, j < 6 → S6 (w + 1) j = S (o + 1) j := fun j hj => by rw [f6 _ (by omega), f5 _ (by omega), f4 _ (by omega), f3 _ (by omega), f2 _ (by omega), c1 j hj]
  have k2 : ∀ j, j < 6 → S6 (w + 2) j = S (o + 2) j := fun j hj => by rw [f6 _ (by omega), f5 _ (by omega), f4 _ (by omega), f3 _ (by omega), c2 j hj, f1 _ (by omega)]
  have k3 : ∀ j, j < 6 → S6 (w + 3) j = S (o + 3) j := fun j hj => by rw [f6 _ (by omega), f5 _ (by omega), f4 _ (by omega), c3 j hj, f2 _ (by omega), f1 _ (by omega)]
  have k4 : ∀ j, j < 6 → S6 (w + 4) j = S (o + 4) j := fun j hj => by rw [f6 _ (by omega), f5 _ (by omega), c4 j hj, f3 _ (by omega), f2 _ (by omega), f1 _ (by omega)]
  have k5 : ∀ j, j < 5 → S6 (w + 5) j = S (o + 5) j := fun j hj => by rw [f6 _ (by omega), c5 j hj, f4 _ (by omega), f3 _ (by omega), f2 _ (by omega), f1 _ (by omega)]
  have k6 : ∀ j, j < 5 → S6 (w + 6) j = S (o + 6) j := fun j hj => by rw [c6 j hj, f5 _ (by omega), f4 _ (by omega), f3 _ (by omega), f2 _ (by omega), f1 _ (by omega)]
  have eo : S6 o = S o := g6 o (by omega)
  have hne : o ≠ w := by omega
  refine sX5_takes_66 _ _ _ _ _ ?_
  simp (disch := omega) only [oAld, oGI, oPI, oRV, hW.k, hO.k, eo, List.getElem?_cons_zero, List.getElem?_cons_succ, List.set_cons_zero, List.set_cons_succ, List.drop_succ_cons, List.drop_zero, List.take_succ_cons, List.take_zero, List.length_cons, List.length_nil, List.reverse_cons, List.reverse_nil, List.nil_append, List.cons_append, Option.toList_some, Option.toList_none, va_rf_s, true_and, and_true, true_implies, false_implies, not_true_eq_false, not_false_eq_true, Nat.reduceAdd, Nat.reduceLeDiff, Nat.le_add_left, Nat.zero_le, Nat.le_refl, znew, true_or, or_true, b01_t, b01_f, b01_ok, bool_ft, vp_b01, vp_b0, vp_b1, b01_eq0, b01_eq1, implies_true, nI_add, nI_clamp, zi_in, zi_le_t, zi_le_f, zi_lt_t, zi_lt_f, zi_eq_t, zi_eq_f, nI_leI, nI_ltI, nI_eq, z_in, pk_mul, zu_same, zu_rw, zu_ix, zi_ne0, zi_sub, zi_m1, Nat.add_sub_cancel, Nat.reduceMul, Nat.reduceSub]
  refine hVQ _ _ ⟨rfl, _, rfl, fun b hb => ?_, fun t sd T hT => ?_⟩
  · rw [zu_rw _ _ (by omega), zu_rw _ _ (by omega), zu_rw _ _ (by omega), zu_rw _ _ (by omega), zu_rw _ _ (by omega)]; exact g6 b (by omega)
  · obtain ⟨t1, t2, t3, t4, t5, t6, t7, t8, t9, t10⟩ := hT
    have nw : ∀ i, 1 ≤ i → zu (zu (zu (zu (zu S6 w 6 (S o 6)) w 7 (S o 7)) w 8 (S o 8)) w 9 (S o 9)) w 10 (S o 10) (w + i) = S6 (w + i) := fun i hi => by
      rw [zu_rw _ _ (by omega), zu_rw _ _ (by omega), zu_rw _ _ (by omega), zu_rw _ _ (by omega), zu_rw _ _ (by omega)]
    refine ⟨fun y hy => ?_, fun y hy => ?_, fun y hy => ?_, fun y hy => ?_, fun v hv => ?_, ?_, ?_, fun hc => ?_, ?_, ?_⟩
    · rw [nw 1 (by omega), k1 y hy]; exact t1 y hy
    · rw [nw 2 (by omega), k2 y hy]; exact t2 y hy
    · rw [nw 3 (by omega), k3 y hy]; exact t3 y hy
    · rw [nw 4 (by omega), k4 y hy]; exact t4 y hy
    · rw [nw 5 (by omega), nw 6 (by omega), k5 v hv, k6 v hv]; exact t5 v hv
    · simp (disch := omega) only [List.getElem?_cons_zero, List.getElem?_cons_succ, List.set_cons_zero, List.set_cons_succ, List.drop_succ_cons, List.drop_zero, List.take_succ_cons, List.take_zero, List.length_cons, List.length_nil, List.reverse_cons, List.reverse_nil, List.nil_append, List.cons_append, Option.toList_some, Option.toList_none, va_rf_s, true_and, and_true, true_implies, false_implies, not_true_eq_false, not_false_eq_true, Nat.reduceAdd, Nat.reduceLeDiff, Nat.le_add_left, Nat.zero_le, Nat.le_refl, znew, true_or, or_true, b01_t, b01_f, b01_ok, bool_ft, vp_b01, vp_b0, vp_b1, b01_eq0, b01_eq1, implies_true, nI_add, nI_clamp, zi_in, zi_le_t, zi_le_f, zi_lt_t, zi_lt_f, zi_eq_t, zi_eq_f, nI_leI, nI_ltI, nI_eq, z_in, pk_mul, zu_same, zu_rw, zu_ix, zi_ne0, zi_sub, zi_m1, Nat.add_sub_cancel, Nat.reduceMul, Nat.reduceSub, t6]
    · simp (disch := omega) only [List.getElem?_cons_zero, List.getElem?_cons_succ, List.set_cons_zero, List.set_cons_succ, List.drop_succ_cons, List.drop_zero, List.take_succ_cons, List.take_zero, List.length_cons, List.length_nil, List.reverse_cons, List.reverse_nil, List.nil_append, List.cons_append, Option.toList_some, Option.toList_none, va_rf_s, true_and, and_true, true_implies, false_implies, not_true_eq_false, not_false_eq_true, Nat.reduceAdd, Nat.reduceLeDiff, Nat.le_add_left, Nat.zero_le, Nat.le_refl, znew, true_or, or_true, b01_t, b01_f, b01_ok, bool_ft, vp_b01, vp_b0, vp_b1, b01_eq0, b01_eq1, implies_true, nI_add, nI_clamp, zi_in, zi_le_t, zi_le_f, zi_lt_t, zi_lt_f, zi_eq_t, zi_eq_f, nI_leI, nI_ltI, nI_eq, z_in, pk_mul, zu_same, zu_rw, zu_ix, zi_ne0, zi_sub, zi_m1, Nat.add_sub_cancel, Nat.reduceMul, Nat.reduceSub, t7]
    · have := t8 hc; simp (disch := omega) only [List.getElem?_cons_zero, List.getElem?_cons_succ, List.set_cons_zero, List.set_cons_succ, List.drop_succ_cons, List.drop_zero, List.take_succ_cons, List.take_zero, List.length_cons, List.length_nil, List.reverse_cons, List.reverse_nil, List.nil_append, List.cons_append, Option.toList_some, Option.toList_none, va_rf_s, true_and, and_true, true_implies, false_implies, not_true_eq_false, not_false_eq_true, Nat.reduceAdd, Nat.reduceLeDiff, Nat.le_add_left, Nat.zero_le, Nat.le_refl, znew, true_or, or_true, b01_t, b01_f, b01_ok, bool_ft, vp_b01, vp_b0, vp_b1, b01_eq0, b01_eq1, implies_true, nI_add, nI_clamp, zi_in, zi_le_t, zi_le_f, zi_lt_t, zi_lt_f, zi_eq_t, zi_eq_f, nI_leI, nI_ltI, nI_eq, z_in, pk_mul, zu_same, zu_rw, zu_ix, zi_ne0, zi_sub, zi_m1, Nat.add_sub_cancel, Nat.reduceMul, Nat.reduceSub, this]
    · simp (disch := omega) only [List.getElem?_cons_zero, List.getElem?_cons_succ, List.set_cons_zero, List.set_cons_succ, List.drop_succ_cons, List.drop_zero, List.take_succ_cons, List.take_zero, List.length_cons, List.length_nil, List.reverse_cons, List.reverse_nil, List.nil_append, List.cons_append, Option.toList_some, Option.toList_none, va_rf_s, true_and, and_true, true_implies, false_implies, not_true_eq_false, not_false_eq_true, Nat.reduceAdd, Nat.reduceLeDiff, Nat.le_add_left, Nat.zero_le, Nat.le_refl, znew, true_or, or_true, b01_t, b01_f, b01_ok, bool_ft, vp_b01, vp_b0, vp_b1, b01_eq0, b01_eq1, implies_true, nI_add, nI_clamp, zi_in, zi_le_t, zi_le_f, zi_lt_t, zi_lt_f, zi_eq_t, zi_eq_f, nI_leI, nI_ltI, nI_eq, z_in, pk_mul, zu_same, zu_rw, zu_ix, zi_ne0, zi_sub, zi_m1, Nat.add_sub_cancel, Nat.reduceMul, Nat.reduceSub, t9]
    · simp (disch := omega) only [List.getElem?_cons_zero, List.getElem?_cons_succ, List.set_cons_zero, List.set_cons_succ, List.drop_succ_cons, List.drop_zero, List.take_succ_cons, List.take_zero, List.length_cons, List.length_nil, List.reverse_cons, List.reverse_nil, List.nil_append, List.cons_append, Option.toList_some, Option.toList_none, va_rf_s, true_and, and_true, true_implies, false_implies, not_true_eq_false, not_false_eq_true, Nat.reduceAdd, Nat.reduceLeDiff, Nat.le_add_left, Nat.zero_le, Nat.le_refl, znew, true_or, or_true, b01_t, b01_f, b01_ok, bool_ft, vp_b01, vp_b0, vp_b1, b01_eq0, b01_eq1, implies_true, nI_add, nI_clamp, zi_in, zi_le_t, zi_le_f, zi_lt_t, zi_lt_f, zi_eq_t, zi_eq_f, nI_leI, nI_ltI, nI_eq, z_in, pk_mul, zu_same, zu_rw, zu_ix, zi_ne0, zi_sub, zi_m1, Nat.add_sub_cancel, Nat.reduceMul, Nat.reduceSub, t10]
theorem zX5_says (hW : isTw h w) (hX : isTx h S ok D ta t q0 A) (hk : okW ok w) (hT : tw S w t sd T) (hI : rI t T) (hTI : tI t) {y v : Nat} (hy : y < tny t) (hv : v < 5) :
    zM l E (D + 5) YX5_says [.ref w, .ref ta, .int (nI y), .int (nI v)] (z, h, S, L) 0 0 (fun r X => r = none ∧ ∃ S', X = (z, h, S', L) ∧ twF w S S' ∧ tw S' w t sd (sayT t T y v)) (fun _ _ => False) := by
  obtain ⟨h7, h10, h6, h5⟩ := hX.b
  obtain ⟨g, eg, hg9, -⟩ := hI.1 y (by omega)
  obtain ⟨q, eq, hq⟩ := hI.2.1 v hv
  obtain ⟨gl, egl, hgl⟩ : ∃ q, glT t T y v = nI q ∧ q ≤ 99 := within_N (by omega)
  obtain ⟨we, ewe, hwe⟩ : ∃ q, weT t T y v = nI q ∧ q ≤ 99 := within_N (by omega)
  obtain ⟨hr, ehr, hhr⟩ := hI.2.2.2.2.2.2.1
  have pj : ∀ j, sayT t T y v j = if j = 24 + y then T 47 else if j = 18 + y then T (18 + y) + nI 1 else if j = 41 + v then T (41 + v) + nI 1 else if j = 36 + v then withinF (T (36 + v) - weT t T y v) (nI 0) (nI 99) else if j = 6 + y then withinF (T (6 + y) + glT t T y v) (nI 0) (nI 999) else T j := fun j => rfl
  refine zM.go rfl rfl (Nat.le_of_ble_eq_true rfl) (ls := [some (.ref w), some (.ref ta), some (.int (nI y)), some (.int (nI v)), none, none]) rfl ?_
  intro V hVl hVE hVd hVc hVs hVQ hVX
  refine sX5_says_0 _ _ _ _ _ ?_
  simp (disch := omega) only [oAld, oCV, oIld, hW.k, List.getElem?_cons_zero, List.getElem?_cons_succ, List.set_cons_zero, List.set_cons_succ, List.drop_succ_cons, List.drop_zero, List.take_succ_cons, List.take_zero, List.length_cons, List.length_nil, List.reverse_cons, List.reverse_nil, List.nil_append, List.cons_append, Option.toList_some, Option.toList_none, va_rf_s, true_and, and_true, true_implies, false_implies, not_true_eq_false, not_false_eq_true, Nat.reduceAdd, Nat.reduceLeDiff, Nat.le_add_left, Nat.zero_le, Nat.le_refl, znew, true_or, or_true, b01_t, b01_f, b01_ok, bool_ft, vp_b01, vp_b0, vp_b1, b01_eq0, b01_eq1, implies_true, nI_add, nI_clamp, zi_in, zi_le_t, zi_le_f, zi_lt_t, zi_lt_f, zi_eq_t, zi_eq_f, nI_leI, nI_ltI, nI_eq, z_in, pk_mul, zu_same, zu_rw, zu_ix, zi_ne0, zi_sub, zi_m1, Nat.add_sub_cancel, Nat.reduceMul, Nat.reduceSub]
  refine zC.of0 (zX5_glows hW hX hk hT hI hTI hy hv) (by omega) (Nat.zero_le _) (Nat.zero_le _) ?_
  rintro _ _ ⟨S1, rfl, hg1, rfl⟩
  refine sX5_says_7 _ _ _ _ _ ?_
  simp (disch := omega) only [oAld, oCV, oIld, oIst, hW.k, List.getElem?_cons_zero, List.getElem?_cons_succ, List.set_cons_zero, List.set_cons_succ, List.drop_succ_cons, List.drop_zero, List.take_succ_cons, List.take_zero, List.length_cons, List.length_nil, List.reverse_cons, List.reverse_nil, List.nil_append, List.cons_append, Option.toList_some, Option.toList_none, va_rf_s, true_and, and_true, true_implies, false_implies, not_true_eq_false, not_false_eq_true, Nat.reduceAdd, Nat.reduceLeDiff, Nat.le_add_left, Nat.zero_le, Nat.le_refl, znew, true_or, or_true, b01_t, b01_f, b01_ok, bool_ft, vp_b01, vp_b0, vp_b1, b01_eq0, b01_eq1, implies_true, nI_add, nI_clamp, zi_in, zi_le_t, zi_le_f, zi_lt_t, zi_lt_f, zi_eq_t, zi_eq_f, nI_leI, nI_ltI, nI_eq, z_in, pk_mul, zu_same, zu_rw, zu_ix, zi_ne0, zi_sub, zi_m1, Nat.add_sub_cancel, Nat.reduceMul, Nat.reduceSub]
  refine zC.of0 (zX5_wears hW (hX.gf hk hg1) hk (hT.gf hg1) hTI hy hv) (by omega) (Nat.zero_le _) (Nat.zero_le _) ?_
  rintro _ _ ⟨S2, rfl, hg2, rfl⟩
  have hg := hg1.tr hg2
  obtain ⟨t1, t2, t3, t4, t5, t6, t7, t8, t9, t10⟩ := hT.gf hg
  have e2 := t2 y (by omega)
  have e5 := (t5 v hv).1
  have e6 := (t5 v hv).2
  have e4 := t4 y (by omega)
  have m1 : minF (nI 999) (T (6 + y) + glT t T y v) = withinF (T (6 + y) + glT t T y v) (nI 0) (nI 999) := by rw [eg, egl]; exact min999 (by omega) (by omega)
  have m2 : maxF (nI 0) (T (36 + v) - weT t T y v) = withinF (T (36 + v) - weT t T y v) (nI 0) (nI 99) := by rw [eq, ewe]; exact max_sub (by omega) (by omega) (by omega)
  generalize hG : withinF (T (6 + y) + glT t T y v) (nI 0) (nI 999) = G at *
  generalize hH : withinF (T (36 + v) - weT t T y v) (nI 0) (nI 99) = H at *
  refine sX5_says_16 (by omega) _ _ _ _ _ ?_
  simp (disch := omega) only [oAld, oAld1, oAst1, oBin, oDup2, oGI, oGR, oIld, oIst, oM2, oPush, oRV, hW.k, hW.r1, hW.t1, hW.n1, hW.r4, hW.t4, hW.n4, hW.r5, hW.t5, hW.n5, hW.r3, hW.t3, hW.n3, hW.r2, hW.t2, hW.n2, e2, e4, e5, e6, t9, m1, m2, List.getElem?_cons_zero, List.getElem?_cons_succ, List.set_cons_zero, List.set_cons_succ, List.drop_succ_cons, List.drop_zero, List.take_succ_cons, List.take_zero, List.length_cons, List.length_nil, List.reverse_cons, List.reverse_nil, List.nil_append, List.cons_append, Option.toList_some, Option.toList_none, va_rf_s, true_and, and_true, true_implies, false_implies, not_true_eq_false, not_false_eq_true, Nat.reduceAdd, Nat.reduceLeDiff, Nat.le_add_left, Nat.zero_le, Nat.le_refl, znew, true_or, or_true, b01_t, b01_f, b01_ok, bool_ft, vp_b01, vp_b0, vp_b1, b01_eq0, b01_eq1, implies_true, nI_add, nI_clamp, zi_in, zi_le_t, zi_le_f, zi_lt_t, zi_lt_f, zi_eq_t, zi_eq_f, nI_leI, nI_ltI, nI_eq, z_in, pk_mul, zu_same, zu_rw, zu_ix, zi_ne0, zi_sub, zi_m1, Nat.add_sub_cancel, Nat.reduceMul, Nat.reduceSub]
  refine hVQ _ _ ⟨rfl, _, rfl, fun b hb => ?_, ?_⟩
  · rw [zu_rw _ _ (by omega), zu_rw _ _ (by omega), zu_rw _ _ (by omega), zu_rw _ _ (by omega), zu_rw _ _ (by omega)]; exact hg b (by omega) (by omega)
  · have p24 : sayT t T y v (24 + y) = T 47 := by rw [pj, if_pos rfl]
    have p18 : sayT t T y v (18 + y) = T (18 + y) + nI 1 := by rw [pj, if_neg (by omega), if_pos rfl]
    have p41 : sayT t T y v (41 + v) = T (41 + v) + nI 1 := by rw [pj, if_neg (by omega), if_neg (by omega), if_pos rfl]
    have p36 : sayT t T y v (36 + v) = H := by rw [pj, if_neg (by omega), if_neg (by omega), if_neg (by omega), if_pos rfl]
    have p6 : sayT t T y v (6 + y) = G := by rw [pj, if_neg (by omega), if_neg (by omega), if_neg (by omega), if_neg (by omega), if_pos rfl]
    have pe : ∀ j, j ≠ 24 + y → j ≠ 18 + y → j ≠ 41 + v → j ≠ 36 + v → j ≠ 6 + y → sayT t T y v j = T j := fun j j1 j2 j3 j4 j5 => by rw [pj, if_neg j1, if_neg j2, if_neg j3, if_neg j4, if_neg j5]
    generalize sayT t T y v = T' at p24 p18 p41 p36 p6 pe ⊢
    refine ⟨fun i hi => ?_, fun i hi => ?_, fun i hi => ?_, fun i hi => ?_, fun i hi => ?_, ?_, ?_, fun hc => ?_, ?_, ?_⟩
    · have := t1 i hi
      rw [zu_rw _ _ (by omega), zu_rw _ _ (by omega), zu_rw _ _ (by omega), zu_rw _ _ (by omega), zu_rw _ _ (by omega), this, pe i (by omega) (by omega) (by omega) (by omega) (by omega)]
    · rw [zu_rw _ _ (by omega), zu_rw _ _ (by omega), zu_rw _ _ (by omega), zu_rw _ _ (by omega), zu_rowj]
      by_cases hi2 : i = y
      · subst hi2
        rw [if_pos rfl, p6]
      · rw [if_neg hi2, pe _ (by omega) (by omega) (by omega) (by omega) (by omega)]; exact t2 i hi
    · rw [zu_rowj]
      by_cases hi2 : i = y
      · subst hi2
        rw [if_pos rfl, p24]
        exact Or.inr ⟨rfl, by rw [ehr]; exact nI_le (by omega) (by omega)⟩
      · rw [if_neg hi2, zu_rw _ _ (by omega), zu_rw _ _ (by omega), zu_rw _ _ (by omega), zu_rw _ _ (by omega), pe _ (by omega) (by omega) (by omega) (by omega) (by omega)]; exact t3 i hi
    · rw [zu_rw _ _ (by omega), zu_rowj]
      by_cases hi2 : i = y
      · subst hi2
        rw [if_pos rfl, p18]
      · rw [if_neg hi2, zu_rw _ _ (by omega), zu_rw _ _ (by omega), zu_rw _ _ (by omega), pe _ (by omega) (by omega) (by omega) (by omega) (by omega)]; exact t4 i hi
    · have t5i := t5 i hi
      by_cases hi2 : i = v
      · subst hi2
        rw [p36, p41]
        exact ⟨by simp (disch := omega) only [List.getElem?_cons_zero, List.getElem?_cons_succ, List.set_cons_zero, List.set_cons_succ, List.drop_succ_cons, List.drop_zero, List.take_succ_cons, List.take_zero, List.length_cons, List.length_nil, List.reverse_cons, List.reverse_nil, List.nil_append, List.cons_append, Option.toList_some, Option.toList_none, va_rf_s, true_and, and_true, true_implies, false_implies, not_true_eq_false, not_false_eq_true, Nat.reduceAdd, Nat.reduceLeDiff, Nat.le_add_left, Nat.zero_le, Nat.le_refl, znew, true_or, or_true, b01_t, b01_f, b01_ok, bool_ft, vp_b01, vp_b0, vp_b1, b01_eq0, b01_eq1, implies_true, nI_add, nI_clamp, zi_in, zi_le_t, zi_le_f, zi_lt_t, zi_lt_f, zi_eq_t, zi_eq_f, nI_leI, nI_ltI, nI_eq, z_in, pk_mul, zu_same, zu_rw, zu_ix, zi_ne0, zi_sub, zi_m1, Nat.add_sub_cancel, Nat.reduceMul, Nat.reduceSub, ], by simp (disch := omega) only [List.getElem?_cons_zero, List.getElem?_cons_succ, List.set_cons_zero, List.set_cons_succ, List.drop_succ_cons, List.drop_zero, List.take_succ_cons, List.take_zero, List.length_cons, List.length_nil, List.reverse_cons, List.reverse_nil, List.nil_append, List.cons_append, Option.toList_some, Option.toList_none, va_rf_s, true_and, and_true, true_implies, false_implies, not_true_eq_false, not_false_eq_true, Nat.reduceAdd, Nat.reduceLeDiff, Nat.le_add_left, Nat.zero_le, Nat.le_refl, znew, true_or, or_true, b01_t, b01_f, b01_ok, bool_ft, vp_b01, vp_b0, vp_b1, b01_eq0, b01_eq1, implies_true, nI_add, nI_clamp, zi_in, zi_le_t, zi_le_f, zi_lt_t, zi_lt_f, zi_eq_t, zi_eq_f, nI_leI, nI_ltI, nI_eq, z_in, pk_mul, zu_same, zu_rw, zu_ix, zi_ne0, zi_sub, zi_m1, Nat.add_sub_cancel, Nat.reduceMul, Nat.reduceSub, ]⟩
      · rw [pe (36 + i) (by omega) (by omega) (by omega) (by omega) (by omega), pe (41 + i) (by omega) (by omega) (by omega) (by omega) (by omega)]
        exact ⟨by simp (disch := omega) only [List.getElem?_cons_zero, List.getElem?_cons_succ, List.set_cons_zero, List.set_cons_succ, List.drop_succ_cons, List.drop_zero, List.take_succ_cons, List.take_zero, List.length_cons, List.length_nil, List.reverse_cons, List.reverse_nil, List.nil_append, List.cons_append, Option.toList_some, Option.toList_none, va_rf_s, true_and, and_true, true_implies, false_implies, not_true_eq_false, not_false_eq_true, Nat.reduceAdd, Nat.reduceLeDiff, Nat.le_add_left, Nat.zero_le, Nat.le_refl, znew, true_or, or_true, b01_t, b01_f, b01_ok, bool_ft, vp_b01, vp_b0, vp_b1, b01_eq0, b01_eq1, implies_true, nI_add, nI_clamp, zi_in, zi_le_t, zi_le_f, zi_lt_t, zi_lt_f, zi_eq_t, zi_eq_f, nI_leI, nI_ltI, nI_eq, z_in, pk_mul, zu_same, zu_rw, zu_ix, zi_ne0, zi_sub, zi_m1, Nat.add_sub_cancel, Nat.reduceMul, Nat.reduceSub, t5i.1], by simp (disch := omega) only [List.getElem?_cons_zero, List.getElem?_cons_succ, List.set_cons_zero, List.set_cons_succ, List.drop_succ_cons, List.drop_zero, List.take_succ_cons, List.take_zero, List.length_cons, List.length_nil, List.reverse_cons, List.reverse_nil, List.nil_append, List.cons_append, Option.toList_some, Option.toList_none, va_rf_s, true_and, and_true, true_implies, false_implies, not_true_eq_false, not_false_eq_true, Nat.reduceAdd, Nat.reduceLeDiff, Nat.le_add_left, Nat.zero_le, Nat.le_refl, znew, true_or, or_true, b01_t, b01_f, b01_ok, bool_ft, vp_b01, vp_b0, vp_b1, b01_eq0, b01_eq1, implies_true, nI_add, nI_clamp, zi_in, zi_le_t, zi_le_f, zi_lt_t, zi_lt_f, zi_eq_t, zi_eq_f, nI_leI, nI_ltI, nI_eq, z_in, pk_mul, zu_same, zu_rw, zu_ix, zi_ne0, zi_sub, zi_m1, Nat.add_sub_cancel, Nat.reduceMul, Nat.reduceSub, t5i.2]⟩
    · have e : homeR t T' = homeR t T := by
        unfold homeR
        refine setF_ext (fun k hk => ?_)
        rw [pe _ (by omega) (by omega) (by omega) (by omega) (by omega)]
      rw [e]; simp (disch := omega) only [List.getElem?_cons_zero, List.getElem?_cons_succ, List.set_cons_zero, List.set_cons_succ, List.drop_succ_cons, List.drop_zero, List.take_succ_cons, List.take_zero, List.length_cons, List.length_nil, List.reverse_cons, List.reverse_nil, List.nil_append, List.cons_append, Option.toList_some, Option.toList_none, va_rf_s, true_and, and_true, true_implies, false_implies, not_true_eq_false, not_false_eq_true, Nat.reduceAdd, Nat.reduceLeDiff, Nat.le_add_left, Nat.zero_le, Nat.le_refl, znew, true_or, or_true, b01_t, b01_f, b01_ok, bool_ft, vp_b01, vp_b0, vp_b1, b01_eq0, b01_eq1, implies_true, nI_add, nI_clamp, zi_in, zi_le_t, zi_le_f, zi_lt_t, zi_lt_f, zi_eq_t, zi_eq_f, nI_leI, nI_ltI, nI_eq, z_in, pk_mul, zu_same, zu_rw, zu_ix, zi_ne0, zi_sub, zi_m1, Nat.add_sub_cancel, Nat.reduceMul, Nat.reduceSub, t6]
    · have e : rougeR t T' = rougeR t T := by
        unfold rougeR
        refine setF_ext (fun k hk => ?_)
        rw [pe _ (by omega) (by omega) (by omega) (by omega) (by omega)]
      rw [e]; simp (disch := omega) only [List.getElem?_cons_zero, List.getElem?_cons_succ, List.set_cons_zero, List.set_cons_succ, List.drop_succ_cons, List.drop_zero, List.take_succ_cons, List.take_zero, List.length_cons, List.length_nil, List.reverse_cons, List.reverse_nil, List.nil_append, List.cons_append, Option.toList_some, Option.toList_none, va_rf_s, true_and, and_true, true_implies, false_implies, not_true_eq_false, not_false_eq_true, Nat.reduceAdd, Nat.reduceLeDiff, Nat.le_add_left, Nat.zero_le, Nat.le_refl, znew, true_or, or_true, b01_t, b01_f, b01_ok, bool_ft, vp_b01, vp_b0, vp_b1, b01_eq0, b01_eq1, implies_true, nI_add, nI_clamp, zi_in, zi_le_t, zi_le_f, zi_lt_t, zi_lt_f, zi_eq_t, zi_eq_f, nI_leI, nI_ltI, nI_eq, z_in, pk_mul, zu_same, zu_rw, zu_ix, zi_ne0, zi_sub, zi_m1, Nat.add_sub_cancel, Nat.reduceMul, Nat.reduceSub, t7]
    · have := t8 hc
      rw [pe _ (by omega) (by omega) (by omega) (by omega) (by omega)]; simp (disch := omega) only [List.getElem?_cons_zero, List.getElem?_cons_succ, List.set_cons_zero, List.set_cons_succ, List.drop_succ_cons, List.drop_zero, List.take_succ_cons, List.take_zero, List.length_cons, List.length_nil, List.reverse_cons, List.reverse_nil, List.nil_append, List.cons_append, Option.toList_some, Option.toList_none, va_rf_s, true_and, and_true, true_implies, false_implies, not_true_eq_false, not_false_eq_true, Nat.reduceAdd, Nat.reduceLeDiff, Nat.le_add_left, Nat.zero_le, Nat.le_refl, znew, true_or, or_true, b01_t, b01_f, b01_ok, bool_ft, vp_b01, vp_b0, vp_b1, b01_eq0, b01_eq1, implies_true, nI_add, nI_clamp, zi_in, zi_le_t, zi_le_f, zi_lt_t, zi_lt_f, zi_eq_t, zi_eq_f, nI_leI, nI_ltI, nI_eq, z_in, pk_mul, zu_same, zu_rw, zu_ix, zi_ne0, zi_sub, zi_m1, Nat.add_sub_cancel, Nat.reduceMul, Nat.reduceSub, this]
    · rw [pe _ (by omega) (by omega) (by omega) (by omega) (by omega)]; simp (disch := omega) only [List.getElem?_cons_zero, List.getElem?_cons_succ, List.set_cons_zero, List.set_cons_succ, List.drop_succ_cons, List.drop_zero, List.take_succ_cons, List.take_zero, List.length_cons, List.length_nil, List.reverse_cons, List.reverse_nil, List.nil_append, List.cons_append, Option.toList_some, Option.toList_none, va_rf_s, true_and, and_true, true_implies, false_implies, not_true_eq_false, not_false_eq_true, Nat.reduceAdd, Nat.reduceLeDiff, Nat.le_add_left, Nat.zero_le, Nat.le_refl, znew, true_or, or_true, b01_t, b01_f, b01_ok, bool_ft, vp_b01, vp_b0, vp_b1, b01_eq0, b01_eq1, implies_true, nI_add, nI_clamp, zi_in, zi_le_t, zi_le_f, zi_lt_t, zi_lt_f, zi_eq_t, zi_eq_f, nI_leI, nI_ltI, nI_eq, z_in, pk_mul, zu_same, zu_rw, zu_ix, zi_ne0, zi_sub, zi_m1, Nat.add_sub_cancel, Nat.reduceMul, Nat.reduceSub, t9]
    · simp (disch := omega) only [List.getElem?_cons_zero, List.getElem?_cons_succ, List.set_cons_zero, List.set_cons_succ, List.drop_succ_cons, List.drop_zero, List.take_succ_cons, List.take_zero, List.length_cons, List.length_nil, List.reverse_cons, List.reverse_nil, List.nil_append, List.cons_append, Option.toList_some, Option.toList_none, va_rf_s, true_and, and_true, true_implies, false_implies, not_true_eq_false, not_false_eq_true, Nat.reduceAdd, Nat.reduceLeDiff, Nat.le_add_left, Nat.zero_le, Nat.le_refl, znew, true_or, or_true, b01_t, b01_f, b01_ok, bool_ft, vp_b01, vp_b0, vp_b1, b01_eq0, b01_eq1, implies_true, nI_add, nI_clamp, zi_in, zi_le_t, zi_le_f, zi_lt_t, zi_lt_f, zi_eq_t, zi_eq_f, nI_leI, nI_ltI, nI_eq, z_in, pk_mul, zu_same, zu_rw, zu_ix, zi_ne0, zi_sub, zi_m1, Nat.add_sub_cancel, Nat.reduceMul, Nat.reduceSub, t10]
end CF
