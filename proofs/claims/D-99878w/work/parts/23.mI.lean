/-! the model: what is done -/
abbrev Ddo : List Nat := [33, 34, 35, 36, 37, 38, 39, 40, 41, 42, 43, 44, 45]
abbrev Fdo : List Nat := [49, 52, 55, 56, 60]
/-- a deed's end: the row T, the rows U that stood -/
def mDo (b : Nat) (S S' : Nat → Nat → Int32) (T : Nat → Int32) (U : List (Nat → Int32)) : Prop := zfr Ddo Fdo b S S' ∧ mZ b S' ∧ S' (b + 36) = T ∧ hU b S' U
theorem mDo.of {b : Nat} {S S' : Nat → Nat → Int32} {T : Nat → Int32} {U : List (Nat → Int32)} (he : mE b S S') (hT : S (b + 36) = T) (hU0 : hU b S U) : mDo b S S' T U :=
  ⟨he.1.tr zfr.rf rfl rfl (D' := []) (F' := []) rfl rfl, he.2, (he.1.at (o := 36) rfl rfl).trans hT, hU0.fr he.1 rfl rfl⟩
theorem mX.frD {b lv : Nat} {S S' : Nat → Nat → Int32} {t : ZT} {T : Nat → Int32} {U : List (Nat → Int32)} (h : mX b S lv t) (hd : mDo b S S' T U) : mX b S' lv t := h.fr hd.1 rfl rfl
def outB (t : ZT) (T : Nat → Int32) (y : Int32) : Bool := okI y (tny t) && decide (T (12 + y.toNatClampNeg) = nI 0)
theorem outB_iff {t : ZT} {T : Nat → Int32} {y : Int32} (h6 : tny t ≤ 6) : outB t T y = true ↔ ∃ j, j < tny t ∧ y = nI j ∧ T (12 + j) = nI 0 := by
  unfold outB
  rw [Bool.and_eq_true, okI_iff (by omega), decide_eq_true_iff]
  constructor
  · rintro ⟨⟨j, hj, rfl⟩, h2⟩
    rw [nI_clamp (by omega)] at h2
    exact ⟨j, hj, rfl, h2⟩
  · rintro ⟨j, hj, rfl, h2⟩
    refine ⟨⟨j, hj, rfl⟩, ?_⟩
    rw [nI_clamp (by omega)]; exact h2
def stepOk (t : ZT) (T : Nat → Int32) (s : Int32) : Prop := okI s (tns t) = true ∧ (nI (tone t s.toNatClampNeg) = T 46 ∨ nI (toth t s.toNatClampNeg) = T 46)
def hourT (t : ZT) (still : Int32) (seed : Int32) (T : Nat → Int32) : Nat → Int32 := hourF (tag t) (tte t) (tlw t) T seed still (tnc t) (tny t) (tdr t)
def hoursT (t : ZT) (still : Int32) (seed : Int32) (n : Nat) (T : Nat → Int32) : Nat → Int32 := hoursF (tag t) (tte t) (tlw t) seed still (tnc t) (tny t) (tdr t) n T
def stepT (t : ZT) (T : Nat → Int32) (s : Nat) : Nat → Int32 := hourT t (nI 0) (tsd t) (fun j => if j = 46 then nI (tone t s + toth t s) - T 46 else T j)
def sayOk (t : ZT) (T : Nat → Int32) (y w : Int32) : Prop := outB t T y = true ∧ okI w (tnw t) = true ∧ T y.toNatClampNeg = T 46
def sayT (t : ZT) (T : Nat → Int32) (y w : Nat) : Nat → Int32 := saysF (tag t) (tte t) (tlw t) T y w
def moveOk (t : ZT) (T : Nat → Int32) (y c : Int32) : Prop := outB t T y = true ∧ okI c (tnc t) = true ∧ T y.toNatClampNeg ≠ c
def moveT (T : Nat → Int32) (y : Nat) (c : Int32) : Nat → Int32 := fun j => if j = y then c else T j
def rougeT (T : Nat → Int32) (y : Nat) : Nat → Int32 := fun j => if j = 30 + y then nI 1 else if j = 6 + y then withinF (T (6 + y) + nI 20) (nI 0) (nI 999) else T j
theorem hourF_hi {ag te : Nat → Int32} {lw : Nat → List zBr3} {R : Nat → Int32} {lots still : Int32} {nc ny : Nat} {dr : Int32} (h6 : ny ≤ 6) {j : Nat} (hj : 48 ≤ j) : hourF ag te lw R lots still nc ny dr j = R j := by
  unfold hourF
  rw [if_neg (by omega), hourK_lo (by omega) h6]
theorem hoursF_hi {ag te : Nat → Int32} {lw : Nat → List zBr3} {lots still : Int32} {nc ny : Nat} {dr : Int32} (h6 : ny ≤ 6) {j : Nat} (hj : 48 ≤ j) : ∀ (n : Nat) (R : Nat → Int32), hoursF ag te lw lots still nc ny dr n R j = R j
  | 0, R => rfl
  | n + 1, R => by rw [hoursF, hourF_hi h6 hj, hoursF_hi h6 hj n R]
section MI
variable {l : Launch} {E : zE} {b z : Nat} {h : Nat → Option zSh} {S : Nat → Nat → Int32} {L : Nat → Nat → Int64} {lv : Nat} {t : ZT} {T : Nat → Int32} {U : List (Nat → Int32)}
/-- behind 'records' -/
theorem mDo.rec {S1 S2 : Nat → Nat → Int32} {R : Nat → Int32} (hf1 : zfr Dq Fq b S S1) (hZ : mZ b S) (hR : ∀ j, 48 ≤ j → R j = nI 0) (hr : S1 (b + 37) = R) (hf2 : zfr [36, 41] [60] b S1 S2) (h36 : S2 (b + 36) = S1 (b + 37)) (hu : hU b S2 (pushU (S1 (b + 36)) U)) (hT : S (b + 36) = T) : mDo b S S2 R (pushU T U) := by
  refine ⟨hf1.tr hf2 rfl rfl rfl rfl, ⟨fun j hj => ?_, fun j hj => ?_⟩, h36.trans hr, ?_⟩
  · rw [h36, hr]; exact hR j hj
  · rw [hf2.at (o := 37) rfl rfl, hr]; exact hR j hj
  · rw [hf1.at (o := 36) rfl rfl, hT] at hu; exact hu
theorem mZ.q {S1 : Nat → Nat → Int32} {R : Nat → Int32} (hf1 : zfr Dq Fq b S S1) (hZ : mZ b S) (hR : ∀ j, 48 ≤ j → R j = nI 0) (hr : S1 (b + 37) = R) : mZ b S1 := ⟨fun j hj => by rw [hf1.at (o := 36) rfl rfl]; exact hZ.1 j hj, fun j hj => by rw [hr]; exact hR j hj⟩
theorem zX10_step (hM : isM h b) (hQ : mQ b S lv t T) (hU0 : hU b S U) (s : Int32) :
    zM l E 4 YX10_step [.ref b, .int s] (z, h, S, L) 0 0 (fun r X => ∃ S', X = (z, h, S', L) ∧ ((stepOk t T s ∧ mDo b S S' (stepT t T s.toNatClampNeg) (pushU T U) ∧ r = some (.int (stepT t T s.toNatClampNeg 46))) ∨ (¬ stepOk t T s ∧ mDo b S S' T U ∧ r = some (.int (-1))))) (fun _ _ => False) := by
  obtain ⟨hX, hZ, hN⟩ := id hQ
  have hns10 : tns t ≤ 10 := hX.1.2.2.1.2
  have hny6 : tny t ≤ 6 := hX.1.2.2.2.1.2
  have no : ¬ stepOk t T s → ∃ S', (z, h, S, L) = (z, h, S', L) ∧ ((stepOk t T s ∧ mDo b S S' (stepT t T s.toNatClampNeg) (pushU T U) ∧ some (Value.int (-1)) = some (.int (stepT t T s.toNatClampNeg 46))) ∨ (¬ stepOk t T s ∧ mDo b S S' T U ∧ some (Value.int (-1)) = some (.int (-1)))) := fun hn => ⟨S, rfl, Or.inr ⟨hn, mDo.of (mE.rf hZ) hN hU0, rfl⟩⟩
  refine zM.go rfl rfl (Nat.le_of_ble_eq_true rfl) (ls := [some (.ref b), some (.int s)]) rfl ?_
  intro V hVl hVE hVd hVc hVs hVQ hVX
  refine sX10_step_0 _ _ _ _ _ ?_
  simp (disch := omega) only [oAld, oCV, oIld, hM.1, List.getElem?_cons_zero, List.getElem?_cons_succ, List.set_cons_zero, List.set_cons_succ, List.drop_succ_cons, List.drop_zero, List.take_succ_cons, List.take_zero, List.length_cons, List.length_nil, List.reverse_cons, List.reverse_nil, List.nil_append, List.cons_append, Option.toList_some, Option.toList_none, va_rf_s, true_and, and_true, true_implies, false_implies, not_true_eq_false, not_false_eq_true, Nat.reduceAdd, Nat.reduceLeDiff, Nat.le_add_left, Nat.zero_le, Nat.le_refl, znew, true_or, or_true, b01_t, b01_f, b01_ok, bool_ft, vp_b01, vp_b0, vp_b1, b01_eq0, b01_eq1, implies_true, nI_add, nI_clamp, zi_in, zi_le_t, zi_le_f, zi_lt_t, zi_lt_f, zi_eq_t, zi_eq_f, nI_leI, nI_ltI, nI_eq, z_in, pk_mul, zu_same, zu_rw, zu_ix, zi_ne0, zi_sub, zi_m1, Nat.add_sub_cancel, Nat.reduceMul, Nat.reduceSub]
  refine zC.of0 (zX10_isStreet hM hX.1 _) (by omega) (Nat.zero_le _) (Nat.zero_le _) ?_
  rintro _ _ ⟨rfl, rfl⟩
  refine sX10_step_5 _ _ _ _ _ ?_
  simp (disch := omega) only [oAld, oAld1, oCV, oGR, oIf, oIld, oPush, oRI, hM.1, hM.r53, hM.t53, hM.n53, hN, List.getElem?_cons_zero, List.getElem?_cons_succ, List.set_cons_zero, List.set_cons_succ, List.drop_succ_cons, List.drop_zero, List.take_succ_cons, List.take_zero, List.length_cons, List.length_nil, List.reverse_cons, List.reverse_nil, List.nil_append, List.cons_append, Option.toList_some, Option.toList_none, va_rf_s, true_and, and_true, true_implies, false_implies, not_true_eq_false, not_false_eq_true, Nat.reduceAdd, Nat.reduceLeDiff, Nat.le_add_left, Nat.zero_le, Nat.le_refl, znew, true_or, or_true, b01_t, b01_f, b01_ok, bool_ft, vp_b01, vp_b0, vp_b1, b01_eq0, b01_eq1, implies_true, nI_add, nI_clamp, zi_in, zi_le_t, zi_le_f, zi_lt_t, zi_lt_f, zi_eq_t, zi_eq_f, nI_leI, nI_ltI, nI_eq, z_in, pk_mul, zu_same, zu_rw, zu_ix, zi_ne0, zi_sub, zi_m1, Nat.add_sub_cancel, Nat.reduceMul, Nat.reduceSub]
  refine ⟨fun hok => hVQ _ _ (no (fun q => by rw [q.1] at hok; cases hok)), fun hok => ?_⟩
  have hok : okI s (tns t) = true := by simpa using hok
  obtain ⟨j, hj, rfl⟩ := (okI_iff (by omega)).mp hok
  refine zC.of0 (zX10_isEnd hM hX.1 hX.2.1 hj _) (by omega) (Nat.zero_le _) (Nat.zero_le _) ?_
  rintro _ _ ⟨e, rfl, he, rfl⟩
  refine sX10_step_20 _ _ _ _ _ ?_
  simp (disch := omega) only [oAld, oCV, oIf, oPush, oRI, hM.1, List.getElem?_cons_zero, List.getElem?_cons_succ, List.set_cons_zero, List.set_cons_succ, List.drop_succ_cons, List.drop_zero, List.take_succ_cons, List.take_zero, List.length_cons, List.length_nil, List.reverse_cons, List.reverse_nil, List.nil_append, List.cons_append, Option.toList_some, Option.toList_none, va_rf_s, true_and, and_true, true_implies, false_implies, not_true_eq_false, not_false_eq_true, Nat.reduceAdd, Nat.reduceLeDiff, Nat.le_add_left, Nat.zero_le, Nat.le_refl, znew, true_or, or_true, b01_t, b01_f, b01_ok, bool_ft, vp_b01, vp_b0, vp_b1, b01_eq0, b01_eq1, implies_true, nI_add, nI_clamp, zi_in, zi_le_t, zi_le_f, zi_lt_t, zi_lt_f, zi_eq_t, zi_eq_f, nI_leI, nI_ltI, nI_eq, z_in, pk_mul, zu_same, zu_rw, zu_ix, zi_ne0, zi_sub, zi_m1, Nat.add_sub_cancel, Nat.reduceMul, Nat.reduceSub]
  refine ⟨fun hc => hVQ _ _ (no (fun q => ?_)), fun hc => ?_⟩
  · have := q.2
    rw [nI_clamp (by omega)] at this
    rw [he.mpr this] at hc; cases hc
  have he' := he.mp (by simpa using hc)
  refine zC.of0 (zX10_copies hM hX.1 hZ) (by omega) (Nat.zero_le _) (Nat.zero_le _) ?_
  rintro _ _ ⟨rfl, S1, rfl, hf1, hr1, hl1, hs1⟩
  have hX1 := hX.fr hf1 rfl rfl
  have hr : S1 (b + 37) = T := hr1.trans hN
  refine sX10_step_29 _ _ _ _ _ ?_
  simp (disch := omega) only [oAld, oAld1, oCV, oGR, oIld, oPush, hM.1, hM.r54, hM.t54, hM.n54, hr, List.getElem?_cons_zero, List.getElem?_cons_succ, List.set_cons_zero, List.set_cons_succ, List.drop_succ_cons, List.drop_zero, List.take_succ_cons, List.take_zero, List.length_cons, List.length_nil, List.reverse_cons, List.reverse_nil, List.nil_append, List.cons_append, Option.toList_some, Option.toList_none, va_rf_s, true_and, and_true, true_implies, false_implies, not_true_eq_false, not_false_eq_true, Nat.reduceAdd, Nat.reduceLeDiff, Nat.le_add_left, Nat.zero_le, Nat.le_refl, znew, true_or, or_true, b01_t, b01_f, b01_ok, bool_ft, vp_b01, vp_b0, vp_b1, b01_eq0, b01_eq1, implies_true, nI_add, nI_clamp, zi_in, zi_le_t, zi_le_f, zi_lt_t, zi_lt_f, zi_eq_t, zi_eq_f, nI_leI, nI_ltI, nI_eq, z_in, pk_mul, zu_same, zu_rw, zu_ix, zi_ne0, zi_sub, zi_m1, Nat.add_sub_cancel, Nat.reduceMul, Nat.reduceSub]
  refine zC.of0 (zX10_otherEnd hM hX1.1 hX1.2.1 hj _) (by omega) (Nat.zero_le _) (Nat.zero_le _) ?_
  rintro _ _ ⟨rfl, rfl⟩
  refine sX10_step_47 _ _ _ _ _ ?_
  simp (disch := omega) only [oAld, oAst1, oCV, hM.1, hM.t54, hM.n54, List.getElem?_cons_zero, List.getElem?_cons_succ, List.set_cons_zero, List.set_cons_succ, List.drop_succ_cons, List.drop_zero, List.take_succ_cons, List.take_zero, List.length_cons, List.length_nil, List.reverse_cons, List.reverse_nil, List.nil_append, List.cons_append, Option.toList_some, Option.toList_none, va_rf_s, true_and, and_true, true_implies, false_implies, not_true_eq_false, not_false_eq_true, Nat.reduceAdd, Nat.reduceLeDiff, Nat.le_add_left, Nat.zero_le, Nat.le_refl, znew, true_or, or_true, b01_t, b01_f, b01_ok, bool_ft, vp_b01, vp_b0, vp_b1, b01_eq0, b01_eq1, implies_true, nI_add, nI_clamp, zi_in, zi_le_t, zi_le_f, zi_lt_t, zi_lt_f, zi_eq_t, zi_eq_f, nI_leI, nI_ltI, nI_eq, z_in, pk_mul, zu_same, zu_rw, zu_ix, zi_ne0, zi_sub, zi_m1, Nat.add_sub_cancel, Nat.reduceMul, Nat.reduceSub]
  have hf2 : zfr [37] [55, 56] b S (zu S1 (b + 37) 46 (nI (tone t j + toth t j) - T 46)) := hf1.row (by decide) (by decide)
  have hX2 := hX.fr hf2 rfl rfl
  refine zC.of0 (zX10_hourGoes hM hX2.1 hX2.2.2.1 hX2.2.2.2.1) (by omega) (Nat.zero_le _) (Nat.zero_le _) ?_
  rintro _ _ ⟨rfl, S3, rfl, hf3, hr3⟩
  have hf3' : zfr Dq Fq b S S3 := hf2.tr hf3 rfl rfl rfl rfl
  have hr3' : S3 (b + 37) = stepT t T j := by
    have : zu S1 (b + 37) 46 (nI (tone t j + toth t j) - T 46) (b + 37) = fun i => if i = 46 then nI (tone t j + toth t j) - T 46 else T i := by
      rw [zu_row, hr]
    rw [hr3, hX2.2.2.2.2.2.1, this, zu_rw _ _ (by omega), hl1, hs1, hX.2.2.2.2.2.2]; rfl
  have hR : ∀ i, 48 ≤ i → stepT t T j i = nI 0 := fun i hi => by
    unfold stepT hourT
    rw [hourF_hi hny6 hi, if_neg (by omega), ← hN]; exact hZ.1 i hi
  refine sX10_step_52 _ _ _ _ _ ?_
  simp (disch := omega) only [oAld, oCV, hM.1, List.getElem?_cons_zero, List.getElem?_cons_succ, List.set_cons_zero, List.set_cons_succ, List.drop_succ_cons, List.drop_zero, List.take_succ_cons, List.take_zero, List.length_cons, List.length_nil, List.reverse_cons, List.reverse_nil, List.nil_append, List.cons_append, Option.toList_some, Option.toList_none, va_rf_s, true_and, and_true, true_implies, false_implies, not_true_eq_false, not_false_eq_true, Nat.reduceAdd, Nat.reduceLeDiff, Nat.le_add_left, Nat.zero_le, Nat.le_refl, znew, true_or, or_true, b01_t, b01_f, b01_ok, bool_ft, vp_b01, vp_b0, vp_b1, b01_eq0, b01_eq1, implies_true, nI_add, nI_clamp, zi_in, zi_le_t, zi_le_f, zi_lt_t, zi_lt_f, zi_eq_t, zi_eq_f, nI_leI, nI_ltI, nI_eq, z_in, pk_mul, zu_same, zu_rw, zu_ix, zi_ne0, zi_sub, zi_m1, Nat.add_sub_cancel, Nat.reduceMul, Nat.reduceSub]
  refine zC.of0 (zX10_records hM (mZ.q hf3' hZ hR hr3') (hU0.fr hf3' rfl rfl)) (by omega) (Nat.zero_le _) (Nat.zero_le _) ?_
  rintro _ _ ⟨rfl, S4, rfl, hf4, h36, hu⟩
  refine sX10_step_56 _ _ _ _ _ ?_
  simp (disch := omega) only [oAld, oAld1, oGR, oPush, oRI, hM.1, hM.r53, hM.t53, hM.n53, List.getElem?_cons_zero, List.getElem?_cons_succ, List.set_cons_zero, List.set_cons_succ, List.drop_succ_cons, List.drop_zero, List.take_succ_cons, List.take_zero, List.length_cons, List.length_nil, List.reverse_cons, List.reverse_nil, List.nil_append, List.cons_append, Option.toList_some, Option.toList_none, va_rf_s, true_and, and_true, true_implies, false_implies, not_true_eq_false, not_false_eq_true, Nat.reduceAdd, Nat.reduceLeDiff, Nat.le_add_left, Nat.zero_le, Nat.le_refl, znew, true_or, or_true, b01_t, b01_f, b01_ok, bool_ft, vp_b01, vp_b0, vp_b1, b01_eq0, b01_eq1, implies_true, nI_add, nI_clamp, zi_in, zi_le_t, zi_le_f, zi_lt_t, zi_lt_f, zi_eq_t, zi_eq_f, nI_leI, nI_ltI, nI_eq, z_in, pk_mul, zu_same, zu_rw, zu_ix, zi_ne0, zi_sub, zi_m1, Nat.add_sub_cancel, Nat.reduceMul, Nat.reduceSub]
  have hD := mDo.rec hf3' hZ hR hr3' hf4 h36 hu hN
  refine hVQ _ _ ⟨S4, rfl, Or.inl ⟨⟨hok, by rw [nI_clamp (by omega)]; exact he'⟩, ?_, ?_⟩⟩
  · rw [nI_clamp (by omega)]; exact hD
  · rw [nI_clamp (by omega), hD.2.2.1]
theorem zX10_say (hM : isM h b) (hQ : mQ b S lv t T) (hU0 : hU b S U) (y w : Int32) :
    zM l E 4 YX10_say [.ref b, .int y, .int w] (z, h, S, L) 0 0 (fun r X => ∃ S', X = (z, h, S', L) ∧ ((sayOk t T y w ∧ mDo b S S' (sayT t T y.toNatClampNeg w.toNatClampNeg) (pushU T U) ∧ r = some (.int (sayT t T y.toNatClampNeg w.toNatClampNeg (6 + y.toNatClampNeg)))) ∨ (¬ sayOk t T y w ∧ mDo b S S' T U ∧ r = some (.int (-1))))) (fun _ _ => False) := by
  obtain ⟨hX, hZ, hN⟩ := id hQ
  have hnw5 : tnw t ≤ 5 := hX.1.2.2.2.2.2
  have hny6 : tny t ≤ 6 := hX.1.2.2.2.1.2
  refine zM.go rfl rfl (Nat.le_of_ble_eq_true rfl) (ls := [some (.ref b), some (.int y), some (.int w)]) rfl ?_
  intro V hVl hVE hVd hVc hVs hVQ hVX
  have no : ¬ sayOk t T y w → V.2.2.2.2.2.1 (some (.int (-1))) (z, h, S, L) := fun hn => hVQ _ _ ⟨S, rfl, Or.inr ⟨hn, mDo.of (mE.rf hZ) hN hU0, rfl⟩⟩
  refine sX10_say_0 _ _ _ _ _ ?_
  simp (disch := omega) only [oAld, oCV, oIld, hM.1, List.getElem?_cons_zero, List.getElem?_cons_succ, List.set_cons_zero, List.set_cons_succ, List.drop_succ_cons, List.drop_zero, List.take_succ_cons, List.take_zero, List.length_cons, List.length_nil, List.reverse_cons, List.reverse_nil, List.nil_append, List.cons_append, Option.toList_some, Option.toList_none, va_rf_s, true_and, and_true, true_implies, false_implies, not_true_eq_false, not_false_eq_true, Nat.reduceAdd, Nat.reduceLeDiff, Nat.le_add_left, Nat.zero_le, Nat.le_refl, znew, true_or, or_true, b01_t, b01_f, b01_ok, bool_ft, vp_b01, vp_b0, vp_b1, b01_eq0, b01_eq1, implies_true, nI_add, nI_clamp, zi_in, zi_le_t, zi_le_f, zi_lt_t, zi_lt_f, zi_eq_t, zi_eq_f, nI_leI, nI_ltI, nI_eq, z_in, pk_mul, zu_same, zu_rw, zu_ix, zi_ne0, zi_sub, zi_m1, Nat.add_sub_cancel, Nat.reduceMul, Nat.reduceSub]
  refine zC.of0 (zX10_isOut hM hX.1 _) (by omega) (Nat.zero_le _) (Nat.zero_le _) ?_
  rintro _ _ ⟨rfl, rfl⟩
  rw [hN]
  refine sX10_say_5 _ _ _ _ _ ?_
  simp (disch := omega) only [oAld, oCV, oIf, oIld, oPush, oRI, hM.1, List.getElem?_cons_zero, List.getElem?_cons_succ, List.set_cons_zero, List.set_cons_succ, List.drop_succ_cons, List.drop_zero, List.take_succ_cons, List.take_zero, List.length_cons, List.length_nil, List.reverse_cons, List.reverse_nil, List.nil_append, List.cons_append, Option.toList_some, Option.toList_none, va_rf_s, true_and, and_true, true_implies, false_implies, not_true_eq_false, not_false_eq_true, Nat.reduceAdd, Nat.reduceLeDiff, Nat.le_add_left, Nat.zero_le, Nat.le_refl, znew, true_or, or_true, b01_t, b01_f, b01_ok, bool_ft, vp_b01, vp_b0, vp_b1, b01_eq0, b01_eq1, implies_true, nI_add, nI_clamp, zi_in, zi_le_t, zi_le_f, zi_lt_t, zi_lt_f, zi_eq_t, zi_eq_f, nI_leI, nI_ltI, nI_eq, z_in, pk_mul, zu_same, zu_rw, zu_ix, zi_ne0, zi_sub, zi_m1, Nat.add_sub_cancel, Nat.reduceMul, Nat.reduceSub]
  refine ⟨fun hok => no (fun q => ?_), fun hok => ?_⟩
  · have := q.1; unfold outB at this; rw [this] at hok; cases hok
  have hok : outB t T y = true := by unfold outB; simpa using hok
  obtain ⟨j, hj, rfl, h12⟩ := (outB_iff hny6).mp hok
  refine zC.of0 (zX10_isWord hM hX.1 _) (by omega) (Nat.zero_le _) (Nat.zero_le _) ?_
  rintro _ _ ⟨rfl, rfl⟩
  refine sX10_say_13 _ _ _ _ _ ?_
  simp (disch := omega) only [oAld, oAld1, oCV, oGR, oIf, oIfc, oIld, oPush, oRI, hM.1, hM.r53, hM.t53, hM.n53, hN, List.getElem?_cons_zero, List.getElem?_cons_succ, List.set_cons_zero, List.set_cons_succ, List.drop_succ_cons, List.drop_zero, List.take_succ_cons, List.take_zero, List.length_cons, List.length_nil, List.reverse_cons, List.reverse_nil, List.nil_append, List.cons_append, Option.toList_some, Option.toList_none, va_rf_s, true_and, and_true, true_implies, false_implies, not_true_eq_false, not_false_eq_true, Nat.reduceAdd, Nat.reduceLeDiff, Nat.le_add_left, Nat.zero_le, Nat.le_refl, znew, true_or, or_true, b01_t, b01_f, b01_ok, bool_ft, vp_b01, vp_b0, vp_b1, b01_eq0, b01_eq1, implies_true, nI_add, nI_clamp, zi_in, zi_le_t, zi_le_f, zi_lt_t, zi_lt_f, zi_eq_t, zi_eq_f, nI_leI, nI_ltI, nI_eq, z_in, pk_mul, zu_same, zu_rw, zu_ix, zi_ne0, zi_sub, zi_m1, Nat.add_sub_cancel, Nat.reduceMul, Nat.reduceSub]
  refine ⟨fun hok2 => no (fun q => by rw [q.2.1] at hok2; cases hok2), fun hok2 => ?_⟩
  have hok2 : okI w (tnw t) = true := by simpa using hok2
  obtain ⟨i, hi, rfl⟩ := (okI_iff (by omega)).mp hok2
  refine ⟨fun hc => ?_, fun hc => no (fun q => hc (by have := q.2.2; rw [nI_clamp (by omega)] at this; exact this))⟩
  refine zC.of0 (zX10_copies hM hX.1 hZ) (by omega) (Nat.zero_le _) (Nat.zero_le _) ?_
  rintro _ _ ⟨rfl, S1, rfl, hf1, hr1, hl1, hs1⟩
  have hX1 := hX.fr hf1 rfl rfl
  have hr : S1 (b + 37) = T := hr1.trans hN
  refine sX10_say_38 _ _ _ _ _ ?_
  simp (disch := omega) only [oAld, oCV, oIld, hM.1, List.getElem?_cons_zero, List.getElem?_cons_succ, List.set_cons_zero, List.set_cons_succ, List.drop_succ_cons, List.drop_zero, List.take_succ_cons, List.take_zero, List.length_cons, List.length_nil, List.reverse_cons, List.reverse_nil, List.nil_append, List.cons_append, Option.toList_some, Option.toList_none, va_rf_s, true_and, and_true, true_implies, false_implies, not_true_eq_false, not_false_eq_true, Nat.reduceAdd, Nat.reduceLeDiff, Nat.le_add_left, Nat.zero_le, Nat.le_refl, znew, true_or, or_true, b01_t, b01_f, b01_ok, bool_ft, vp_b01, vp_b0, vp_b1, b01_eq0, b01_eq1, implies_true, nI_add, nI_clamp, zi_in, zi_le_t, zi_le_f, zi_lt_t, zi_lt_f, zi_eq_t, zi_eq_f, nI_leI, nI_ltI, nI_eq, z_in, pk_mul, zu_same, zu_rw, zu_ix, zi_ne0, zi_sub, zi_m1, Nat.add_sub_cancel, Nat.reduceMul, Nat.reduceSub]
  refine zC.of0 (zX10_says hM hX1.1 hX1.2.2.1 hX1.2.2.2.1 hj (show i < 5 by omega)) (by omega) (Nat.zero_le _) (Nat.zero_le _) ?_
  rintro _ _ ⟨rfl, S3, rfl, hf3, hr3⟩
  have hf3' : zfr Dq Fq b S S3 := hf1.tr hf3 rfl rfl rfl rfl
  rw [hr] at hr3
  have hR : ∀ k, 48 ≤ k → sayT t T j i k = nI 0 := fun k hk => by
    unfold sayT saysF
    rw [if_neg (by omega), if_neg (by omega), if_neg (by omega), if_neg (by omega), if_neg (by omega), ← hN]; exact hZ.1 k hk
  refine sX10_say_44 _ _ _ _ _ ?_
  simp (disch := omega) only [oAld, oCV, hM.1, List.getElem?_cons_zero, List.getElem?_cons_succ, List.set_cons_zero, List.set_cons_succ, List.drop_succ_cons, List.drop_zero, List.take_succ_cons, List.take_zero, List.length_cons, List.length_nil, List.reverse_cons, List.reverse_nil, List.nil_append, List.cons_append, Option.toList_some, Option.toList_none, va_rf_s, true_and, and_true, true_implies, false_implies, not_true_eq_false, not_false_eq_true, Nat.reduceAdd, Nat.reduceLeDiff, Nat.le_add_left, Nat.zero_le, Nat.le_refl, znew, true_or, or_true, b01_t, b01_f, b01_ok, bool_ft, vp_b01, vp_b0, vp_b1, b01_eq0, b01_eq1, implies_true, nI_add, nI_clamp, zi_in, zi_le_t, zi_le_f, zi_lt_t, zi_lt_f, zi_eq_t, zi_eq_f, nI_leI, nI_ltI, nI_eq, z_in, pk_mul, zu_same, zu_rw, zu_ix, zi_ne0, zi_sub, zi_m1, Nat.add_sub_cancel, Nat.reduceMul, Nat.reduceSub]
  refine zC.of0 (zX10_records hM (mZ.q hf3' hZ hR hr3) (hU0.fr hf3' rfl rfl)) (by omega) (Nat.zero_le _) (Nat.zero_le _) ?_
  rintro _ _ ⟨rfl, S4, rfl, hf4, h36, hu⟩
  refine sX10_say_48 _ _ _ _ _ ?_
  simp (disch := omega) only [oAld, oAld1, oBin, oGR, oIld, oPush, oRI, hM.1, hM.r53, hM.t53, hM.n53, List.getElem?_cons_zero, List.getElem?_cons_succ, List.set_cons_zero, List.set_cons_succ, List.drop_succ_cons, List.drop_zero, List.take_succ_cons, List.take_zero, List.length_cons, List.length_nil, List.reverse_cons, List.reverse_nil, List.nil_append, List.cons_append, Option.toList_some, Option.toList_none, va_rf_s, true_and, and_true, true_implies, false_implies, not_true_eq_false, not_false_eq_true, Nat.reduceAdd, Nat.reduceLeDiff, Nat.le_add_left, Nat.zero_le, Nat.le_refl, znew, true_or, or_true, b01_t, b01_f, b01_ok, bool_ft, vp_b01, vp_b0, vp_b1, b01_eq0, b01_eq1, implies_true, nI_add, nI_clamp, zi_in, zi_le_t, zi_le_f, zi_lt_t, zi_lt_f, zi_eq_t, zi_eq_f, nI_leI, nI_ltI, nI_eq, z_in, pk_mul, zu_same, zu_rw, zu_ix, zi_ne0, zi_sub, zi_m1, Nat.add_sub_cancel, Nat.reduceMul, Nat.reduceSub]
  have hD := mDo.rec hf3' hZ hR hr3 hf4 h36 hu hN
  refine hVQ _ _ ⟨S4, rfl, Or.inl ⟨⟨hok, hok2, by rw [nI_clamp (by omega)]; exact hc⟩, ?_, ?_⟩⟩
  · rw [nI_clamp (by omega), nI_clamp (by omega)]; exact hD
  · rw [nI_clamp (by omega), nI_clamp (by omega), hD.2.2.1]
theorem zX10_move (hM : isM h b) (hQ : mQ b S lv t T) (hU0 : hU b S U) (y c : Int32) :
    zM l E 3 YX10_move [.ref b, .int y, .int c] (z, h, S, L) 0 0 (fun r X => ∃ S', X = (z, h, S', L) ∧ ((moveOk t T y c ∧ mDo b S S' (moveT T y.toNatClampNeg c) (pushU T U) ∧ r = some (.int (nI 1))) ∨ (¬ moveOk t T y c ∧ mDo b S S' T U ∧ r = some (.int (nI 0))))) (fun _ _ => False) := by
  obtain ⟨hX, hZ, hN⟩ := id hQ
  have hnc7 : tnc t ≤ 7 := hX.1.2.1.2
  have hny6 : tny t ≤ 6 := hX.1.2.2.2.1.2
  refine zM.go rfl rfl (Nat.le_of_ble_eq_true rfl) (ls := [some (.ref b), some (.int y), some (.int c)]) rfl ?_
  intro V hVl hVE hVd hVc hVs hVQ hVX
  have no : ¬ moveOk t T y c → V.2.2.2.2.2.1 (some (.int (nI 0))) (z, h, S, L) := fun hn => hVQ _ _ ⟨S, rfl, Or.inr ⟨hn, mDo.of (mE.rf hZ) hN hU0, rfl⟩⟩
  refine sX10_move_0 _ _ _ _ _ ?_
  simp (disch := omega) only [oAld, oCV, oIld, hM.1, List.getElem?_cons_zero, List.getElem?_cons_succ, List.set_cons_zero, List.set_cons_succ, List.drop_succ_cons, List.drop_zero, List.take_succ_cons, List.take_zero, List.length_cons, List.length_nil, List.reverse_cons, List.reverse_nil, List.nil_append, List.cons_append, Option.toList_some, Option.toList_none, va_rf_s, true_and, and_true, true_implies, false_implies, not_true_eq_false, not_false_eq_true, Nat.reduceAdd, Nat.reduceLeDiff, Nat.le_add_left, Nat.zero_le, Nat.le_refl, znew, true_or, or_true, b01_t, b01_f, b01_ok, bool_ft, vp_b01, vp_b0, vp_b1, b01_eq0, b01_eq1, implies_true, nI_add, nI_clamp, zi_in, zi_le_t, zi_le_f, zi_lt_t, zi_lt_f, zi_eq_t, zi_eq_f, nI_leI, nI_ltI, nI_eq, z_in, pk_mul, zu_same, zu_rw, zu_ix, zi_ne0, zi_sub, zi_m1, Nat.add_sub_cancel, Nat.reduceMul, Nat.reduceSub]
  refine zC.of0 (zX10_isOut hM hX.1 _) (by omega) (Nat.zero_le _) (Nat.zero_le _) ?_
  rintro _ _ ⟨rfl, rfl⟩
  rw [hN]
  refine sX10_move_5 _ _ _ _ _ ?_
  simp (disch := omega) only [oAld, oCV, oIf, oIld, oPush, oRZ, hM.1, List.getElem?_cons_zero, List.getElem?_cons_succ, List.set_cons_zero, List.set_cons_succ, List.drop_succ_cons, List.drop_zero, List.take_succ_cons, List.take_zero, List.length_cons, List.length_nil, List.reverse_cons, List.reverse_nil, List.nil_append, List.cons_append, Option.toList_some, Option.toList_none, va_rf_s, true_and, and_true, true_implies, false_implies, not_true_eq_false, not_false_eq_true, Nat.reduceAdd, Nat.reduceLeDiff, Nat.le_add_left, Nat.zero_le, Nat.le_refl, znew, true_or, or_true, b01_t, b01_f, b01_ok, bool_ft, vp_b01, vp_b0, vp_b1, b01_eq0, b01_eq1, implies_true, nI_add, nI_clamp, zi_in, zi_le_t, zi_le_f, zi_lt_t, zi_lt_f, zi_eq_t, zi_eq_f, nI_leI, nI_ltI, nI_eq, z_in, pk_mul, zu_same, zu_rw, zu_ix, zi_ne0, zi_sub, zi_m1, Nat.add_sub_cancel, Nat.reduceMul, Nat.reduceSub]
  refine ⟨fun hok => no (fun q => ?_), fun hok => ?_⟩
  · have := q.1; unfold outB at this; rw [this] at hok; cases hok
  have hok : outB t T y = true := by unfold outB; simpa using hok
  obtain ⟨j, hj, rfl, h12⟩ := (outB_iff hny6).mp hok
  refine zC.of0 (zX10_isCorner hM hX.1 _) (by omega) (Nat.zero_le _) (Nat.zero_le _) ?_
  rintro _ _ ⟨rfl, rfl⟩
  refine sX10_move_13 _ _ _ _ _ ?_
  simp (disch := omega) only [oAld, oAld1, oCV, oGR, oIf, oIfc, oIld, oPush, oRZ, hM.1, hM.r53, hM.t53, hM.n53, hN, List.getElem?_cons_zero, List.getElem?_cons_succ, List.set_cons_zero, List.set_cons_succ, List.drop_succ_cons, List.drop_zero, List.take_succ_cons, List.take_zero, List.length_cons, List.length_nil, List.reverse_cons, List.reverse_nil, List.nil_append, List.cons_append, Option.toList_some, Option.toList_none, va_rf_s, true_and, and_true, true_implies, false_implies, not_true_eq_false, not_false_eq_true, Nat.reduceAdd, Nat.reduceLeDiff, Nat.le_add_left, Nat.zero_le, Nat.le_refl, znew, true_or, or_true, b01_t, b01_f, b01_ok, bool_ft, vp_b01, vp_b0, vp_b1, b01_eq0, b01_eq1, implies_true, nI_add, nI_clamp, zi_in, zi_le_t, zi_le_f, zi_lt_t, zi_lt_f, zi_eq_t, zi_eq_f, nI_leI, nI_ltI, nI_eq, z_in, pk_mul, zu_same, zu_rw, zu_ix, zi_ne0, zi_sub, zi_m1, Nat.add_sub_cancel, Nat.reduceMul, Nat.reduceSub]
  refine ⟨fun hok2 => no (fun q => by rw [q.2.1] at hok2; cases hok2), fun hok2 => ?_⟩
  have hok2 : okI c (tnc t) = true := by simpa using hok2
  refine ⟨fun hc => no (fun q => q.2.2 (by rw [nI_clamp (by omega)]; exact hc)), fun hc => ?_⟩
  refine zC.of0 (zX10_copies hM hX.1 hZ) (by omega) (Nat.zero_le _) (Nat.zero_le _) ?_
  rintro _ _ ⟨rfl, S1, rfl, hf1, hr1, hl1, hs1⟩
  have hr : S1 (b + 37) = T := hr1.trans hN
  refine sX10_move_32 _ _ _ _ _ ?_
  simp (disch := omega) only [oAld, oAst1, oCV, oGR, oIld, hM.1, hM.r54, hM.t54, hM.n54, List.getElem?_cons_zero, List.getElem?_cons_succ, List.set_cons_zero, List.set_cons_succ, List.drop_succ_cons, List.drop_zero, List.take_succ_cons, List.take_zero, List.length_cons, List.length_nil, List.reverse_cons, List.reverse_nil, List.nil_append, List.cons_append, Option.toList_some, Option.toList_none, va_rf_s, true_and, and_true, true_implies, false_implies, not_true_eq_false, not_false_eq_true, Nat.reduceAdd, Nat.reduceLeDiff, Nat.le_add_left, Nat.zero_le, Nat.le_refl, znew, true_or, or_true, b01_t, b01_f, b01_ok, bool_ft, vp_b01, vp_b0, vp_b1, b01_eq0, b01_eq1, implies_true, nI_add, nI_clamp, zi_in, zi_le_t, zi_le_f, zi_lt_t, zi_lt_f, zi_eq_t, zi_eq_f, nI_leI, nI_ltI, nI_eq, z_in, pk_mul, zu_same, zu_rw, zu_ix, zi_ne0, zi_sub, zi_m1, Nat.add_sub_cancel, Nat.reduceMul, Nat.reduceSub]
  have hf3' : zfr Dq Fq b S (zu S1 (b + 37) j c) := (hf1.row (by decide) (by decide)).tr zfr.rf rfl rfl (D' := []) (F' := []) rfl rfl
  have hr3 : zu S1 (b + 37) j c (b + 37) = moveT T j c := by rw [zu_row, hr]; rfl
  have hR : ∀ k, 48 ≤ k → moveT T j c k = nI 0 := fun k hk => by
    unfold moveT
    rw [if_neg (by omega), ← hN]; exact hZ.1 k hk
  refine zC.of0 (zX10_records hM (mZ.q hf3' hZ hR hr3) (hU0.fr hf3' rfl rfl)) (by omega) (Nat.zero_le _) (Nat.zero_le _) ?_
  rintro _ _ ⟨rfl, S4, rfl, hf4, h36, hu⟩
  refine sX10_move_43 _ _ _ _ _ ?_
  simp (disch := omega) only [oPush, oRZ, List.getElem?_cons_zero, List.getElem?_cons_succ, List.set_cons_zero, List.set_cons_succ, List.drop_succ_cons, List.drop_zero, List.take_succ_cons, List.take_zero, List.length_cons, List.length_nil, List.reverse_cons, List.reverse_nil, List.nil_append, List.cons_append, Option.toList_some, Option.toList_none, va_rf_s, true_and, and_true, true_implies, false_implies, not_true_eq_false, not_false_eq_true, Nat.reduceAdd, Nat.reduceLeDiff, Nat.le_add_left, Nat.zero_le, Nat.le_refl, znew, true_or, or_true, b01_t, b01_f, b01_ok, bool_ft, vp_b01, vp_b0, vp_b1, b01_eq0, b01_eq1, implies_true, nI_add, nI_clamp, zi_in, zi_le_t, zi_le_f, zi_lt_t, zi_lt_f, zi_eq_t, zi_eq_f, nI_leI, nI_ltI, nI_eq, z_in, pk_mul, zu_same, zu_rw, zu_ix, zi_ne0, zi_sub, zi_m1, Nat.add_sub_cancel, Nat.reduceMul, Nat.reduceSub]
  have hD := mDo.rec hf3' hZ hR hr3 hf4 h36 hu hN
  refine hVQ _ _ ⟨S4, rfl, Or.inl ⟨⟨hok, hok2, by rw [nI_clamp (by omega)]; exact hc⟩, ?_, rfl⟩⟩
  rw [nI_clamp (by omega)]; exact hD
theorem zX10_rouge (hM : isM h b) (hQ : mQ b S lv t T) (hU0 : hU b S U) (y : Int32) :
    zM l E 3 YX10_rouge [.ref b, .int y] (z, h, S, L) 0 0 (fun r X => ∃ S', X = (z, h, S', L) ∧ ((outB t T y = true ∧ mDo b S S' (rougeT T y.toNatClampNeg) (pushU T U) ∧ r = some (.int (nI 1))) ∨ (¬ outB t T y = true ∧ mDo b S S' T U ∧ r = some (.int (nI 0))))) (fun _ _ => False) := by
  obtain ⟨hX, hZ, hN⟩ := id hQ
  have hny6 : tny t ≤ 6 := hX.1.2.2.2.1.2
  refine zM.go rfl rfl (Nat.le_of_ble_eq_true rfl) (ls := [some (.ref b), some (.int y)]) rfl ?_
  intro V hVl hVE hVd hVc hVs hVQ hVX
  refine sX10_rouge_0 _ _ _ _ _ ?_
  simp (disch := omega) only [oAld, oCV, oIld, hM.1, List.getElem?_cons_zero, List.getElem?_cons_succ, List.set_cons_zero, List.set_cons_succ, List.drop_succ_cons, List.drop_zero, List.take_succ_cons, List.take_zero, List.length_cons, List.length_nil, List.reverse_cons, List.reverse_nil, List.nil_append, List.cons_append, Option.toList_some, Option.toList_none, va_rf_s, true_and, and_true, true_implies, false_implies, not_true_eq_false, not_false_eq_true, Nat.reduceAdd, Nat.reduceLeDiff, Nat.le_add_left, Nat.zero_le, Nat.le_refl, znew, true_or, or_true, b01_t, b01_f, b01_ok, bool_ft, vp_b01, vp_b0, vp_b1, b01_eq0, b01_eq1, implies_true, nI_add, nI_clamp, zi_in, zi_le_t, zi_le_f, zi_lt_t, zi_lt_f, zi_eq_t, zi_eq_f, nI_leI, nI_ltI, nI_eq, z_in, pk_mul, zu_same, zu_rw, zu_ix, zi_ne0, zi_sub, zi_m1, Nat.add_sub_cancel, Nat.reduceMul, Nat.reduceSub]
  refine zC.of0 (zX10_isOut hM hX.1 _) (by omega) (Nat.zero_le _) (Nat.zero_le _) ?_
  rintro _ _ ⟨rfl, rfl⟩
  rw [hN]
  refine sX10_rouge_5 _ _ _ _ _ ?_
  simp (disch := omega) only [oAld, oCV, oIf, oPush, oRZ, hM.1, List.getElem?_cons_zero, List.getElem?_cons_succ, List.set_cons_zero, List.set_cons_succ, List.drop_succ_cons, List.drop_zero, List.take_succ_cons, List.take_zero, List.length_cons, List.length_nil, List.reverse_cons, List.reverse_nil, List.nil_append, List.cons_append, Option.toList_some, Option.toList_none, va_rf_s, true_and, and_true, true_implies, false_implies, not_true_eq_false, not_false_eq_true, Nat.reduceAdd, Nat.reduceLeDiff, Nat.le_add_left, Nat.zero_le, Nat.le_refl, znew, true_or, or_true, b01_t, b01_f, b01_ok, bool_ft, vp_b01, vp_b0, vp_b1, b01_eq0, b01_eq1, implies_true, nI_add, nI_clamp, zi_in, zi_le_t, zi_le_f, zi_lt_t, zi_lt_f, zi_eq_t, zi_eq_f, nI_leI, nI_ltI, nI_eq, z_in, pk_mul, zu_same, zu_rw, zu_ix, zi_ne0, zi_sub, zi_m1, Nat.add_sub_cancel, Nat.reduceMul, Nat.reduceSub]
  refine ⟨fun hok => hVQ _ _ ⟨S, rfl, Or.inr ⟨?_, mDo.of (mE.rf hZ) hN hU0, rfl⟩⟩, fun hok => ?_⟩
  · unfold outB; rw [hok]; decide
  have hok : outB t T y = true := by unfold outB; simpa using hok
  obtain ⟨j, hj, rfl, h12⟩ := (outB_iff hny6).mp hok
  refine zC.of0 (zX10_copies hM hX.1 hZ) (by omega) (Nat.zero_le _) (Nat.zero_le _) ?_
  rintro _ _ ⟨rfl, S1, rfl, hf1, hr1, hl1, hs1⟩
  have hr : S1 (b + 37) = T := hr1.trans hN
  refine sX10_rouge_14 _ _ _ _ _ ?_
  simp (disch := omega) only [oAld, oAld1, oBin, oCS, oGR, oIld, oPush, hM.1, hM.r54, hM.t54, hM.n54, hr, List.getElem?_cons_zero, List.getElem?_cons_succ, List.set_cons_zero, List.set_cons_succ, List.drop_succ_cons, List.drop_zero, List.take_succ_cons, List.take_zero, List.length_cons, List.length_nil, List.reverse_cons, List.reverse_nil, List.nil_append, List.cons_append, Option.toList_some, Option.toList_none, va_rf_s, true_and, and_true, true_implies, false_implies, not_true_eq_false, not_false_eq_true, Nat.reduceAdd, Nat.reduceLeDiff, Nat.le_add_left, Nat.zero_le, Nat.le_refl, znew, true_or, or_true, b01_t, b01_f, b01_ok, bool_ft, vp_b01, vp_b0, vp_b1, b01_eq0, b01_eq1, implies_true, nI_add, nI_clamp, zi_in, zi_le_t, zi_le_f, zi_lt_t, zi_lt_f, zi_eq_t, zi_eq_f, nI_leI, nI_ltI, nI_eq, z_in, pk_mul, zu_same, zu_rw, zu_ix, zi_ne0, zi_sub, zi_m1, Nat.add_sub_cancel, Nat.reduceMul, Nat.reduceSub]
  refine zC.of0 (zX10_within _ _ _ _) (by omega) (Nat.zero_le _) (Nat.zero_le _) ?_
  rintro _ _ ⟨rfl, rfl⟩
  refine sX10_rouge_41 _ _ _ _ _ ?_
  simp (disch := omega) only [oAld, oAst1, oBin, oCV, oGR, oIld, oPush, hM.1, hM.r54, hM.t54, hM.n54, List.getElem?_cons_zero, List.getElem?_cons_succ, List.set_cons_zero, List.set_cons_succ, List.drop_succ_cons, List.drop_zero, List.take_succ_cons, List.take_zero, List.length_cons, List.length_nil, List.reverse_cons, List.reverse_nil, List.nil_append, List.cons_append, Option.toList_some, Option.toList_none, va_rf_s, true_and, and_true, true_implies, false_implies, not_true_eq_false, not_false_eq_true, Nat.reduceAdd, Nat.reduceLeDiff, Nat.le_add_left, Nat.zero_le, Nat.le_refl, znew, true_or, or_true, b01_t, b01_f, b01_ok, bool_ft, vp_b01, vp_b0, vp_b1, b01_eq0, b01_eq1, implies_true, nI_add, nI_clamp, zi_in, zi_le_t, zi_le_f, zi_lt_t, zi_lt_f, zi_eq_t, zi_eq_f, nI_leI, nI_ltI, nI_eq, z_in, pk_mul, zu_same, zu_rw, zu_ix, zi_ne0, zi_sub, zi_m1, Nat.add_sub_cancel, Nat.reduceMul, Nat.reduceSub]
  have hf3' : zfr Dq Fq b S (zu (zu S1 (b + 37) (6 + j) (withinF (T (6 + j) + nI 20) (nI 0) (nI 999))) (b + 37) (30 + j) (nI 1)) := ((hf1.row (by decide) (by decide)).row (by decide) (by decide)).tr zfr.rf rfl rfl (D' := []) (F' := []) rfl rfl
  have hr3 : zu (zu S1 (b + 37) (6 + j) (withinF (T (6 + j) + nI 20) (nI 0) (nI 999))) (b + 37) (30 + j) (nI 1) (b + 37) = rougeT T j := by rw [zu_row, zu_row, hr]; rfl
  have hR : ∀ k, 48 ≤ k → rougeT T j k = nI 0 := fun k hk => by
    unfold rougeT
    rw [if_neg (by omega), if_neg (by omega), ← hN]; exact hZ.1 k hk
  refine zC.of0 (zX10_records hM (mZ.q hf3' hZ hR hr3) (hU0.fr hf3' rfl rfl)) (by omega) (Nat.zero_le _) (Nat.zero_le _) ?_
  rintro _ _ ⟨rfl, S4, rfl, hf4, h36, hu⟩
  refine sX10_rouge_56 _ _ _ _ _ ?_
  simp (disch := omega) only [oPush, oRZ, List.getElem?_cons_zero, List.getElem?_cons_succ, List.set_cons_zero, List.set_cons_succ, List.drop_succ_cons, List.drop_zero, List.take_succ_cons, List.take_zero, List.length_cons, List.length_nil, List.reverse_cons, List.reverse_nil, List.nil_append, List.cons_append, Option.toList_some, Option.toList_none, va_rf_s, true_and, and_true, true_implies, false_implies, not_true_eq_false, not_false_eq_true, Nat.reduceAdd, Nat.reduceLeDiff, Nat.le_add_left, Nat.zero_le, Nat.le_refl, znew, true_or, or_true, b01_t, b01_f, b01_ok, bool_ft, vp_b01, vp_b0, vp_b1, b01_eq0, b01_eq1, implies_true, nI_add, nI_clamp, zi_in, zi_le_t, zi_le_f, zi_lt_t, zi_lt_f, zi_eq_t, zi_eq_f, nI_leI, nI_ltI, nI_eq, z_in, pk_mul, zu_same, zu_rw, zu_ix, zi_ne0, zi_sub, zi_m1, Nat.add_sub_cancel, Nat.reduceMul, Nat.reduceSub]
  have hD := mDo.rec hf3' hZ hR hr3 hf4 h36 hu hN
  refine hVQ _ _ ⟨S4, rfl, Or.inl ⟨hok, ?_, rfl⟩⟩
  rw [nI_clamp (by omega)]; exact hD
theorem zX10_hours (hM : isM h b) (hQ : mQ b S lv t T) (hU0 : hU b S U) (n : Int32) :
    zM l E 5 YX10_hours [.ref b, .int n] (z, h, S, L) 0 0 (fun r X => ∃ S', X = (z, h, S', L) ∧ ((okI n 73 = true ∧ n ≠ nI 0 ∧ mDo b S S' (hoursT t (nI 0) (tsd t) n.toNatClampNeg T) (pushU T U) ∧ r = some (.int (hoursT t (nI 0) (tsd t) n.toNatClampNeg T 47))) ∨ (n = nI 0 ∧ mDo b S S' T U ∧ r = some (.int (T 47))) ∨ (¬ okI n 73 = true ∧ mDo b S S' T U ∧ r = some (.int (-1))))) (fun _ _ => False) := by
  obtain ⟨hX, hZ, hN⟩ := id hQ
  have hny6 : tny t ≤ 6 := hX.1.2.2.2.1.2
  refine zM.go rfl rfl (Nat.le_of_ble_eq_true rfl) (ls := [some (.ref b), some (.int n)]) rfl ?_
  intro V hVl hVE hVd hVc hVs hVQ hVX
  refine sX10_hours_0 _ _ _ _ _ ?_
  simp (disch := omega) only [oCS, oIld, oPush, List.getElem?_cons_zero, List.getElem?_cons_succ, List.set_cons_zero, List.set_cons_succ, List.drop_succ_cons, List.drop_zero, List.take_succ_cons, List.take_zero, List.length_cons, List.length_nil, List.reverse_cons, List.reverse_nil, List.nil_append, List.cons_append, Option.toList_some, Option.toList_none, va_rf_s, true_and, and_true, true_implies, false_implies, not_true_eq_false, not_false_eq_true, Nat.reduceAdd, Nat.reduceLeDiff, Nat.le_add_left, Nat.zero_le, Nat.le_refl, znew, true_or, or_true, b01_t, b01_f, b01_ok, bool_ft, vp_b01, vp_b0, vp_b1, b01_eq0, b01_eq1, implies_true, nI_add, nI_clamp, zi_in, zi_le_t, zi_le_f, zi_lt_t, zi_lt_f, zi_eq_t, zi_eq_f, nI_leI, nI_ltI, nI_eq, z_in, pk_mul, zu_same, zu_rw, zu_ix, zi_ne0, zi_sub, zi_m1, Nat.add_sub_cancel, Nat.reduceMul, Nat.reduceSub]
  refine zC.of0 (zX10_in _ _ _ _) (by omega) (Nat.zero_le _) (Nat.zero_le _) ?_
  rintro _ _ ⟨rfl, rfl⟩
  rw [okI_dec2 (by omega)]
  cases hok : okI n (72 + 1) with
  | false =>
    refine sX10_hours_7 _ _ _ _ _ ?_
    simp (disch := omega) only [oAld, oAld1, oCV, oGR, oIf, oIld, oPush, oRI, hM.1, hM.r53, hM.t53, hM.n53, List.getElem?_cons_zero, List.getElem?_cons_succ, List.set_cons_zero, List.set_cons_succ, List.drop_succ_cons, List.drop_zero, List.take_succ_cons, List.take_zero, List.length_cons, List.length_nil, List.reverse_cons, List.reverse_nil, List.nil_append, List.cons_append, Option.toList_some, Option.toList_none, va_rf_s, true_and, and_true, true_implies, false_implies, not_true_eq_false, not_false_eq_true, Nat.reduceAdd, Nat.reduceLeDiff, Nat.le_add_left, Nat.zero_le, Nat.le_refl, znew, true_or, or_true, b01_t, b01_f, b01_ok, bool_ft, vp_b01, vp_b0, vp_b1, b01_eq0, b01_eq1, implies_true, nI_add, nI_clamp, zi_in, zi_le_t, zi_le_f, zi_lt_t, zi_lt_f, zi_eq_t, zi_eq_f, nI_leI, nI_ltI, nI_eq, z_in, pk_mul, zu_same, zu_rw, zu_ix, zi_ne0, zi_sub, zi_m1, Nat.add_sub_cancel, Nat.reduceMul, Nat.reduceSub]
    exact hVQ _ _ ⟨S, rfl, Or.inr (Or.inr ⟨by rw [hok]; decide, mDo.of (mE.rf hZ) hN hU0, rfl⟩)⟩
  | true =>
    obtain ⟨m, hm, rfl⟩ := (okI_iff (by omega)).mp hok
    refine sX10_hours_7 _ _ _ _ _ ?_
    simp (disch := omega) only [oAld, oAld1, oCV, oGR, oIf, oIld, oPush, oRI, hM.1, hM.r53, hM.t53, hM.n53, hN, List.getElem?_cons_zero, List.getElem?_cons_succ, List.set_cons_zero, List.set_cons_succ, List.drop_succ_cons, List.drop_zero, List.take_succ_cons, List.take_zero, List.length_cons, List.length_nil, List.reverse_cons, List.reverse_nil, List.nil_append, List.cons_append, Option.toList_some, Option.toList_none, va_rf_s, true_and, and_true, true_implies, false_implies, not_true_eq_false, not_false_eq_true, Nat.reduceAdd, Nat.reduceLeDiff, Nat.le_add_left, Nat.zero_le, Nat.le_refl, znew, true_or, or_true, b01_t, b01_f, b01_ok, bool_ft, vp_b01, vp_b0, vp_b1, b01_eq0, b01_eq1, implies_true, nI_add, nI_clamp, zi_in, zi_le_t, zi_le_f, zi_lt_t, zi_lt_f, zi_eq_t, zi_eq_f, nI_leI, nI_ltI, nI_eq, z_in, pk_mul, zu_same, zu_rw, zu_ix, zi_ne0, zi_sub, zi_m1, Nat.add_sub_cancel, Nat.reduceMul, Nat.reduceSub]
    refine ⟨fun h0 => hVQ _ _ ⟨S, rfl, Or.inr (Or.inl ⟨by rw [h0], mDo.of (mE.rf hZ) hN hU0, rfl⟩)⟩, fun h0 => ?_⟩
    refine zC.of0 (zX10_copies hM hX.1 hZ) (by omega) (Nat.zero_le _) (Nat.zero_le _) ?_
    rintro _ _ ⟨rfl, S1, rfl, hf1, hr1, hl1, hs1⟩
    have hX1 := hX.fr hf1 rfl rfl
    have hr : S1 (b + 37) = T := hr1.trans hN
    refine sX10_hours_28 _ _ _ _ _ ?_
    simp (disch := omega) only [oAld, oCV, oIld, hM.1, List.getElem?_cons_zero, List.getElem?_cons_succ, List.set_cons_zero, List.set_cons_succ, List.drop_succ_cons, List.drop_zero, List.take_succ_cons, List.take_zero, List.length_cons, List.length_nil, List.reverse_cons, List.reverse_nil, List.nil_append, List.cons_append, Option.toList_some, Option.toList_none, va_rf_s, true_and, and_true, true_implies, false_implies, not_true_eq_false, not_false_eq_true, Nat.reduceAdd, Nat.reduceLeDiff, Nat.le_add_left, Nat.zero_le, Nat.le_refl, znew, true_or, or_true, b01_t, b01_f, b01_ok, bool_ft, vp_b01, vp_b0, vp_b1, b01_eq0, b01_eq1, implies_true, nI_add, nI_clamp, zi_in, zi_le_t, zi_le_f, zi_lt_t, zi_lt_f, zi_eq_t, zi_eq_f, nI_leI, nI_ltI, nI_eq, z_in, pk_mul, zu_same, zu_rw, zu_ix, zi_ne0, zi_sub, zi_m1, Nat.add_sub_cancel, Nat.reduceMul, Nat.reduceSub]
    refine zC.of0 (zX10_goes hM hX1.1 hX1.2.2.1 hX1.2.2.2.1 (show m ≤ 1000 by omega)) (by omega) (Nat.zero_le _) (Nat.zero_le _) ?_
    rintro _ _ ⟨rfl, S3, rfl, hf3, hr3⟩
    have hf3' : zfr Dq Fq b S S3 := hf1.tr hf3 rfl rfl rfl rfl
    rw [hX1.2.2.2.2.2.1, hl1, hs1, hX.2.2.2.2.2.2, hr] at hr3
    have hR : ∀ k, 48 ≤ k → hoursT t (nI 0) (tsd t) m T k = nI 0 := fun k hk => by
      unfold hoursT
      rw [hoursF_hi hny6 hk, ← hN]; exact hZ.1 k hk
    refine sX10_hours_33 _ _ _ _ _ ?_
    simp (disch := omega) only [oAld, oCV, hM.1, List.getElem?_cons_zero, List.getElem?_cons_succ, List.set_cons_zero, List.set_cons_succ, List.drop_succ_cons, List.drop_zero, List.take_succ_cons, List.take_zero, List.length_cons, List.length_nil, List.reverse_cons, List.reverse_nil, List.nil_append, List.cons_append, Option.toList_some, Option.toList_none, va_rf_s, true_and, and_true, true_implies, false_implies, not_true_eq_false, not_false_eq_true, Nat.reduceAdd, Nat.reduceLeDiff, Nat.le_add_left, Nat.zero_le, Nat.le_refl, znew, true_or, or_true, b01_t, b01_f, b01_ok, bool_ft, vp_b01, vp_b0, vp_b1, b01_eq0, b01_eq1, implies_true, nI_add, nI_clamp, zi_in, zi_le_t, zi_le_f, zi_lt_t, zi_lt_f, zi_eq_t, zi_eq_f, nI_leI, nI_ltI, nI_eq, z_in, pk_mul, zu_same, zu_rw, zu_ix, zi_ne0, zi_sub, zi_m1, Nat.add_sub_cancel, Nat.reduceMul, Nat.reduceSub]
    refine zC.of0 (zX10_records hM (mZ.q hf3' hZ hR hr3) (hU0.fr hf3' rfl rfl)) (by omega) (Nat.zero_le _) (Nat.zero_le _) ?_
    rintro _ _ ⟨rfl, S4, rfl, hf4, h36, hu⟩
    refine sX10_hours_37 _ _ _ _ _ ?_
    simp (disch := omega) only [oAld, oAld1, oGR, oPush, oRI, hM.1, hM.r53, hM.t53, hM.n53, List.getElem?_cons_zero, List.getElem?_cons_succ, List.set_cons_zero, List.set_cons_succ, List.drop_succ_cons, List.drop_zero, List.take_succ_cons, List.take_zero, List.length_cons, List.length_nil, List.reverse_cons, List.reverse_nil, List.nil_append, List.cons_append, Option.toList_some, Option.toList_none, va_rf_s, true_and, and_true, true_implies, false_implies, not_true_eq_false, not_false_eq_true, Nat.reduceAdd, Nat.reduceLeDiff, Nat.le_add_left, Nat.zero_le, Nat.le_refl, znew, true_or, or_true, b01_t, b01_f, b01_ok, bool_ft, vp_b01, vp_b0, vp_b1, b01_eq0, b01_eq1, implies_true, nI_add, nI_clamp, zi_in, zi_le_t, zi_le_f, zi_lt_t, zi_lt_f, zi_eq_t, zi_eq_f, nI_leI, nI_ltI, nI_eq, z_in, pk_mul, zu_same, zu_rw, zu_ix, zi_ne0, zi_sub, zi_m1, Nat.add_sub_cancel, Nat.reduceMul, Nat.reduceSub]
    have hD := mDo.rec hf3' hZ hR hr3 hf4 h36 hu hN
    refine hVQ _ _ ⟨S4, rfl, Or.inl ⟨hok, fun q => h0 ((nI_eq (by omega) (by omega)).mp q), ?_, ?_⟩⟩
    · rw [nI_clamp (by omega)]; exact hD
    · rw [nI_clamp (by omega), hD.2.2.1]
end MI
