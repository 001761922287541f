/-! the model's methods, A: small ones -/
def lightF : Nat → (Nat → Int32) → Int32 → Int32
  | 0, _, _ => nI 0
  | n + 1, R, c => if R n = c then lightF n R c + R (6 + n) else lightF n R c
def bitsF : Nat → Int32 → Int32
  | 0, _ => nI 0
  | n + 1, s => bitsF n s + ((s >>> (nI n &&& 31)) &&& nI 1)
def withinF (v a c : Int32) : Int32 := if v < a then a else if c < v then c else v
def mT (b : Nat) (S : Nat → Nat → Int32) (lv nc ns ny nw : Nat) : Prop := (S b 18 = nI lv ∧ lv < 2) ∧ (S (b + 10) lv = nI nc ∧ nc ≤ 7) ∧ (S (b + 11) lv = nI ns ∧ ns ≤ 10) ∧ (S (b + 15) lv = nI ny ∧ ny ≤ 6) ∧ (S (b + 19) lv = nI nw ∧ nw ≤ 5)
theorem mT.fr {b lv nc ns ny nw : Nat} {S S' : Nat → Nat → Int32} {D F : List Nat} (h : mT b S lv nc ns ny nw) (hf : zfr D F b S S') (hD : D.all (fun x => !([10, 11, 15, 19, 0].contains x)) = true) (hF : F.all (fun x => !(x == 18)) = true) : mT b S' lv nc ns ny nw := by
  have key : ∀ o, o ∈ [10, 11, 15, 19] → S' (b + o) = S (b + o) := by
    intro o ho
    refine hf.1 (b + o) (by simp at ho; omega) (fun x hx => ?_)
    have h1 := List.all_eq_true.mp hD x hx
    simp at h1 ho
    omega
  unfold mT
  rw [hf.f hF, key 10 (by simp), key 11 (by simp), key 15 (by simp), key 19 (by simp)]
  exact h
theorem okI_dec {c : Int32} {n : Nat} (hn : n < 2 ^ 30) : decide (nI 0 ≤ c ∧ c ≤ nI n - nI 1) = okI c n := by
  have := okI_cond (c := c) hn
  cases h : okI c n with
  | false => rw [h] at this; exact decide_eq_false (fun q => absurd (this.mp q) (by decide))
  | true => rw [h] at this; exact decide_eq_true (this.mpr rfl)
/-- behind their ends the rows hold nought -/
def mZ (b : Nat) (S : Nat → Nat → Int32) : Prop := (∀ j, 48 ≤ j → S (b + 36) j = nI 0) ∧ ∀ j, 48 ≤ j → S (b + 37) j = nI 0
section MA
variable {l : Launch} {E : zE} {b z : Nat} {h : Nat → Option zSh} {S : Nat → Nat → Int32} {L : Nat → Nat → Int64}
theorem zX10_in (v a c : Int32) (X : zX) : zM l E 0 YX10_in [.int v, .int a, .int c] X 0 0 (fun r X' => r = some (.int (b01 (decide (a ≤ v ∧ v ≤ c)))) ∧ X' = X) (fun _ _ => False) := by
  refine zM.go rfl rfl (Nat.le_of_ble_eq_true rfl) (ls := [some (.int v), some (.int a), some (.int c)]) rfl ?_
  intro V hVl hVE hVd hVc hVs hVQ hVX
  refine sX10_in_0 _ _ _ _ _ ?_
  simp (disch := omega) only [oIfc, oIld, oNop, oPush, oRZ, List.getElem?_cons_zero, List.getElem?_cons_succ, List.set_cons_zero, List.set_cons_succ, List.drop_succ_cons, List.drop_zero, List.take_succ_cons, List.take_zero, List.length_cons, List.length_nil, List.reverse_cons, List.reverse_nil, List.nil_append, List.cons_append, Option.toList_some, Option.toList_none, va_rf_s, true_and, and_true, true_implies, false_implies, not_true_eq_false, not_false_eq_true, Nat.reduceAdd, Nat.reduceLeDiff, Nat.le_add_left, Nat.zero_le, Nat.le_refl, znew, true_or, or_true, b01_t, b01_f, b01_ok, bool_ft, b01_eq0, b01_eq1, implies_true, nI_add, nI_clamp, zi_in, zi_le_t, zi_le_f, zi_lt_t, zi_lt_f, zi_eq_t, zi_eq_f, nI_leI, nI_ltI, nI_eq, z_in, pk_mul, zu_same, zu_rw, zu_ix, zi_ne0, zi_sub, zi_m1, Nat.add_sub_cancel, Nat.reduceMul, Nat.reduceSub]
  refine ⟨fun h1 => hVQ _ _ ⟨?_, rfl⟩, fun h1 => ⟨fun h2 => hVQ _ _ ⟨?_, rfl⟩, fun h2 => hVQ _ _ ⟨?_, rfl⟩⟩⟩
  · rw [decide_eq_false (fun q => absurd q.1 (Int32.not_le.mpr h1))]; rfl
  · rw [decide_eq_false (fun q => absurd q.2 (Int32.not_le.mpr h2))]; rfl
  · rw [decide_eq_true ⟨Int32.not_lt.mp h1, Int32.not_lt.mp h2⟩]; rfl
theorem zX10_within (v a c : Int32) (X : zX) : zM l E 0 YX10_within [.int v, .int a, .int c] X 0 0 (fun r X' => r = some (.int (withinF v a c)) ∧ X' = X) (fun _ _ => False) := by
  refine zM.go rfl rfl (Nat.le_of_ble_eq_true rfl) (ls := [some (.int v), some (.int a), some (.int c)]) rfl ?_
  intro V hVl hVE hVd hVc hVs hVQ hVX
  refine sX10_within_0 _ _ _ _ _ ?_
  simp (disch := omega) only [oIfc, oIld, oNop, oRI, List.getElem?_cons_zero, List.getElem?_cons_succ, List.set_cons_zero, List.set_cons_succ, List.drop_succ_cons, List.drop_zero, List.take_succ_cons, List.take_zero, List.length_cons, List.length_nil, List.reverse_cons, List.reverse_nil, List.nil_append, List.cons_append, Option.toList_some, Option.toList_none, va_rf_s, true_and, and_true, true_implies, false_implies, not_true_eq_false, not_false_eq_true, Nat.reduceAdd, Nat.reduceLeDiff, Nat.le_add_left, Nat.zero_le, Nat.le_refl, znew, true_or, or_true, b01_t, b01_f, b01_ok, bool_ft, b01_eq0, b01_eq1, implies_true, nI_add, nI_clamp, zi_in, zi_le_t, zi_le_f, zi_lt_t, zi_lt_f, zi_eq_t, zi_eq_f, nI_leI, nI_ltI, nI_eq, z_in, pk_mul, zu_same, zu_rw, zu_ix, zi_ne0, zi_sub, zi_m1, Nat.add_sub_cancel, Nat.reduceMul, Nat.reduceSub]
  refine ⟨fun h1 => ⟨fun h2 => hVQ _ _ ⟨?_, rfl⟩, fun h2 => hVQ _ _ ⟨?_, rfl⟩⟩, fun h1 => hVQ _ _ ⟨?_, rfl⟩⟩
  · rw [withinF, if_neg (Int32.not_lt.mpr h1), if_neg (Int32.not_lt.mpr h2)]
  · rw [withinF, if_neg (Int32.not_lt.mpr h1), if_pos (Int32.not_le.mp h2)]
  · rw [withinF, if_pos (Int32.not_le.mp h1)]
theorem zX10_bits (s : Int32) (X : zX) : zM l E 0 YX10_bits [.int s] X 0 0 (fun r X' => r = some (.int (bitsF 10 s)) ∧ X' = X) (fun _ _ => False) := by
  refine zM.go rfl rfl (Nat.le_of_ble_eq_true rfl) (ls := [some (.int s), none, none]) rfl ?_
  intro V hVl hVE hVd hVc hVs hVQ hVX
  have loop : ∀ y, y ≤ 10 → zW V YX10_bits 4 [some (.int s), some (.int (bitsF y s)), some (.int (nI y))] [] X 0 0 := by
    refine z_down ?_ (fun y hy ih => ?_)
    · refine sX10_bits_4 _ _ _ _ _ ?_
      simp (disch := omega) only [oBin, oIfc, oIld, oInc, oIst, oNop, oPush, oRI, List.getElem?_cons_zero, List.getElem?_cons_succ, List.set_cons_zero, List.set_cons_succ, List.drop_succ_cons, List.drop_zero, List.take_succ_cons, List.take_zero, List.length_cons, List.length_nil, List.reverse_cons, List.reverse_nil, List.nil_append, List.cons_append, Option.toList_some, Option.toList_none, va_rf_s, true_and, and_true, true_implies, false_implies, not_true_eq_false, not_false_eq_true, Nat.reduceAdd, Nat.reduceLeDiff, Nat.le_add_left, Nat.zero_le, Nat.le_refl, znew, true_or, or_true, b01_t, b01_f, b01_ok, bool_ft, b01_eq0, b01_eq1, implies_true, nI_add, nI_clamp, zi_in, zi_le_t, zi_le_f, zi_lt_t, zi_lt_f, zi_eq_t, zi_eq_f, nI_leI, nI_ltI, nI_eq, z_in, pk_mul, zu_same, zu_rw, zu_ix, zi_ne0, zi_sub, zi_m1, Nat.add_sub_cancel, Nat.reduceMul, Nat.reduceSub]
      exact hVQ _ _ ⟨rfl, rfl⟩
    · refine sX10_bits_4 _ _ _ _ _ ?_
      simp (disch := omega) only [oBin, oIfc, oIld, oInc, oIst, oNop, oPush, oRI, List.getElem?_cons_zero, List.getElem?_cons_succ, List.set_cons_zero, List.set_cons_succ, List.drop_succ_cons, List.drop_zero, List.take_succ_cons, List.take_zero, List.length_cons, List.length_nil, List.reverse_cons, List.reverse_nil, List.nil_append, List.cons_append, Option.toList_some, Option.toList_none, va_rf_s, true_and, and_true, true_implies, false_implies, not_true_eq_false, not_false_eq_true, Nat.reduceAdd, Nat.reduceLeDiff, Nat.le_add_left, Nat.zero_le, Nat.le_refl, znew, true_or, or_true, b01_t, b01_f, b01_ok, bool_ft, b01_eq0, b01_eq1, implies_true, nI_add, nI_clamp, zi_in, zi_le_t, zi_le_f, zi_lt_t, zi_lt_f, zi_eq_t, zi_eq_f, nI_leI, nI_ltI, nI_eq, z_in, pk_mul, zu_same, zu_rw, zu_ix, zi_ne0, zi_sub, zi_m1, Nat.add_sub_cancel, Nat.reduceMul, Nat.reduceSub]
      exact ih
  refine sX10_bits_0 _ _ _ _ _ ?_
  simp (disch := omega) only [oIst, oPush, List.getElem?_cons_zero, List.getElem?_cons_succ, List.set_cons_zero, List.set_cons_succ, List.drop_succ_cons, List.drop_zero, List.take_succ_cons, List.take_zero, List.length_cons, List.length_nil, List.reverse_cons, List.reverse_nil, List.nil_append, List.cons_append, Option.toList_some, Option.toList_none, va_rf_s, true_and, and_true, true_implies, false_implies, not_true_eq_false, not_false_eq_true, Nat.reduceAdd, Nat.reduceLeDiff, Nat.le_add_left, Nat.zero_le, Nat.le_refl, znew, true_or, or_true, b01_t, b01_f, b01_ok, bool_ft, b01_eq0, b01_eq1, implies_true, nI_add, nI_clamp, zi_in, zi_le_t, zi_le_f, zi_lt_t, zi_lt_f, zi_eq_t, zi_eq_f, nI_leI, nI_ltI, nI_eq, z_in, pk_mul, zu_same, zu_rw, zu_ix, zi_ne0, zi_sub, zi_m1, Nat.add_sub_cancel, Nat.reduceMul, Nat.reduceSub]
  exact loop 0 (by omega)
theorem zX10_lightAt {lv nc ns ny nw : Nat} (hM : isM h b) (hT : mT b S lv nc ns ny nw) (c : Int32) :
    zM l E 0 YX10_lightAt [.ref b, .int c] (z, h, S, L) 0 0 (fun r X => r = some (.int (lightF ny (S (b + 37)) c)) ∧ X = (z, h, S, L)) (fun _ _ => False) := by
  obtain ⟨⟨hl, hlv⟩, ⟨hnc, hnc7⟩, ⟨hns, hns10⟩, ⟨hny, hny6⟩, ⟨hnw, hnw5⟩⟩ := hT
  refine zM.go rfl rfl (Nat.le_of_ble_eq_true rfl) (ls := [some (.ref b), some (.int c), none, none]) rfl ?_
  intro V hVl hVE hVd hVc hVs hVQ hVX
  have loop : ∀ y, y ≤ ny → zW V YX10_lightAt 4 [some (.ref b), some (.int c), some (.int (lightF y (S (b + 37)) c)), some (.int (nI y))] [] (z, h, S, L) 0 0 := by
    refine z_down ?_ (fun y hy ih => ?_)
    · refine sX10_lightAt_4 _ _ _ _ _ ?_
      simp (disch := omega) only [oAld, oAld1, oBin, oGI, oGR, oIfc, oIld, oInc, oIst, oNop, oPush, oRI, hM.1, hM.r28, hM.t28, hM.n28, hM.r54, hM.t54, hM.n54, hl, hny, List.getElem?_cons_zero, List.getElem?_cons_succ, List.set_cons_zero, List.set_cons_succ, List.drop_succ_cons, List.drop_zero, List.take_succ_cons, List.take_zero, List.length_cons, List.length_nil, List.reverse_cons, List.reverse_nil, List.nil_append, List.cons_append, Option.toList_some, Option.toList_none, va_rf_s, true_and, and_true, true_implies, false_implies, not_true_eq_false, not_false_eq_true, Nat.reduceAdd, Nat.reduceLeDiff, Nat.le_add_left, Nat.zero_le, Nat.le_refl, znew, true_or, or_true, b01_t, b01_f, b01_ok, bool_ft, b01_eq0, b01_eq1, implies_true, nI_add, nI_clamp, zi_in, zi_le_t, zi_le_f, zi_lt_t, zi_lt_f, zi_eq_t, zi_eq_f, nI_leI, nI_ltI, nI_eq, z_in, pk_mul, zu_same, zu_rw, zu_ix, zi_ne0, zi_sub, zi_m1, Nat.add_sub_cancel, Nat.reduceMul, Nat.reduceSub]
      exact hVQ _ _ ⟨rfl, rfl⟩
    · refine sX10_lightAt_4 _ _ _ _ _ ?_
      simp (disch := omega) only [oAld, oAld1, oBin, oGI, oGR, oIfc, oIld, oInc, oIst, oNop, oPush, oRI, hM.1, hM.r28, hM.t28, hM.n28, hM.r54, hM.t54, hM.n54, hl, hny, List.getElem?_cons_zero, List.getElem?_cons_succ, List.set_cons_zero, List.set_cons_succ, List.drop_succ_cons, List.drop_zero, List.take_succ_cons, List.take_zero, List.length_cons, List.length_nil, List.reverse_cons, List.reverse_nil, List.nil_append, List.cons_append, Option.toList_some, Option.toList_none, va_rf_s, true_and, and_true, true_implies, false_implies, not_true_eq_false, not_false_eq_true, Nat.reduceAdd, Nat.reduceLeDiff, Nat.le_add_left, Nat.zero_le, Nat.le_refl, znew, true_or, or_true, b01_t, b01_f, b01_ok, bool_ft, b01_eq0, b01_eq1, implies_true, nI_add, nI_clamp, zi_in, zi_le_t, zi_le_f, zi_lt_t, zi_lt_f, zi_eq_t, zi_eq_f, nI_leI, nI_ltI, nI_eq, z_in, pk_mul, zu_same, zu_rw, zu_ix, zi_ne0, zi_sub, zi_m1, Nat.add_sub_cancel, Nat.reduceMul, Nat.reduceSub]
      refine ⟨fun hc => ?_, fun hc => ?_⟩
      · rw [lightF, if_pos hc] at ih; exact ih
      · rw [lightF, if_neg hc] at ih; exact ih
  refine sX10_lightAt_0 _ _ _ _ _ ?_
  simp (disch := omega) only [oIst, oPush, List.getElem?_cons_zero, List.getElem?_cons_succ, List.set_cons_zero, List.set_cons_succ, List.drop_succ_cons, List.drop_zero, List.take_succ_cons, List.take_zero, List.length_cons, List.length_nil, List.reverse_cons, List.reverse_nil, List.nil_append, List.cons_append, Option.toList_some, Option.toList_none, va_rf_s, true_and, and_true, true_implies, false_implies, not_true_eq_false, not_false_eq_true, Nat.reduceAdd, Nat.reduceLeDiff, Nat.le_add_left, Nat.zero_le, Nat.le_refl, znew, true_or, or_true, b01_t, b01_f, b01_ok, bool_ft, b01_eq0, b01_eq1, implies_true, nI_add, nI_clamp, zi_in, zi_le_t, zi_le_f, zi_lt_t, zi_lt_f, zi_eq_t, zi_eq_f, nI_leI, nI_ltI, nI_eq, z_in, pk_mul, zu_same, zu_rw, zu_ix, zi_ne0, zi_sub, zi_m1, Nat.add_sub_cancel, Nat.reduceMul, Nat.reduceSub]
  exact loop 0 (by omega)
theorem zX10_isCorner {lv nc ns ny nw : Nat} (hM : isM h b) (hT : mT b S lv nc ns ny nw) (c : Int32) :
    zM l E 1 YX10_isCorner [.ref b, .int c] (z, h, S, L) 0 0 (fun r X => r = some (.int (b01 (okI c nc))) ∧ X = (z, h, S, L)) (fun _ _ => False) := by
  obtain ⟨⟨hl, hlv⟩, ⟨hnc, hnc7⟩, ⟨hns, hns10⟩, ⟨hny, hny6⟩, ⟨hnw, hnw5⟩⟩ := hT
  refine zM.go rfl rfl (Nat.le_of_ble_eq_true rfl) (ls := [some (.ref b), some (.int c)]) rfl ?_
  intro V hVl hVE hVd hVc hVs hVQ hVX
  refine sX10_isCorner_0 _ _ _ _ _ ?_
  simp (disch := omega) only [oAld, oAld1, oBin, oCS, oGI, oGR, oIld, oPush, hM.1, hM.r23, hM.t23, hM.n23, hl, hnc, List.getElem?_cons_zero, List.getElem?_cons_succ, List.set_cons_zero, List.set_cons_succ, List.drop_succ_cons, List.drop_zero, List.take_succ_cons, List.take_zero, List.length_cons, List.length_nil, List.reverse_cons, List.reverse_nil, List.nil_append, List.cons_append, Option.toList_some, Option.toList_none, va_rf_s, true_and, and_true, true_implies, false_implies, not_true_eq_false, not_false_eq_true, Nat.reduceAdd, Nat.reduceLeDiff, Nat.le_add_left, Nat.zero_le, Nat.le_refl, znew, true_or, or_true, b01_t, b01_f, b01_ok, bool_ft, b01_eq0, b01_eq1, implies_true, nI_add, nI_clamp, zi_in, zi_le_t, zi_le_f, zi_lt_t, zi_lt_f, zi_eq_t, zi_eq_f, nI_leI, nI_ltI, nI_eq, z_in, pk_mul, zu_same, zu_rw, zu_ix, zi_ne0, zi_sub, zi_m1, Nat.add_sub_cancel, Nat.reduceMul, Nat.reduceSub]
  refine zC.of0 (zX10_in _ _ _ _) (by omega) (Nat.zero_le _) (Nat.zero_le _) ?_
  rintro _ _ ⟨rfl, rfl⟩
  refine sX10_isCorner_16 _ _ _ _ _ ?_
  simp (disch := omega) only [oRZ, okI_dec, List.getElem?_cons_zero, List.getElem?_cons_succ, List.set_cons_zero, List.set_cons_succ, List.drop_succ_cons, List.drop_zero, List.take_succ_cons, List.take_zero, List.length_cons, List.length_nil, List.reverse_cons, List.reverse_nil, List.nil_append, List.cons_append, Option.toList_some, Option.toList_none, va_rf_s, true_and, and_true, true_implies, false_implies, not_true_eq_false, not_false_eq_true, Nat.reduceAdd, Nat.reduceLeDiff, Nat.le_add_left, Nat.zero_le, Nat.le_refl, znew, true_or, or_true, b01_t, b01_f, b01_ok, bool_ft, b01_eq0, b01_eq1, implies_true, nI_add, nI_clamp, zi_in, zi_le_t, zi_le_f, zi_lt_t, zi_lt_f, zi_eq_t, zi_eq_f, nI_leI, nI_ltI, nI_eq, z_in, pk_mul, zu_same, zu_rw, zu_ix, zi_ne0, zi_sub, zi_m1, Nat.add_sub_cancel, Nat.reduceMul, Nat.reduceSub]
  exact hVQ _ _ ⟨rfl, rfl⟩
theorem zX10_isStreet {lv nc ns ny nw : Nat} (hM : isM h b) (hT : mT b S lv nc ns ny nw) (c : Int32) :
    zM l E 1 YX10_isStreet [.ref b, .int c] (z, h, S, L) 0 0 (fun r X => r = some (.int (b01 (okI c ns))) ∧ X = (z, h, S, L)) (fun _ _ => False) := by
  obtain ⟨⟨hl, hlv⟩, ⟨hnc, hnc7⟩, ⟨hns, hns10⟩, ⟨hny, hny6⟩, ⟨hnw, hnw5⟩⟩ := hT
  refine zM.go rfl rfl (Nat.le_of_ble_eq_true rfl) (ls := [some (.ref b), some (.int c)]) rfl ?_
  intro V hVl hVE hVd hVc hVs hVQ hVX
  refine sX10_isStreet_0 _ _ _ _ _ ?_
  simp (disch := omega) only [oAld, oAld1, oBin, oCS, oGI, oGR, oIld, oPush, hM.1, hM.r24, hM.t24, hM.n24, hl, hns, List.getElem?_cons_zero, List.getElem?_cons_succ, List.set_cons_zero, List.set_cons_succ, List.drop_succ_cons, List.drop_zero, List.take_succ_cons, List.take_zero, List.length_cons, List.length_nil, List.reverse_cons, List.reverse_nil, List.nil_append, List.cons_append, Option.toList_some, Option.toList_none, va_rf_s, true_and, and_true, true_implies, false_implies, not_true_eq_false, not_false_eq_true, Nat.reduceAdd, Nat.reduceLeDiff, Nat.le_add_left, Nat.zero_le, Nat.le_refl, znew, true_or, or_true, b01_t, b01_f, b01_ok, bool_ft, b01_eq0, b01_eq1, implies_true, nI_add, nI_clamp, zi_in, zi_le_t, zi_le_f, zi_lt_t, zi_lt_f, zi_eq_t, zi_eq_f, nI_leI, nI_ltI, nI_eq, z_in, pk_mul, zu_same, zu_rw, zu_ix, zi_ne0, zi_sub, zi_m1, Nat.add_sub_cancel, Nat.reduceMul, Nat.reduceSub]
  refine zC.of0 (zX10_in _ _ _ _) (by omega) (Nat.zero_le _) (Nat.zero_le _) ?_
  rintro _ _ ⟨rfl, rfl⟩
  refine sX10_isStreet_16 _ _ _ _ _ ?_
  simp (disch := omega) only [oRZ, okI_dec, List.getElem?_cons_zero, List.getElem?_cons_succ, List.set_cons_zero, List.set_cons_succ, List.drop_succ_cons, List.drop_zero, List.take_succ_cons, List.take_zero, List.length_cons, List.length_nil, List.reverse_cons, List.reverse_nil, List.nil_append, List.cons_append, Option.toList_some, Option.toList_none, va_rf_s, true_and, and_true, true_implies, false_implies, not_true_eq_false, not_false_eq_true, Nat.reduceAdd, Nat.reduceLeDiff, Nat.le_add_left, Nat.zero_le, Nat.le_refl, znew, true_or, or_true, b01_t, b01_f, b01_ok, bool_ft, b01_eq0, b01_eq1, implies_true, nI_add, nI_clamp, zi_in, zi_le_t, zi_le_f, zi_lt_t, zi_lt_f, zi_eq_t, zi_eq_f, nI_leI, nI_ltI, nI_eq, z_in, pk_mul, zu_same, zu_rw, zu_ix, zi_ne0, zi_sub, zi_m1, Nat.add_sub_cancel, Nat.reduceMul, Nat.reduceSub]
  exact hVQ _ _ ⟨rfl, rfl⟩
theorem zX10_isYoung {lv nc ns ny nw : Nat} (hM : isM h b) (hT : mT b S lv nc ns ny nw) (c : Int32) :
    zM l E 1 YX10_isYoung [.ref b, .int c] (z, h, S, L) 0 0 (fun r X => r = some (.int (b01 (okI c ny))) ∧ X = (z, h, S, L)) (fun _ _ => False) := by
  obtain ⟨⟨hl, hlv⟩, ⟨hnc, hnc7⟩, ⟨hns, hns10⟩, ⟨hny, hny6⟩, ⟨hnw, hnw5⟩⟩ := hT
  refine zM.go rfl rfl (Nat.le_of_ble_eq_true rfl) (ls := [some (.ref b), some (.int c)]) rfl ?_
  intro V hVl hVE hVd hVc hVs hVQ hVX
  refine sX10_isYoung_0 _ _ _ _ _ ?_
  simp (disch := omega) only [oAld, oAld1, oBin, oCS, oGI, oGR, oIld, oPush, hM.1, hM.r28, hM.t28, hM.n28, hl, hny, List.getElem?_cons_zero, List.getElem?_cons_succ, List.set_cons_zero, List.set_cons_succ, List.drop_succ_cons, List.drop_zero, List.take_succ_cons, List.take_zero, List.length_cons, List.length_nil, List.reverse_cons, List.reverse_nil, List.nil_append, List.cons_append, Option.toList_some, Option.toList_none, va_rf_s, true_and, and_true, true_implies, false_implies, not_true_eq_false, not_false_eq_true, Nat.reduceAdd, Nat.reduceLeDiff, Nat.le_add_left, Nat.zero_le, Nat.le_refl, znew, true_or, or_true, b01_t, b01_f, b01_ok, bool_ft, b01_eq0, b01_eq1, implies_true, nI_add, nI_clamp, zi_in, zi_le_t, zi_le_f, zi_lt_t, zi_lt_f, zi_eq_t, zi_eq_f, nI_leI, nI_ltI, nI_eq, z_in, pk_mul, zu_same, zu_rw, zu_ix, zi_ne0, zi_sub, zi_m1, Nat.add_sub_cancel, Nat.reduceMul, Nat.reduceSub]
  refine zC.of0 (zX10_in _ _ _ _) (by omega) (Nat.zero_le _) (Nat.zero_le _) ?_
  rintro _ _ ⟨rfl, rfl⟩
  refine sX10_isYoung_16 _ _ _ _ _ ?_
  simp (disch := omega) only [oRZ, okI_dec, List.getElem?_cons_zero, List.getElem?_cons_succ, List.set_cons_zero, List.set_cons_succ, List.drop_succ_cons, List.drop_zero, List.take_succ_cons, List.take_zero, List.length_cons, List.length_nil, List.reverse_cons, List.reverse_nil, List.nil_append, List.cons_append, Option.toList_some, Option.toList_none, va_rf_s, true_and, and_true, true_implies, false_implies, not_true_eq_false, not_false_eq_true, Nat.reduceAdd, Nat.reduceLeDiff, Nat.le_add_left, Nat.zero_le, Nat.le_refl, znew, true_or, or_true, b01_t, b01_f, b01_ok, bool_ft, b01_eq0, b01_eq1, implies_true, nI_add, nI_clamp, zi_in, zi_le_t, zi_le_f, zi_lt_t, zi_lt_f, zi_eq_t, zi_eq_f, nI_leI, nI_ltI, nI_eq, z_in, pk_mul, zu_same, zu_rw, zu_ix, zi_ne0, zi_sub, zi_m1, Nat.add_sub_cancel, Nat.reduceMul, Nat.reduceSub]
  exact hVQ _ _ ⟨rfl, rfl⟩
theorem zX10_isWord {lv nc ns ny nw : Nat} (hM : isM h b) (hT : mT b S lv nc ns ny nw) (c : Int32) :
    zM l E 1 YX10_isWord [.ref b, .int c] (z, h, S, L) 0 0 (fun r X => r = some (.int (b01 (okI c nw))) ∧ X = (z, h, S, L)) (fun _ _ => False) := by
  obtain ⟨⟨hl, hlv⟩, ⟨hnc, hnc7⟩, ⟨hns, hns10⟩, ⟨hny, hny6⟩, ⟨hnw, hnw5⟩⟩ := hT
  refine zM.go rfl rfl (Nat.le_of_ble_eq_true rfl) (ls := [some (.ref b), some (.int c)]) rfl ?_
  intro V hVl hVE hVd hVc hVs hVQ hVX
  refine sX10_isWord_0 _ _ _ _ _ ?_
  simp (disch := omega) only [oAld, oAld1, oBin, oCS, oGI, oGR, oIld, oPush, hM.1, hM.r32, hM.t32, hM.n32, hl, hnw, List.getElem?_cons_zero, List.getElem?_cons_succ, List.set_cons_zero, List.set_cons_succ, List.drop_succ_cons, List.drop_zero, List.take_succ_cons, List.take_zero, List.length_cons, List.length_nil, List.reverse_cons, List.reverse_nil, List.nil_append, List.cons_append, Option.toList_some, Option.toList_none, va_rf_s, true_and, and_true, true_implies, false_implies, not_true_eq_false, not_false_eq_true, Nat.reduceAdd, Nat.reduceLeDiff, Nat.le_add_left, Nat.zero_le, Nat.le_refl, znew, true_or, or_true, b01_t, b01_f, b01_ok, bool_ft, b01_eq0, b01_eq1, implies_true, nI_add, nI_clamp, zi_in, zi_le_t, zi_le_f, zi_lt_t, zi_lt_f, zi_eq_t, zi_eq_f, nI_leI, nI_ltI, nI_eq, z_in, pk_mul, zu_same, zu_rw, zu_ix, zi_ne0, zi_sub, zi_m1, Nat.add_sub_cancel, Nat.reduceMul, Nat.reduceSub]
  refine zC.of0 (zX10_in _ _ _ _) (by omega) (Nat.zero_le _) (Nat.zero_le _) ?_
  rintro _ _ ⟨rfl, rfl⟩
  refine sX10_isWord_16 _ _ _ _ _ ?_
  simp (disch := omega) only [oRZ, okI_dec, List.getElem?_cons_zero, List.getElem?_cons_succ, List.set_cons_zero, List.set_cons_succ, List.drop_succ_cons, List.drop_zero, List.take_succ_cons, List.take_zero, List.length_cons, List.length_nil, List.reverse_cons, List.reverse_nil, List.nil_append, List.cons_append, Option.toList_some, Option.toList_none, va_rf_s, true_and, and_true, true_implies, false_implies, not_true_eq_false, not_false_eq_true, Nat.reduceAdd, Nat.reduceLeDiff, Nat.le_add_left, Nat.zero_le, Nat.le_refl, znew, true_or, or_true, b01_t, b01_f, b01_ok, bool_ft, b01_eq0, b01_eq1, implies_true, nI_add, nI_clamp, zi_in, zi_le_t, zi_le_f, zi_lt_t, zi_lt_f, zi_eq_t, zi_eq_f, nI_leI, nI_ltI, nI_eq, z_in, pk_mul, zu_same, zu_rw, zu_ix, zi_ne0, zi_sub, zi_m1, Nat.add_sub_cancel, Nat.reduceMul, Nat.reduceSub]
  exact hVQ _ _ ⟨rfl, rfl⟩
theorem zX10_isOut {lv nc ns ny nw : Nat} (hM : isM h b) (hT : mT b S lv nc ns ny nw) (c : Int32) :
    zM l E 2 YX10_isOut [.ref b, .int c] (z, h, S, L) 0 0 (fun r X => r = some (.int (b01 (okI c ny && decide (S (b + 36) (12 + c.toNatClampNeg) = nI 0)))) ∧ X = (z, h, S, L)) (fun _ _ => False) := by
  have hny6 : ny ≤ 6 := hT.2.2.2.1.2
  refine zM.go rfl rfl (Nat.le_of_ble_eq_true rfl) (ls := [some (.ref b), some (.int c)]) rfl ?_
  intro V hVl hVE hVd hVc hVs hVQ hVX
  refine sX10_isOut_0 _ _ _ _ _ ?_
  simp (disch := omega) only [oAld, oCV, oIld, hM.1, List.getElem?_cons_zero, List.getElem?_cons_succ, List.set_cons_zero, List.set_cons_succ, List.drop_succ_cons, List.drop_zero, List.take_succ_cons, List.take_zero, List.length_cons, List.length_nil, List.reverse_cons, List.reverse_nil, List.nil_append, List.cons_append, Option.toList_some, Option.toList_none, va_rf_s, true_and, and_true, true_implies, false_implies, not_true_eq_false, not_false_eq_true, Nat.reduceAdd, Nat.reduceLeDiff, Nat.le_add_left, Nat.zero_le, Nat.le_refl, znew, true_or, or_true, b01_t, b01_f, b01_ok, bool_ft, b01_eq0, b01_eq1, implies_true, nI_add, nI_clamp, zi_in, zi_le_t, zi_le_f, zi_lt_t, zi_lt_f, zi_eq_t, zi_eq_f, nI_leI, nI_ltI, nI_eq, z_in, pk_mul, zu_same, zu_rw, zu_ix, zi_ne0, zi_sub, zi_m1, Nat.add_sub_cancel, Nat.reduceMul, Nat.reduceSub]
  refine zC.of0 (zX10_isYoung hM hT _) (by omega) (Nat.zero_le _) (Nat.zero_le _) ?_
  rintro _ _ ⟨rfl, rfl⟩
  cases hok : okI c ny with
  | false =>
    refine sX10_isOut_5 _ _ _ _ _ ?_
    simp (disch := omega) only [oAld, oAld1, oBin, oGR, oIf, oIld, oNop, oPush, oRZ, hM.1, hM.r53, hM.t53, hM.n53, List.getElem?_cons_zero, List.getElem?_cons_succ, List.set_cons_zero, List.set_cons_succ, List.drop_succ_cons, List.drop_zero, List.take_succ_cons, List.take_zero, List.length_cons, List.length_nil, List.reverse_cons, List.reverse_nil, List.nil_append, List.cons_append, Option.toList_some, Option.toList_none, va_rf_s, true_and, and_true, true_implies, false_implies, not_true_eq_false, not_false_eq_true, Nat.reduceAdd, Nat.reduceLeDiff, Nat.le_add_left, Nat.zero_le, Nat.le_refl, znew, true_or, or_true, b01_t, b01_f, b01_ok, bool_ft, b01_eq0, b01_eq1, implies_true, nI_add, nI_clamp, zi_in, zi_le_t, zi_le_f, zi_lt_t, zi_lt_f, zi_eq_t, zi_eq_f, nI_leI, nI_ltI, nI_eq, z_in, pk_mul, zu_same, zu_rw, zu_ix, zi_ne0, zi_sub, zi_m1, Nat.add_sub_cancel, Nat.reduceMul, Nat.reduceSub]
    exact hVQ _ _ ⟨by rw [hok]; rfl, rfl⟩
  | true =>
    obtain ⟨j, hj, rfl⟩ := (okI_iff (by omega)).mp hok
    refine sX10_isOut_5 _ _ _ _ _ ?_
    simp (disch := omega) only [oAld, oAld1, oBin, oGR, oIf, oIld, oNop, oPush, oRZ, hM.1, hM.r53, hM.t53, hM.n53, List.getElem?_cons_zero, List.getElem?_cons_succ, List.set_cons_zero, List.set_cons_succ, List.drop_succ_cons, List.drop_zero, List.take_succ_cons, List.take_zero, List.length_cons, List.length_nil, List.reverse_cons, List.reverse_nil, List.nil_append, List.cons_append, Option.toList_some, Option.toList_none, va_rf_s, true_and, and_true, true_implies, false_implies, not_true_eq_false, not_false_eq_true, Nat.reduceAdd, Nat.reduceLeDiff, Nat.le_add_left, Nat.zero_le, Nat.le_refl, znew, true_or, or_true, b01_t, b01_f, b01_ok, bool_ft, b01_eq0, b01_eq1, implies_true, nI_add, nI_clamp, zi_in, zi_le_t, zi_le_f, zi_lt_t, zi_lt_f, zi_eq_t, zi_eq_f, nI_leI, nI_ltI, nI_eq, z_in, pk_mul, zu_same, zu_rw, zu_ix, zi_ne0, zi_sub, zi_m1, Nat.add_sub_cancel, Nat.reduceMul, Nat.reduceSub]
    refine ⟨fun hc => hVQ _ _ ⟨?_, rfl⟩, fun hc => hVQ _ _ ⟨?_, rfl⟩⟩
    · simp (disch := omega) only [List.getElem?_cons_zero, List.getElem?_cons_succ, List.set_cons_zero, List.set_cons_succ, List.drop_succ_cons, List.drop_zero, List.take_succ_cons, List.take_zero, List.length_cons, List.length_nil, List.reverse_cons, List.reverse_nil, List.nil_append, List.cons_append, Option.toList_some, Option.toList_none, va_rf_s, true_and, and_true, true_implies, false_implies, not_true_eq_false, not_false_eq_true, Nat.reduceAdd, Nat.reduceLeDiff, Nat.le_add_left, Nat.zero_le, Nat.le_refl, znew, true_or, or_true, b01_t, b01_f, b01_ok, bool_ft, b01_eq0, b01_eq1, implies_true, nI_add, nI_clamp, zi_in, zi_le_t, zi_le_f, zi_lt_t, zi_lt_f, zi_eq_t, zi_eq_f, nI_leI, nI_ltI, nI_eq, z_in, pk_mul, zu_same, zu_rw, zu_ix, zi_ne0, zi_sub, zi_m1, Nat.add_sub_cancel, Nat.reduceMul, Nat.reduceSub, hok, hc, Bool.true_and, decide_true]
    · simp (disch := omega) only [List.getElem?_cons_zero, List.getElem?_cons_succ, List.set_cons_zero, List.set_cons_succ, List.drop_succ_cons, List.drop_zero, List.take_succ_cons, List.take_zero, List.length_cons, List.length_nil, List.reverse_cons, List.reverse_nil, List.nil_append, List.cons_append, Option.toList_some, Option.toList_none, va_rf_s, true_and, and_true, true_implies, false_implies, not_true_eq_false, not_false_eq_true, Nat.reduceAdd, Nat.reduceLeDiff, Nat.le_add_left, Nat.zero_le, Nat.le_refl, znew, true_or, or_true, b01_t, b01_f, b01_ok, bool_ft, b01_eq0, b01_eq1, implies_true, nI_add, nI_clamp, zi_in, zi_le_t, zi_le_f, zi_lt_t, zi_lt_f, zi_eq_t, zi_eq_f, nI_leI, nI_ltI, nI_eq, z_in, pk_mul, zu_same, zu_rw, zu_ix, zi_ne0, zi_sub, zi_m1, Nat.add_sub_cancel, Nat.reduceMul, Nat.reduceSub, hok, hc, Bool.true_and, decide_false]
theorem zX10_keepsRow (hM : isM h b) (hZ : mZ b S) :
    zM l E 0 YX10_keepsRow [.ref b] (z, h, S, L) 0 0 (fun r X => r = none ∧ ∃ S', X = (z, h, S', L) ∧ zfr [36] [] b S S' ∧ S' (b + 36) = S (b + 37)) (fun _ _ => False) := by
  refine zM.go rfl rfl (Nat.le_of_ble_eq_true rfl) (ls := [some (.ref b), none]) rfl ?_
  intro V hVl hVE hVd hVc hVs hVQ hVX
  have loop : ∀ y, y ≤ 48 → ∀ S', zfr [36] [] b S S' → (∀ j, j < y ∨ 48 ≤ j → S' (b + 36) j = S (b + 37) j) → zW V YX10_keepsRow 2 [some (.ref b), some (.int (nI y))] [] (z, h, S', L) 0 0 := by
    refine z_down ?_ (fun y hy ih => ?_)
    · intro S' hf hj
      refine sX10_keepsRow_2 _ _ _ _ _ ?_
      simp (disch := omega) only [oAld, oAld1, oAst1, oGR, oIfc, oIld, oInc, oNop, oPush, oRV, hM.1, hM.r53, hM.t53, hM.n53, hM.r54, hM.t54, hM.n54, List.getElem?_cons_zero, List.getElem?_cons_succ, List.set_cons_zero, List.set_cons_succ, List.drop_succ_cons, List.drop_zero, List.take_succ_cons, List.take_zero, List.length_cons, List.length_nil, List.reverse_cons, List.reverse_nil, List.nil_append, List.cons_append, Option.toList_some, Option.toList_none, va_rf_s, true_and, and_true, true_implies, false_implies, not_true_eq_false, not_false_eq_true, Nat.reduceAdd, Nat.reduceLeDiff, Nat.le_add_left, Nat.zero_le, Nat.le_refl, znew, true_or, or_true, b01_t, b01_f, b01_ok, bool_ft, b01_eq0, b01_eq1, implies_true, nI_add, nI_clamp, zi_in, zi_le_t, zi_le_f, zi_lt_t, zi_lt_f, zi_eq_t, zi_eq_f, nI_leI, nI_ltI, nI_eq, z_in, pk_mul, zu_same, zu_rw, zu_ix, zi_ne0, zi_sub, zi_m1, Nat.add_sub_cancel, Nat.reduceMul, Nat.reduceSub]
      exact hVQ _ _ ⟨rfl, S', rfl, hf, funext fun j => hj j (Nat.lt_or_ge j 48)⟩
    · intro S' hf hj
      refine sX10_keepsRow_2 _ _ _ _ _ ?_
      simp (disch := omega) only [oAld, oAld1, oAst1, oGR, oIfc, oIld, oInc, oNop, oPush, oRV, hM.1, hM.r53, hM.t53, hM.n53, hM.r54, hM.t54, hM.n54, hf.at (o := 37) rfl rfl, List.getElem?_cons_zero, List.getElem?_cons_succ, List.set_cons_zero, List.set_cons_succ, List.drop_succ_cons, List.drop_zero, List.take_succ_cons, List.take_zero, List.length_cons, List.length_nil, List.reverse_cons, List.reverse_nil, List.nil_append, List.cons_append, Option.toList_some, Option.toList_none, va_rf_s, true_and, and_true, true_implies, false_implies, not_true_eq_false, not_false_eq_true, Nat.reduceAdd, Nat.reduceLeDiff, Nat.le_add_left, Nat.zero_le, Nat.le_refl, znew, true_or, or_true, b01_t, b01_f, b01_ok, bool_ft, b01_eq0, b01_eq1, implies_true, nI_add, nI_clamp, zi_in, zi_le_t, zi_le_f, zi_lt_t, zi_lt_f, zi_eq_t, zi_eq_f, nI_leI, nI_ltI, nI_eq, z_in, pk_mul, zu_same, zu_rw, zu_ix, zi_ne0, zi_sub, zi_m1, Nat.add_sub_cancel, Nat.reduceMul, Nat.reduceSub]
      refine ih _ (hf.row (by decide) (by decide)) (fun j hj2 => ?_)
      by_cases q : j = y
      · subst q
        simp (disch := omega) only [List.getElem?_cons_zero, List.getElem?_cons_succ, List.set_cons_zero, List.set_cons_succ, List.drop_succ_cons, List.drop_zero, List.take_succ_cons, List.take_zero, List.length_cons, List.length_nil, List.reverse_cons, List.reverse_nil, List.nil_append, List.cons_append, Option.toList_some, Option.toList_none, va_rf_s, true_and, and_true, true_implies, false_implies, not_true_eq_false, not_false_eq_true, Nat.reduceAdd, Nat.reduceLeDiff, Nat.le_add_left, Nat.zero_le, Nat.le_refl, znew, true_or, or_true, b01_t, b01_f, b01_ok, bool_ft, b01_eq0, b01_eq1, implies_true, nI_add, nI_clamp, zi_in, zi_le_t, zi_le_f, zi_lt_t, zi_lt_f, zi_eq_t, zi_eq_f, nI_leI, nI_ltI, nI_eq, z_in, pk_mul, zu_same, zu_rw, zu_ix, zi_ne0, zi_sub, zi_m1, Nat.add_sub_cancel, Nat.reduceMul, Nat.reduceSub, ]
      · simp (disch := omega) only [List.getElem?_cons_zero, List.getElem?_cons_succ, List.set_cons_zero, List.set_cons_succ, List.drop_succ_cons, List.drop_zero, List.take_succ_cons, List.take_zero, List.length_cons, List.length_nil, List.reverse_cons, List.reverse_nil, List.nil_append, List.cons_append, Option.toList_some, Option.toList_none, va_rf_s, true_and, and_true, true_implies, false_implies, not_true_eq_false, not_false_eq_true, Nat.reduceAdd, Nat.reduceLeDiff, Nat.le_add_left, Nat.zero_le, Nat.le_refl, znew, true_or, or_true, b01_t, b01_f, b01_ok, bool_ft, b01_eq0, b01_eq1, implies_true, nI_add, nI_clamp, zi_in, zi_le_t, zi_le_f, zi_lt_t, zi_lt_f, zi_eq_t, zi_eq_f, nI_leI, nI_ltI, nI_eq, z_in, pk_mul, zu_same, zu_rw, zu_ix, zi_ne0, zi_sub, zi_m1, Nat.add_sub_cancel, Nat.reduceMul, Nat.reduceSub, ]
        exact hj j (by omega)
  refine sX10_keepsRow_0 _ _ _ _ _ ?_
  simp (disch := omega) only [oIst, oPush, List.getElem?_cons_zero, List.getElem?_cons_succ, List.set_cons_zero, List.set_cons_succ, List.drop_succ_cons, List.drop_zero, List.take_succ_cons, List.take_zero, List.length_cons, List.length_nil, List.reverse_cons, List.reverse_nil, List.nil_append, List.cons_append, Option.toList_some, Option.toList_none, va_rf_s, true_and, and_true, true_implies, false_implies, not_true_eq_false, not_false_eq_true, Nat.reduceAdd, Nat.reduceLeDiff, Nat.le_add_left, Nat.zero_le, Nat.le_refl, znew, true_or, or_true, b01_t, b01_f, b01_ok, bool_ft, b01_eq0, b01_eq1, implies_true, nI_add, nI_clamp, zi_in, zi_le_t, zi_le_f, zi_lt_t, zi_lt_f, zi_eq_t, zi_eq_f, nI_leI, nI_ltI, nI_eq, z_in, pk_mul, zu_same, zu_rw, zu_ix, zi_ne0, zi_sub, zi_m1, Nat.add_sub_cancel, Nat.reduceMul, Nat.reduceSub]
  exact loop 0 (by omega) S zfr.rf (fun j hj => by rw [hZ.1 j (by omega), hZ.2 j (by omega)])
end MA
