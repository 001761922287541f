/-! the component: tokens -/
section K0
variable {h : Nat → Option zSh} {c : Nat}
theorem isC.tr0 (hB : isC h c) : zr h (c + 2) 0 = some (c + 3) := hB.2.2.2.2.2.2.2.1 (0, 3) (by decide)
theorem isC.tr3 (hB : isC h c) : zr h (c + 2) 3 = some (c + 5) := hB.2.2.2.2.2.2.2.1 (3, 5) (by decide)
theorem isC.tr4 (hB : isC h c) : zr h (c + 2) 4 = some (c + 6) := hB.2.2.2.2.2.2.2.1 (4, 6) (by decide)
theorem isC.tr5 (hB : isC h c) : zr h (c + 2) 5 = some (c + 7) := hB.2.2.2.2.2.2.2.1 (5, 7) (by decide)
theorem isC.tr6 (hB : isC h c) : zr h (c + 2) 6 = some (c + 8) := hB.2.2.2.2.2.2.2.1 (6, 8) (by decide)
theorem isC.tt0 (hB : isC h c) : zt h (c + 3) = 5 := (hB.2.2.2.2.2.2.2.2.1 (3, 5, 23) (by decide)).1
theorem isC.tn0 (hB : isC h c) : zn h (c + 3) = 23 := (hB.2.2.2.2.2.2.2.2.1 (3, 5, 23) (by decide)).2
theorem isC.tt3 (hB : isC h c) : zt h (c + 5) = 1 := (hB.2.2.2.2.2.2.2.2.1 (5, 1, 2001) (by decide)).1
theorem isC.tn3 (hB : isC h c) : zn h (c + 5) = 2001 := (hB.2.2.2.2.2.2.2.2.1 (5, 1, 2001) (by decide)).2
theorem isC.tt4 (hB : isC h c) : zt h (c + 6) = 3 := (hB.2.2.2.2.2.2.2.2.1 (6, 3, 2001) (by decide)).1
theorem isC.tn4 (hB : isC h c) : zn h (c + 6) = 2001 := (hB.2.2.2.2.2.2.2.2.1 (6, 3, 2001) (by decide)).2
theorem isC.tt5 (hB : isC h c) : zt h (c + 7) = 3 := (hB.2.2.2.2.2.2.2.2.1 (7, 3, 2001) (by decide)).1
theorem isC.tn5 (hB : isC h c) : zn h (c + 7) = 2001 := (hB.2.2.2.2.2.2.2.2.1 (7, 3, 2001) (by decide)).2
theorem isC.tt6 (hB : isC h c) : zt h (c + 8) = 3 := (hB.2.2.2.2.2.2.2.2.1 (8, 3, 2001) (by decide)).1
theorem isC.tn6 (hB : isC h c) : zn h (c + 8) = 2001 := (hB.2.2.2.2.2.2.2.2.1 (8, 3, 2001) (by decide)).2
theorem isC.pr0 (hB : isC h c) : zr h (c + 9) 0 = some (c + 2) := hB.2.2.2.2.2.2.2.2.2.1
theorem isC.pr1 (hB : isC h c) : zr h (c + 9) 1 = some (c + 1) := hB.2.2.2.2.2.2.2.2.2.2
end K0
theorem byK (x : Int32) (hx : x.toInt8.toInt32 = x) : (x = nI (u8 x) ∧ u8 x < 128) ∨ (x < nI 0 ∧ 128 ≤ u8 x) := by
  have key : ∀ n, n < 256 → ((Int8.ofBitVec (BitVec.ofNat 8 n)).toInt32 = nI (u8 (Int8.ofBitVec (BitVec.ofNat 8 n)).toInt32) ∧ u8 (Int8.ofBitVec (BitVec.ofNat 8 n)).toInt32 < 128) ∨ ((Int8.ofBitVec (BitVec.ofNat 8 n)).toInt32 < nI 0 ∧ 128 ≤ u8 (Int8.ofBitVec (BitVec.ofNat 8 n)).toInt32) := by decide +kernel
  have e : x.toInt8 = Int8.ofBitVec (BitVec.ofNat 8 x.toInt8.toBitVec.toNat) := by rw [BitVec.ofNat_toNat]; simp
  have := key x.toInt8.toBitVec.toNat x.toInt8.toBitVec.isLt
  rw [← e, hx] at this
  exact this
def ctB (P : List Int32) (i : Nat) : Int32 := if i < P.length then P.getD i 0 else nI 0
theorem ctK {P : List Int32} (hP : isBy P) (i : Nat) : (ctB P i = nI (by8 P i) ∧ by8 P i < 128) ∨ (ctB P i < nI 0 ∧ 128 ≤ by8 P i) := by
  unfold ctB by8
  by_cases h : i < P.length
  · rw [if_pos h, if_pos h]; exact byK _ (hP i)
  · rw [if_neg h, if_neg h]; exact Or.inl ⟨rfl, by omega⟩
theorem i_neg {x : Int32} {n : Nat} (hx : x < nI 0) (hn : n < 2 ^ 31) : x < nI n := by
  rw [Int32.lt_iff_toInt_lt, nI_toInt (by omega)] at hx ⊢
  omega
theorem i_neq {x : Int32} {n : Nat} (hx : x < nI 0) (hn : n < 2 ^ 31) : ¬ x = nI n := fun e => by
  rw [e, Int32.lt_iff_toInt_lt, nI_toInt (by omega), nI_toInt (by omega)] at hx
  omega
theorem i_s2 {q : Nat} (hq : q < 32768) : (nI q).toInt16.toInt32 = nI q := by
  apply Int32.toInt_inj.mp
  have h1 : (nI q).toInt16.toInt = (q : Int) := by
    rw [Int32.toInt_toInt16, nI_toInt (by omega)]
    simp [Int.bmod]; omega
  rw [Int16.toInt_toInt32, h1, nI_toInt (by omega)]
theorem nar_s (x : Int32) : vp_nar .short x = x.toInt16.toInt32 := rfl
section EC
variable {l : Launch} {E : zE} {z : Nat} {h : Nat → Option zSh} {S : Nat → Nat → Int32} {L : Nat → Nat → Int64} {c : Nat} {P : List Int32}
theorem zX2_at (hB : isC h c) (hP : cP S c P) {i : Nat} (hi : i < 10000) : zM l E 0 YX2_at [.ref (c + 2), .int (nI i)] (z, h, S, L) 0 0 (fun r X => r = some (.int (ctB P i)) ∧ X = (z, h, S, L)) (fun _ _ => False) := by
  obtain ⟨p1, p2, p3⟩ := hP
  refine zM.go rfl rfl (Nat.le_of_ble_eq_true rfl) (ls := [some (.ref (c + 2)), some (.int (nI i))]) rfl ?_
  intro V hVl hVE hVd hVc hVs hVQ hVX
  unfold ctB at hVQ
  by_cases h0 : i < P.length
  · rw [if_pos h0] at hVQ
    have e1 := p3 i h0
    refine sX2_at_0 _ _ _ _ _ ?_
    simp (disch := omega) only [oAld, oAld1, oGI, oGR, oIfc, oIld, oNop, oPush, oRI, hB.tk, hB.tr1, hB.tt1, hB.tn1, p1, e1, List.getElem?_cons_zero, List.getElem?_cons_succ, List.set_cons_zero, List.set_cons_succ, List.drop_succ_cons, List.drop_zero, List.take_succ_cons, List.take_zero, List.length_cons, List.length_nil, List.reverse_cons, List.reverse_nil, List.nil_append, List.cons_append, Option.toList_some, Option.toList_none, va_rf_s, true_and, and_true, true_implies, false_implies, not_true_eq_false, not_false_eq_true, Nat.reduceAdd, Nat.reduceLeDiff, Nat.le_add_left, Nat.zero_le, Nat.le_refl, znew, true_or, or_true, b01_t, b01_f, b01_ok, bool_ft, vp_b01, vp_b0, vp_b1, b01_eq0, b01_eq1, implies_true, nI_add, nI_clamp, zi_in, zi_le_t, zi_le_f, zi_lt_t, zi_lt_f, zi_eq_t, zi_eq_f, nI_leI, nI_ltI, nI_eq, z_in, pk_mul, zu_same, zu_rw, zu_ix, zi_ne0, zi_sub, zi_m1, Nat.add_sub_cancel, Nat.reduceMul, Nat.reduceSub]
    exact hVQ _ _ ⟨rfl, rfl⟩
  · rw [if_neg h0] at hVQ
    refine sX2_at_0 _ _ _ _ _ ?_
    simp (disch := omega) only [oAld, oAld1, oGI, oGR, oIfc, oIld, oNop, oPush, oRI, hB.tk, hB.tr1, hB.tt1, hB.tn1, p1, List.getElem?_cons_zero, List.getElem?_cons_succ, List.set_cons_zero, List.set_cons_succ, List.drop_succ_cons, List.drop_zero, List.take_succ_cons, List.take_zero, List.length_cons, List.length_nil, List.reverse_cons, List.reverse_nil, List.nil_append, List.cons_append, Option.toList_some, Option.toList_none, va_rf_s, true_and, and_true, true_implies, false_implies, not_true_eq_false, not_false_eq_true, Nat.reduceAdd, Nat.reduceLeDiff, Nat.le_add_left, Nat.zero_le, Nat.le_refl, znew, true_or, or_true, b01_t, b01_f, b01_ok, bool_ft, vp_b01, vp_b0, vp_b1, b01_eq0, b01_eq1, implies_true, nI_add, nI_clamp, zi_in, zi_le_t, zi_le_f, zi_lt_t, zi_lt_f, zi_eq_t, zi_eq_f, nI_leI, nI_ltI, nI_eq, z_in, pk_mul, zu_same, zu_rw, zu_ix, zi_ne0, zi_sub, zi_m1, Nat.add_sub_cancel, Nat.reduceMul, Nat.reduceSub]
    exact hVQ _ _ ⟨rfl, rfl⟩
theorem ct_rng (hBy : isBy P) (i : Nat) {lo hi : Nat} (h1 : lo ≤ hi) (h2 : hi < 128) : (ctB P i < nI lo ∧ ¬ (lo ≤ by8 P i ∧ by8 P i ≤ hi)) ∨ (¬ ctB P i < nI lo ∧ nI hi < ctB P i ∧ ¬ (lo ≤ by8 P i ∧ by8 P i ≤ hi)) ∨ (¬ ctB P i < nI lo ∧ ¬ nI hi < ctB P i ∧ lo ≤ by8 P i ∧ by8 P i ≤ hi) := by
  rcases ctK hBy i with ⟨e, q⟩ | ⟨e, q⟩
  · rw [e]
    by_cases a : by8 P i < lo
    · exact Or.inl ⟨nI_lt a (by omega), by omega⟩
    · by_cases b : hi < by8 P i
      · exact Or.inr (Or.inl ⟨nI_nlt (by omega) (by omega), nI_lt b (by omega), by omega⟩)
      · exact Or.inr (Or.inr ⟨nI_nlt (by omega) (by omega), nI_nlt (by omega) (by omega), by omega, by omega⟩)
  · exact Or.inl ⟨i_neg e (by omega), by omega⟩
theorem zX2_isLetter (hB : isC h c) (hP : cP S c P) (hBy : isBy P) {i : Nat} (hi : i < 10000) : zM l E 1 YX2_isLetter [.ref (c + 2), .int (nI i)] (z, h, S, L) 0 0 (fun r X => r = some (.int (b01 (isL (by8 P i)))) ∧ X = (z, h, S, L)) (fun _ _ => False) := by
  refine zM.go rfl rfl (Nat.le_of_ble_eq_true rfl) (ls := [some (.ref (c + 2)), some (.int (nI i))]) rfl ?_
  intro V hVl hVE hVd hVc hVs hVQ hVX
  refine sX2_isLetter_0 _ _ _ _ _ ?_
  simp (disch := omega) only [oAld, oCV, oIld, hB.tk, List.getElem?_cons_zero, List.getElem?_cons_succ, List.set_cons_zero, List.set_cons_succ, List.drop_succ_cons, List.drop_zero, List.take_succ_cons, List.take_zero, List.length_cons, List.length_nil, List.reverse_cons, List.reverse_nil, List.nil_append, List.cons_append, Option.toList_some, Option.toList_none, va_rf_s, true_and, and_true, true_implies, false_implies, not_true_eq_false, not_false_eq_true, Nat.reduceAdd, Nat.reduceLeDiff, Nat.le_add_left, Nat.zero_le, Nat.le_refl, znew, true_or, or_true, b01_t, b01_f, b01_ok, bool_ft, vp_b01, vp_b0, vp_b1, b01_eq0, b01_eq1, implies_true, nI_add, nI_clamp, zi_in, zi_le_t, zi_le_f, zi_lt_t, zi_lt_f, zi_eq_t, zi_eq_f, nI_leI, nI_ltI, nI_eq, z_in, pk_mul, zu_same, zu_rw, zu_ix, zi_ne0, zi_sub, zi_m1, Nat.add_sub_cancel, Nat.reduceMul, Nat.reduceSub]
  refine zC.of0 (zX2_at hB hP hi) (by omega) (Nat.zero_le _) (Nat.zero_le _) ?_
  rintro _ _ ⟨rfl, rfl⟩
  rcases ct_rng hBy i (lo := 97) (hi := 122) (by omega) (by omega) with ⟨a1, a2⟩ | ⟨a1, a2, a3⟩ | ⟨a1, a2, a3⟩
  · refine sX2_isLetter_5 _ _ _ _ _ ?_
    simp (disch := omega) only [oAld, oCV, oIfc, oIld, oPush, oRZ, hB.tk, a1, List.getElem?_cons_zero, List.getElem?_cons_succ, List.set_cons_zero, List.set_cons_succ, List.drop_succ_cons, List.drop_zero, List.take_succ_cons, List.take_zero, List.length_cons, List.length_nil, List.reverse_cons, List.reverse_nil, List.nil_append, List.cons_append, Option.toList_some, Option.toList_none, va_rf_s, true_and, and_true, true_implies, false_implies, not_true_eq_false, not_false_eq_true, Nat.reduceAdd, Nat.reduceLeDiff, Nat.le_add_left, Nat.zero_le, Nat.le_refl, znew, true_or, or_true, b01_t, b01_f, b01_ok, bool_ft, vp_b01, vp_b0, vp_b1, b01_eq0, b01_eq1, implies_true, nI_add, nI_clamp, zi_in, zi_le_t, zi_le_f, zi_lt_t, zi_lt_f, zi_eq_t, zi_eq_f, nI_leI, nI_ltI, nI_eq, z_in, pk_mul, zu_same, zu_rw, zu_ix, zi_ne0, zi_sub, zi_m1, Nat.add_sub_cancel, Nat.reduceMul, Nat.reduceSub]
    exact hVQ _ _ ⟨by unfold isL; rw [decide_eq_false a2]; rfl, rfl⟩
  · refine sX2_isLetter_5 _ _ _ _ _ ?_
    simp (disch := omega) only [oAld, oCV, oIfc, oIld, oPush, oRZ, hB.tk, a1, List.getElem?_cons_zero, List.getElem?_cons_succ, List.set_cons_zero, List.set_cons_succ, List.drop_succ_cons, List.drop_zero, List.take_succ_cons, List.take_zero, List.length_cons, List.length_nil, List.reverse_cons, List.reverse_nil, List.nil_append, List.cons_append, Option.toList_some, Option.toList_none, va_rf_s, true_and, and_true, true_implies, false_implies, not_true_eq_false, not_false_eq_true, Nat.reduceAdd, Nat.reduceLeDiff, Nat.le_add_left, Nat.zero_le, Nat.le_refl, znew, true_or, or_true, b01_t, b01_f, b01_ok, bool_ft, vp_b01, vp_b0, vp_b1, b01_eq0, b01_eq1, implies_true, nI_add, nI_clamp, zi_in, zi_le_t, zi_le_f, zi_lt_t, zi_lt_f, zi_eq_t, zi_eq_f, nI_leI, nI_ltI, nI_eq, z_in, pk_mul, zu_same, zu_rw, zu_ix, zi_ne0, zi_sub, zi_m1, Nat.add_sub_cancel, Nat.reduceMul, Nat.reduceSub]
    refine zC.of0 (zX2_at hB hP hi) (by omega) (Nat.zero_le _) (Nat.zero_le _) ?_
    rintro _ _ ⟨rfl, rfl⟩
    refine sX2_isLetter_15 _ _ _ _ _ ?_
    simp (disch := omega) only [oIfc, oNop, oPush, oRZ, a2, List.getElem?_cons_zero, List.getElem?_cons_succ, List.set_cons_zero, List.set_cons_succ, List.drop_succ_cons, List.drop_zero, List.take_succ_cons, List.take_zero, List.length_cons, List.length_nil, List.reverse_cons, List.reverse_nil, List.nil_append, List.cons_append, Option.toList_some, Option.toList_none, va_rf_s, true_and, and_true, true_implies, false_implies, not_true_eq_false, not_false_eq_true, Nat.reduceAdd, Nat.reduceLeDiff, Nat.le_add_left, Nat.zero_le, Nat.le_refl, znew, true_or, or_true, b01_t, b01_f, b01_ok, bool_ft, vp_b01, vp_b0, vp_b1, b01_eq0, b01_eq1, implies_true, nI_add, nI_clamp, zi_in, zi_le_t, zi_le_f, zi_lt_t, zi_lt_f, zi_eq_t, zi_eq_f, nI_leI, nI_ltI, nI_eq, z_in, pk_mul, zu_same, zu_rw, zu_ix, zi_ne0, zi_sub, zi_m1, Nat.add_sub_cancel, Nat.reduceMul, Nat.reduceSub]
    exact hVQ _ _ ⟨by unfold isL; rw [decide_eq_false a3]; rfl, rfl⟩
  · refine sX2_isLetter_5 _ _ _ _ _ ?_
    simp (disch := omega) only [oAld, oCV, oIfc, oIld, oPush, oRZ, hB.tk, a1, List.getElem?_cons_zero, List.getElem?_cons_succ, List.set_cons_zero, List.set_cons_succ, List.drop_succ_cons, List.drop_zero, List.take_succ_cons, List.take_zero, List.length_cons, List.length_nil, List.reverse_cons, List.reverse_nil, List.nil_append, List.cons_append, Option.toList_some, Option.toList_none, va_rf_s, true_and, and_true, true_implies, false_implies, not_true_eq_false, not_false_eq_true, Nat.reduceAdd, Nat.reduceLeDiff, Nat.le_add_left, Nat.zero_le, Nat.le_refl, znew, true_or, or_true, b01_t, b01_f, b01_ok, bool_ft, vp_b01, vp_b0, vp_b1, b01_eq0, b01_eq1, implies_true, nI_add, nI_clamp, zi_in, zi_le_t, zi_le_f, zi_lt_t, zi_lt_f, zi_eq_t, zi_eq_f, nI_leI, nI_ltI, nI_eq, z_in, pk_mul, zu_same, zu_rw, zu_ix, zi_ne0, zi_sub, zi_m1, Nat.add_sub_cancel, Nat.reduceMul, Nat.reduceSub]
    refine zC.of0 (zX2_at hB hP hi) (by omega) (Nat.zero_le _) (Nat.zero_le _) ?_
    rintro _ _ ⟨rfl, rfl⟩
    refine sX2_isLetter_15 _ _ _ _ _ ?_
    simp (disch := omega) only [oIfc, oNop, oPush, oRZ, a2, List.getElem?_cons_zero, List.getElem?_cons_succ, List.set_cons_zero, List.set_cons_succ, List.drop_succ_cons, List.drop_zero, List.take_succ_cons, List.take_zero, List.length_cons, List.length_nil, List.reverse_cons, List.reverse_nil, List.nil_append, List.cons_append, Option.toList_some, Option.toList_none, va_rf_s, true_and, and_true, true_implies, false_implies, not_true_eq_false, not_false_eq_true, Nat.reduceAdd, Nat.reduceLeDiff, Nat.le_add_left, Nat.zero_le, Nat.le_refl, znew, true_or, or_true, b01_t, b01_f, b01_ok, bool_ft, vp_b01, vp_b0, vp_b1, b01_eq0, b01_eq1, implies_true, nI_add, nI_clamp, zi_in, zi_le_t, zi_le_f, zi_lt_t, zi_lt_f, zi_eq_t, zi_eq_f, nI_leI, nI_ltI, nI_eq, z_in, pk_mul, zu_same, zu_rw, zu_ix, zi_ne0, zi_sub, zi_m1, Nat.add_sub_cancel, Nat.reduceMul, Nat.reduceSub]
    exact hVQ _ _ ⟨by unfold isL; rw [decide_eq_true a3]; rfl, rfl⟩
theorem zX2_isDigit (hB : isC h c) (hP : cP S c P) (hBy : isBy P) {i : Nat} (hi : i < 10000) : zM l E 1 YX2_isDigit [.ref (c + 2), .int (nI i)] (z, h, S, L) 0 0 (fun r X => r = some (.int (b01 (isD (by8 P i)))) ∧ X = (z, h, S, L)) (fun _ _ => False) := by
  refine zM.go rfl rfl (Nat.le_of_ble_eq_true rfl) (ls := [some (.ref (c + 2)), some (.int (nI i))]) rfl ?_
  intro V hVl hVE hVd hVc hVs hVQ hVX
  refine sX2_isDigit_0 _ _ _ _ _ ?_
  simp (disch := omega) only [oAld, oCV, oIld, hB.tk, List.getElem?_cons_zero, List.getElem?_cons_succ, List.set_cons_zero, List.set_cons_succ, List.drop_succ_cons, List.drop_zero, List.take_succ_cons, List.take_zero, List.length_cons, List.length_nil, List.reverse_cons, List.reverse_nil, List.nil_append, List.cons_append, Option.toList_some, Option.toList_none, va_rf_s, true_and, and_true, true_implies, false_implies, not_true_eq_false, not_false_eq_true, Nat.reduceAdd, Nat.reduceLeDiff, Nat.le_add_left, Nat.zero_le, Nat.le_refl, znew, true_or, or_true, b01_t, b01_f, b01_ok, bool_ft, vp_b01, vp_b0, vp_b1, b01_eq0, b01_eq1, implies_true, nI_add, nI_clamp, zi_in, zi_le_t, zi_le_f, zi_lt_t, zi_lt_f, zi_eq_t, zi_eq_f, nI_leI, nI_ltI, nI_eq, z_in, pk_mul, zu_same, zu_rw, zu_ix, zi_ne0, zi_sub, zi_m1, Nat.add_sub_cancel, Nat.reduceMul, Nat.reduceSub]
  refine zC.of0 (zX2_at hB hP hi) (by omega) (Nat.zero_le _) (Nat.zero_le _) ?_
  rintro _ _ ⟨rfl, rfl⟩
  rcases ct_rng hBy i (lo := 48) (hi := 57) (by omega) (by omega) with ⟨a1, a2⟩ | ⟨a1, a2, a3⟩ | ⟨a1, a2, a3⟩
  · refine sX2_isDigit_5 _ _ _ _ _ ?_
    simp (disch := omega) only [oAld, oCV, oIfc, oIld, oPush, oRZ, hB.tk, a1, List.getElem?_cons_zero, List.getElem?_cons_succ, List.set_cons_zero, List.set_cons_succ, List.drop_succ_cons, List.drop_zero, List.take_succ_cons, List.take_zero, List.length_cons, List.length_nil, List.reverse_cons, List.reverse_nil, List.nil_append, List.cons_append, Option.toList_some, Option.toList_none, va_rf_s, true_and, and_true, true_implies, false_implies, not_true_eq_false, not_false_eq_true, Nat.reduceAdd, Nat.reduceLeDiff, Nat.le_add_left, Nat.zero_le, Nat.le_refl, znew, true_or, or_true, b01_t, b01_f, b01_ok, bool_ft, vp_b01, vp_b0, vp_b1, b01_eq0, b01_eq1, implies_true, nI_add, nI_clamp, zi_in, zi_le_t, zi_le_f, zi_lt_t, zi_lt_f, zi_eq_t, zi_eq_f, nI_leI, nI_ltI, nI_eq, z_in, pk_mul, zu_same, zu_rw, zu_ix, zi_ne0, zi_sub, zi_m1, Nat.add_sub_cancel, Nat.reduceMul, Nat.reduceSub]
    exact hVQ _ _ ⟨by unfold isD; rw [decide_eq_false a2]; rfl, rfl⟩
  · refine sX2_isDigit_5 _ _ _ _ _ ?_
    simp (disch := omega) only [oAld, oCV, oIfc, oIld, oPush, oRZ, hB.tk, a1, List.getElem?_cons_zero, List.getElem?_cons_succ, List.set_cons_zero, List.set_cons_succ, List.drop_succ_cons, List.drop_zero, List.take_succ_cons, List.take_zero, List.length_cons, List.length_nil, List.reverse_cons, List.reverse_nil, List.nil_append, List.cons_append, Option.toList_some, Option.toList_none, va_rf_s, true_and, and_true, true_implies, false_implies, not_true_eq_false, not_false_eq_true, Nat.reduceAdd, Nat.reduceLeDiff, Nat.le_add_left, Nat.zero_le, Nat.le_refl, znew, true_or, or_true, b01_t, b01_f, b01_ok, bool_ft, vp_b01, vp_b0, vp_b1, b01_eq0, b01_eq1, implies_true, nI_add, nI_clamp, zi_in, zi_le_t, zi_le_f, zi_lt_t, zi_lt_f, zi_eq_t, zi_eq_f, nI_leI, nI_ltI, nI_eq, z_in, pk_mul, zu_same, zu_rw, zu_ix, zi_ne0, zi_sub, zi_m1, Nat.add_sub_cancel, Nat.reduceMul, Nat.reduceSub]
    refine zC.of0 (zX2_at hB hP hi) (by omega) (Nat.zero_le _) (Nat.zero_le _) ?_
    rintro _ _ ⟨rfl, rfl⟩
    refine sX2_isDigit_15 _ _ _ _ _ ?_
    simp (disch := omega) only [oIfc, oNop, oPush, oRZ, a2, List.getElem?_cons_zero, List.getElem?_cons_succ, List.set_cons_zero, List.set_cons_succ, List.drop_succ_cons, List.drop_zero, List.take_succ_cons, List.take_zero, List.length_cons, List.length_nil, List.reverse_cons, List.reverse_nil, List.nil_append, List.cons_append, Option.toList_some, Option.toList_none, va_rf_s, true_and, and_true, true_implies, false_implies, not_true_eq_false, not_false_eq_true, Nat.reduceAdd, Nat.reduceLeDiff, Nat.le_add_left, Nat.zero_le, Nat.le_refl, znew, true_or, or_true, b01_t, b01_f, b01_ok, bool_ft, vp_b01, vp_b0, vp_b1, b01_eq0, b01_eq1, implies_true, nI_add, nI_clamp, zi_in, zi_le_t, zi_le_f, zi_lt_t, zi_lt_f, zi_eq_t, zi_eq_f, nI_leI, nI_ltI, nI_eq, z_in, pk_mul, zu_same, zu_rw, zu_ix, zi_ne0, zi_sub, zi_m1, Nat.add_sub_cancel, Nat.reduceMul, Nat.reduceSub]
    exact hVQ _ _ ⟨by unfold isD; rw [decide_eq_false a3]; rfl, rfl⟩
  · refine sX2_isDigit_5 _ _ _ _ _ ?_
    simp (disch := omega) only [oAld, oCV, oIfc, oIld, oPush, oRZ, hB.tk, a1, List.getElem?_cons_zero, List.getElem?_cons_succ, List.set_cons_zero, List.set_cons_succ, List.drop_succ_cons, List.drop_zero, List.take_succ_cons, List.take_zero, List.length_cons, List.length_nil, List.reverse_cons, List.reverse_nil, List.nil_append, List.cons_append, Option.toList_some, Option.toList_none, va_rf_s, true_and, and_true, true_implies, false_implies, not_true_eq_false, not_false_eq_true, Nat.reduceAdd, Nat.reduceLeDiff, Nat.le_add_left, Nat.zero_le, Nat.le_refl, znew, true_or, or_true, b01_t, b01_f, b01_ok, bool_ft, vp_b01, vp_b0, vp_b1, b01_eq0, b01_eq1, implies_true, nI_add, nI_clamp, zi_in, zi_le_t, zi_le_f, zi_lt_t, zi_lt_f, zi_eq_t, zi_eq_f, nI_leI, nI_ltI, nI_eq, z_in, pk_mul, zu_same, zu_rw, zu_ix, zi_ne0, zi_sub, zi_m1, Nat.add_sub_cancel, Nat.reduceMul, Nat.reduceSub]
    refine zC.of0 (zX2_at hB hP hi) (by omega) (Nat.zero_le _) (Nat.zero_le _) ?_
    rintro _ _ ⟨rfl, rfl⟩
    refine sX2_isDigit_15 _ _ _ _ _ ?_
    simp (disch := omega) only [oIfc, oNop, oPush, oRZ, a2, List.getElem?_cons_zero, List.getElem?_cons_succ, List.set_cons_zero, List.set_cons_succ, List.drop_succ_cons, List.drop_zero, List.take_succ_cons, List.take_zero, List.length_cons, List.length_nil, List.reverse_cons, List.reverse_nil, List.nil_append, List.cons_append, Option.toList_some, Option.toList_none, va_rf_s, true_and, and_true, true_implies, false_implies, not_true_eq_false, not_false_eq_true, Nat.reduceAdd, Nat.reduceLeDiff, Nat.le_add_left, Nat.zero_le, Nat.le_refl, znew, true_or, or_true, b01_t, b01_f, b01_ok, bool_ft, vp_b01, vp_b0, vp_b1, b01_eq0, b01_eq1, implies_true, nI_add, nI_clamp, zi_in, zi_le_t, zi_le_f, zi_lt_t, zi_lt_f, zi_eq_t, zi_eq_f, nI_leI, nI_ltI, nI_eq, z_in, pk_mul, zu_same, zu_rw, zu_ix, zi_ne0, zi_sub, zi_m1, Nat.add_sub_cancel, Nat.reduceMul, Nat.reduceSub]
    exact hVQ _ _ ⟨by unfold isD; rw [decide_eq_true a3]; rfl, rfl⟩
/-- the sign's own char, or nought -/
def sgC (u : Nat) : Nat := if sgK u = 3 then 0 else u
theorem sgC_hi {u : Nat} (h : u < 40 ∨ 62 ≤ u) : sgC u = 0 := by
  unfold sgC
  rw [if_pos]
  unfold sgK
  repeat rw [if_neg (by omega)]
theorem zX2_sign (hB : isC h c) (hP : cP S c P) (hBy : isBy P) {i : Nat} (hi : i < 10000) : zM l E 1 YX2_sign [.ref (c + 2), .int (nI i)] (z, h, S, L) 0 0 (fun r X => r = some (.int (nI (sgC (by8 P i)))) ∧ X = (z, h, S, L)) (fun _ _ => False) := by
  refine zM.go rfl rfl (Nat.le_of_ble_eq_true rfl) (ls := [some (.ref (c + 2)), some (.int (nI i)), none]) rfl ?_
  intro V hVl hVE hVd hVc hVs hVQ hVX
  refine sX2_sign_0 _ _ _ _ _ ?_
  simp (disch := omega) only [oAld, oCV, oIld, hB.tk, List.getElem?_cons_zero, List.getElem?_cons_succ, List.set_cons_zero, List.set_cons_succ, List.drop_succ_cons, List.drop_zero, List.take_succ_cons, List.take_zero, List.length_cons, List.length_nil, List.reverse_cons, List.reverse_nil, List.nil_append, List.cons_append, Option.toList_some, Option.toList_none, va_rf_s, true_and, and_true, true_implies, false_implies, not_true_eq_false, not_false_eq_true, Nat.reduceAdd, Nat.reduceLeDiff, Nat.le_add_left, Nat.zero_le, Nat.le_refl, znew, true_or, or_true, b01_t, b01_f, b01_ok, bool_ft, vp_b01, vp_b0, vp_b1, b01_eq0, b01_eq1, implies_true, nI_add, nI_clamp, zi_in, zi_le_t, zi_le_f, zi_lt_t, zi_lt_f, zi_eq_t, zi_eq_f, nI_leI, nI_ltI, nI_eq, z_in, pk_mul, zu_same, zu_rw, zu_ix, zi_ne0, zi_sub, zi_m1, Nat.add_sub_cancel, Nat.reduceMul, Nat.reduceSub]
  refine zC.of0 (zX2_at hB hP hi) (by omega) (Nat.zero_le _) (Nat.zero_le _) ?_
  rintro _ _ ⟨rfl, rfl⟩
  have hk := ctK hBy i
  generalize ctB P i = x at hk
  have fy : ∀ u, x = nI u → (u < 128 ∧ sgC u = u) → zW V YX2_sign 108 [some (.ref (c + 2)), some (.int (nI i)), some (.int x)] [] (z, h, S, L) 0 0 := by
    intro u hu hs
    refine sX2_sign_108 _ _ _ _ _ ?_
    simp (disch := omega) only [oIld, oRI, List.getElem?_cons_zero, List.getElem?_cons_succ, List.set_cons_zero, List.set_cons_succ, List.drop_succ_cons, List.drop_zero, List.take_succ_cons, List.take_zero, List.length_cons, List.length_nil, List.reverse_cons, List.reverse_nil, List.nil_append, List.cons_append, Option.toList_some, Option.toList_none, va_rf_s, true_and, and_true, true_implies, false_implies, not_true_eq_false, not_false_eq_true, Nat.reduceAdd, Nat.reduceLeDiff, Nat.le_add_left, Nat.zero_le, Nat.le_refl, znew, true_or, or_true, b01_t, b01_f, b01_ok, bool_ft, vp_b01, vp_b0, vp_b1, b01_eq0, b01_eq1, implies_true, nI_add, nI_clamp, zi_in, zi_le_t, zi_le_f, zi_lt_t, zi_lt_f, zi_eq_t, zi_eq_f, nI_leI, nI_ltI, nI_eq, z_in, pk_mul, zu_same, zu_rw, zu_ix, zi_ne0, zi_sub, zi_m1, Nat.add_sub_cancel, Nat.reduceMul, Nat.reduceSub]
    refine hVQ _ _ ⟨?_, rfl⟩
    rcases hk with ⟨e, q⟩ | ⟨e, q⟩
    · have : by8 P i = u := by rw [hu, nI_eq (by omega) (by omega)] at e; exact e.symm
      rw [this, hs.2, hu]
    · exact absurd hu (i_neq e (by omega))
  have fn : ∀ u, x = nI u → (u < 128 ∧ sgC u = 0) → zW V YX2_sign 110 [some (.ref (c + 2)), some (.int (nI i)), some (.int x)] [] (z, h, S, L) 0 0 := by
    intro u hu hs
    refine sX2_sign_110 _ _ _ _ _ ?_
    simp (disch := omega) only [oPush, oRI, List.getElem?_cons_zero, List.getElem?_cons_succ, List.set_cons_zero, List.set_cons_succ, List.drop_succ_cons, List.drop_zero, List.take_succ_cons, List.take_zero, List.length_cons, List.length_nil, List.reverse_cons, List.reverse_nil, List.nil_append, List.cons_append, Option.toList_some, Option.toList_none, va_rf_s, true_and, and_true, true_implies, false_implies, not_true_eq_false, not_false_eq_true, Nat.reduceAdd, Nat.reduceLeDiff, Nat.le_add_left, Nat.zero_le, Nat.le_refl, znew, true_or, or_true, b01_t, b01_f, b01_ok, bool_ft, vp_b01, vp_b0, vp_b1, b01_eq0, b01_eq1, implies_true, nI_add, nI_clamp, zi_in, zi_le_t, zi_le_f, zi_lt_t, zi_lt_f, zi_eq_t, zi_eq_f, nI_leI, nI_ltI, nI_eq, z_in, pk_mul, zu_same, zu_rw, zu_ix, zi_ne0, zi_sub, zi_m1, Nat.add_sub_cancel, Nat.reduceMul, Nat.reduceSub]
    refine hVQ _ _ ⟨?_, rfl⟩
    rcases hk with ⟨e, q⟩ | ⟨e, q⟩
    · have : by8 P i = u := by rw [hu, nI_eq (by omega) (by omega)] at e; exact e.symm
      rw [this, hs.2]
    · exact absurd hu (i_neq e (by omega))
  refine sX2_sign_5 _ _ _ _ _ ?_
  simp (disch := omega) only [oIld, oIst, List.getElem?_cons_zero, List.getElem?_cons_succ, List.set_cons_zero, List.set_cons_succ, List.drop_succ_cons, List.drop_zero, List.take_succ_cons, List.take_zero, List.length_cons, List.length_nil, List.reverse_cons, List.reverse_nil, List.nil_append, List.cons_append, Option.toList_some, Option.toList_none, va_rf_s, true_and, and_true, true_implies, false_implies, not_true_eq_false, not_false_eq_true, Nat.reduceAdd, Nat.reduceLeDiff, Nat.le_add_left, Nat.zero_le, Nat.le_refl, znew, true_or, or_true, b01_t, b01_f, b01_ok, bool_ft, vp_b01, vp_b0, vp_b1, b01_eq0, b01_eq1, implies_true, nI_add, nI_clamp, zi_in, zi_le_t, zi_le_f, zi_lt_t, zi_lt_f, zi_eq_t, zi_eq_f, nI_leI, nI_ltI, nI_eq, z_in, pk_mul, zu_same, zu_rw, zu_ix, zi_ne0, zi_sub, zi_m1, Nat.add_sub_cancel, Nat.reduceMul, Nat.reduceSub]
  refine zswg (lo := 40) (by omega) (by simp) (fun i K hi hx => ?_) (fun hq => ?_)
  · match i, hi with
      | 0, hi => cases hi; exact fy 40 hx (by decide)
      | 1, hi => cases hi; exact fy 41 hx (by decide)
      | 2, hi => cases hi; exact fy 42 hx (by decide)
      | 3, hi => cases hi; exact fy 43 hx (by decide)
      | 4, hi => cases hi; exact fn 44 hx (by decide)
      | 5, hi => cases hi; exact fy 45 hx (by decide)
      | 6, hi => cases hi; exact fn 46 hx (by decide)
      | 7, hi => cases hi; exact fy 47 hx (by decide)
      | 8, hi => cases hi; exact fn 48 hx (by decide)
      | 9, hi => cases hi; exact fn 49 hx (by decide)
      | 10, hi => cases hi; exact fn 50 hx (by decide)
      | 11, hi => cases hi; exact fn 51 hx (by decide)
      | 12, hi => cases hi; exact fn 52 hx (by decide)
      | 13, hi => cases hi; exact fn 53 hx (by decide)
      | 14, hi => cases hi; exact fn 54 hx (by decide)
      | 15, hi => cases hi; exact fn 55 hx (by decide)
      | 16, hi => cases hi; exact fn 56 hx (by decide)
      | 17, hi => cases hi; exact fn 57 hx (by decide)
      | 18, hi => cases hi; exact fn 58 hx (by decide)
      | 19, hi => cases hi; exact fy 59 hx (by decide)
      | 20, hi => cases hi; exact fy 60 hx (by decide)
      | 21, hi => cases hi; exact fy 61 hx (by decide)
      | i + 22, hi => simp at hi
  · refine sX2_sign_110 _ _ _ _ _ ?_
    simp (disch := omega) only [oPush, oRI, List.getElem?_cons_zero, List.getElem?_cons_succ, List.set_cons_zero, List.set_cons_succ, List.drop_succ_cons, List.drop_zero, List.take_succ_cons, List.take_zero, List.length_cons, List.length_nil, List.reverse_cons, List.reverse_nil, List.nil_append, List.cons_append, Option.toList_some, Option.toList_none, va_rf_s, true_and, and_true, true_implies, false_implies, not_true_eq_false, not_false_eq_true, Nat.reduceAdd, Nat.reduceLeDiff, Nat.le_add_left, Nat.zero_le, Nat.le_refl, znew, true_or, or_true, b01_t, b01_f, b01_ok, bool_ft, vp_b01, vp_b0, vp_b1, b01_eq0, b01_eq1, implies_true, nI_add, nI_clamp, zi_in, zi_le_t, zi_le_f, zi_lt_t, zi_lt_f, zi_eq_t, zi_eq_f, nI_leI, nI_ltI, nI_eq, z_in, pk_mul, zu_same, zu_rw, zu_ix, zi_ne0, zi_sub, zi_m1, Nat.add_sub_cancel, Nat.reduceMul, Nat.reduceSub]
    refine hVQ _ _ ⟨?_, rfl⟩
    rcases hk with ⟨e, q⟩ | ⟨e, q⟩
    · by_cases hr : 40 ≤ by8 P i ∧ by8 P i < 62
      · exact absurd e (hq (by8 P i) hr.1 (by simp; omega))
      · rw [sgC_hi (by omega)]
    · rw [sgC_hi (by omega)]
theorem zX2_add (hB : isC h c) {m s a b : Nat} {w : Int32} (hm : S (c + 2) 7 = nI m) (hm1 : m < 2001) (hs : s < 128) (ha : a < 32768) (hb : b < 32768) (hw : w.toInt16.toInt32 = w) : zM l E 0 YX2_add [.ref (c + 2), .int (nI s), .int (nI a), .int (nI b), .int w] (z, h, S, L) 0 0 (fun r X => r = none ∧ X = (z, h, zu (zu (zu (zu (zu S (c + 5) m (nI s)) (c + 6) m (nI a)) (c + 7) m (nI b)) (c + 8) m w) (c + 2) 7 (nI (m + 1)), L)) (fun _ _ => False) := by
  refine zM.go rfl rfl (Nat.le_of_ble_eq_true rfl) (ls := [some (.ref (c + 2)), some (.int (nI s)), some (.int (nI a)), some (.int (nI b)), some (.int w)]) rfl ?_
  intro V hVl hVE hVd hVc hVs hVQ hVX
  refine sX2_add_0 _ _ _ _ _ ?_
  simp (disch := omega) only [oAld, oAst1, oBin, oDup, oGI, oGR, oIld, oPI, oPush, oRV, oUn, hB.tk, hB.tr3, hB.tt3, hB.tn3, hB.tr4, hB.tt4, hB.tn4, hB.tr5, hB.tt5, hB.tn5, hB.tr6, hB.tt6, hB.tn6, hm, i_b2, nar_b, i_s2, nar_s, hw, List.getElem?_cons_zero, List.getElem?_cons_succ, List.set_cons_zero, List.set_cons_succ, List.drop_succ_cons, List.drop_zero, List.take_succ_cons, List.take_zero, List.length_cons, List.length_nil, List.reverse_cons, List.reverse_nil, List.nil_append, List.cons_append, Option.toList_some, Option.toList_none, va_rf_s, true_and, and_true, true_implies, false_implies, not_true_eq_false, not_false_eq_true, Nat.reduceAdd, Nat.reduceLeDiff, Nat.le_add_left, Nat.zero_le, Nat.le_refl, znew, true_or, or_true, b01_t, b01_f, b01_ok, bool_ft, vp_b01, vp_b0, vp_b1, b01_eq0, b01_eq1, implies_true, nI_add, nI_clamp, zi_in, zi_le_t, zi_le_f, zi_lt_t, zi_lt_f, zi_eq_t, zi_eq_f, nI_leI, nI_ltI, nI_eq, z_in, pk_mul, zu_same, zu_rw, zu_ix, zi_ne0, zi_sub, zi_m1, Nat.add_sub_cancel, Nat.reduceMul, Nat.reduceSub]
  exact hVQ _ _ ⟨rfl, rfl⟩
end EC
