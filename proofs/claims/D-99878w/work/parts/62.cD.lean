/-! the component: towns, small ones -/
/-- what holds of a text -/
def tI (t : ZT) : Prop := (∀ s, s < tns t → ∃ n, tlo t s = nI n ∧ 1 ≤ n ∧ n ≤ 99) ∧ ∀ k, lawOK (tlw t k)
def hmB (t : ZT) (T : Nat → Int32) (y : Nat) : Bool := decide (y < tny t) && decide (T (12 + y) = nI 1)
theorem bt_home {t : ZT} {T : Nat → Int32} {y : Nat} (h6 : tny t ≤ 6) (hy : y < 32) : bt (homeR t T) y = hmB t T y := bt_setF _ (by omega) hy
theorem hmB_out {t : ZT} {T : Nat → Int32} {y : Nat} (hy : y < tny t) (hH : rowH t T) : (hmB t T y = false) = (T (12 + y) = nI 0) := by
  unfold hmB
  rw [decide_eq_true hy, Bool.true_and]
  rcases hH y hy with e | e
  · rw [e]; simp; decide
  · rw [e]; simp; decide
theorem lightF_N {T : Nat → Int32} {c : Int32} {n : Nat} (hn : n ≤ 6) (hg : ∀ y, y < 6 → ∃ g, T (6 + y) = nI g ∧ g ≤ 999) : ∃ k, lightF n T c = nI k ∧ k ≤ 999 * n := by
  induction n with
  | zero => exact ⟨0, rfl, Nat.le_refl _⟩
  | succ n ih =>
    obtain ⟨k, e, hk⟩ := ih (by omega)
    obtain ⟨g, eg, hg2⟩ := hg n (by omega)
    rw [lightF]
    split
    · exact ⟨k + g, by rw [e, eg, nI_add], by omega⟩
    · exact ⟨k, e, by omega⟩
theorem rI.gl {t : ZT} {T : Nat → Int32} (h : rI t T) : ∀ y, y < 6 → ∃ g, T (6 + y) = nI g ∧ g ≤ 999 := fun y hy => by
  obtain ⟨g, e, h1, -⟩ := h.1 y hy
  exact ⟨g, e, h1⟩
theorem maxF_need (v : Int32) : maxF (nI 0) v = if nI 0 ≤ v then v else nI 0 := by
  unfold maxF
  by_cases h : nI 0 < v
  · rw [if_pos h, if_pos (Int32.le_of_lt h)]
  · rw [if_neg h]
    by_cases h2 : nI 0 ≤ v
    · rw [if_pos h2]
      exact Int32.le_antisymm h2 (Int32.not_lt.mp h)
    · rw [if_neg h2]
theorem need_0 {a b c : Nat} (ha : a < 100000) (hb : b < 100000) (hc : c < 100000) : (needF (nI a) (nI b) (nI c) = nI 0) = (nI a ≤ nI b + nI c) := by
  have e1 : (nI a - nI b - nI c).toInt = (a : Int) - b - c := by
    have h1 : (nI a - nI b).toInt = (a : Int) - b := pk_sub_toInt (by omega) (by omega)
    rw [Int32.toInt_sub, h1, nI_toInt (by omega)]
    show Int.bmod _ _ = _
    rw [Int.bmod_eq_of_le] <;> omega
  have e2 : (nI a ≤ nI b + nI c) ↔ a ≤ b + c := by
    rw [nI_add, Int32.le_iff_toInt_le, nI_toInt (by omega), nI_toInt (by omega)]; omega
  unfold needF
  rw [e2]
  apply propext
  by_cases h : nI 0 ≤ nI a - nI b - nI c
  · rw [if_pos h]
    rw [Int32.le_iff_toInt_le, e1, nI_toInt (by omega)] at h
    constructor
    · intro q
      have := congrArg Int32.toInt q
      rw [e1, nI_toInt (by omega)] at this
      omega
    · intro q
      apply Int32.toInt_inj.mp
      rw [e1, nI_toInt (by omega)]
      omega
  · rw [if_neg h]
    rw [Int32.le_iff_toInt_le, e1, nI_toInt (by omega)] at h
    exact ⟨fun _ => by omega, fun _ => rfl⟩
theorem within_law (L : Int32) : minF (nI 99) (maxF (nI 0) L) = withinF L (nI 0) (nI 99) := by
  unfold minF maxF withinF
  by_cases h : nI 0 < L
  · rw [if_pos h, if_neg (Int32.not_lt.mpr (Int32.le_of_lt h))]
    by_cases h2 : L < nI 99
    · rw [if_pos h2, if_neg (Int32.not_lt.mpr (Int32.le_of_lt h2))]
    · rw [if_neg h2]
      by_cases h3 : nI 99 < L
      · rw [if_pos h3]
      · rw [if_neg h3]; exact Int32.le_antisymm (Int32.not_lt.mp h2) (Int32.not_lt.mp h3)
  · rw [if_neg h, if_pos (by decide)]
    by_cases h3 : L < nI 0
    · rw [if_pos h3]
    · have : L = nI 0 := Int32.le_antisymm (Int32.not_lt.mp h) (Int32.not_lt.mp h3)
      rw [this]; rfl
theorem within_nI {q : Nat} (hq : q ≤ 99) : withinF (nI q) (nI 0) (nI 99) = nI q := by
  unfold withinF
  rw [if_neg (nI_nlt (by omega) (by omega)), if_neg (nI_nlt (by omega) (by omega))]
section CD
variable {l : Launch} {E : zE} {z : Nat} {h : Nat → Option zSh} {S : Nat → Nat → Int32} {L : Nat → Nat → Int64} {ok : Nat → Prop} {D ta w : Nat} {t : ZT} {q0 T : Nat → Int32} {A : zTA} {sd : Int32}
theorem zX5_isHome (hW : isTw h w) {y : Nat} (hy : y < 32) : zM l E 0 YX5_isHome [.ref w, .int (nI y)] (z, h, S, L) 0 0 (fun r X => r = some (.int (b01 (bt (S w 6) y))) ∧ X = (z, h, S, L)) (fun _ _ => False) := by
  refine zM.go rfl rfl (Nat.le_of_ble_eq_true rfl) (ls := [some (.ref w), some (.int (nI y))]) rfl ?_
  intro V hVl hVE hVd hVc hVs hVQ hVX
  refine sX5_isHome_0 _ _ _ _ _ ?_
  simp (disch := omega) only [oAld, oBin, oGI, oIfc, oIld, oNop, oPush, oRZ, hW.k, b_one1, List.getElem?_cons_zero, List.getElem?_cons_succ, List.set_cons_zero, List.set_cons_succ, List.drop_succ_cons, List.drop_zero, List.take_succ_cons, List.take_zero, List.length_cons, List.length_nil, List.reverse_cons, List.reverse_nil, List.nil_append, List.cons_append, Option.toList_some, Option.toList_none, va_rf_s, true_and, and_true, true_implies, false_implies, not_true_eq_false, not_false_eq_true, Nat.reduceAdd, Nat.reduceLeDiff, Nat.le_add_left, Nat.zero_le, Nat.le_refl, znew, true_or, or_true, b01_t, b01_f, b01_ok, bool_ft, vp_b01, vp_b0, vp_b1, b01_eq0, b01_eq1, implies_true, nI_add, nI_clamp, zi_in, zi_le_t, zi_le_f, zi_lt_t, zi_lt_f, zi_eq_t, zi_eq_f, nI_leI, nI_ltI, nI_eq, z_in, pk_mul, zu_same, zu_rw, zu_ix, zi_ne0, zi_sub, zi_m1, Nat.add_sub_cancel, Nat.reduceMul, Nat.reduceSub]
  refine ⟨fun h1 => hVQ _ _ ⟨by rw [h1]; rfl, rfl⟩, fun h1 => hVQ _ _ ⟨?_, rfl⟩⟩
  have : bt (S w 6) y = false := by simpa using h1
  rw [this]; rfl
theorem zX5_since (hW : isTw h w) (hT : tw S w t sd T) {y : Nat} (hy : y < 6) : zM l E 0 YX5_since [.ref w, .int (nI y)] (z, h, S, L) 0 0 (fun r X => r = some (.int (T 47 - T (24 + y))) ∧ X = (z, h, S, L)) (fun _ _ => False) := by
  have h9 := hT.2.2.2.2.2.2.2.2.1
  refine zM.go rfl rfl (Nat.le_of_ble_eq_true rfl) (ls := [some (.ref w), some (.int (nI y))]) rfl ?_
  intro V hVl hVE hVd hVc hVs hVQ hVX
  rcases hT.2.2.1 y hy with ⟨e1, e2⟩ | ⟨e1, e2⟩
  · have hm : (nI 0 ≤ (-1 : Int32)) = False := eq_false (by decide)
    refine sX5_since_0 _ _ _ _ _ ?_
    simp (disch := omega) only [oAld, oAld1, oBin, oGI, oGR, oIf, oIld, oNop, oRI, hW.k, hW.r2, hW.t2, hW.n2, e1, hm, h9, List.getElem?_cons_zero, List.getElem?_cons_succ, List.set_cons_zero, List.set_cons_succ, List.drop_succ_cons, List.drop_zero, List.take_succ_cons, List.take_zero, List.length_cons, List.length_nil, List.reverse_cons, List.reverse_nil, List.nil_append, List.cons_append, Option.toList_some, Option.toList_none, va_rf_s, true_and, and_true, true_implies, false_implies, not_true_eq_false, not_false_eq_true, Nat.reduceAdd, Nat.reduceLeDiff, Nat.le_add_left, Nat.zero_le, Nat.le_refl, znew, true_or, or_true, b01_t, b01_f, b01_ok, bool_ft, vp_b01, vp_b0, vp_b1, b01_eq0, b01_eq1, implies_true, nI_add, nI_clamp, zi_in, zi_le_t, zi_le_f, zi_lt_t, zi_lt_f, zi_eq_t, zi_eq_f, nI_leI, nI_ltI, nI_eq, z_in, pk_mul, zu_same, zu_rw, zu_ix, zi_ne0, zi_sub, zi_m1, Nat.add_sub_cancel, Nat.reduceMul, Nat.reduceSub]
    refine hVQ _ _ ⟨?_, rfl⟩
    rw [e2]
    show some (Value.int (T 47)) = some (Value.int (T 47 - 0))
    rw [Int32.sub_zero]
  · have hm : (nI 0 ≤ T (24 + y)) = True := eq_true e2
    refine sX5_since_0 _ _ _ _ _ ?_
    simp (disch := omega) only [oAld, oAld1, oBin, oGI, oGR, oIf, oIld, oNop, oRI, hW.k, hW.r2, hW.t2, hW.n2, e1, hm, h9, List.getElem?_cons_zero, List.getElem?_cons_succ, List.set_cons_zero, List.set_cons_succ, List.drop_succ_cons, List.drop_zero, List.take_succ_cons, List.take_zero, List.length_cons, List.length_nil, List.reverse_cons, List.reverse_nil, List.nil_append, List.cons_append, Option.toList_some, Option.toList_none, va_rf_s, true_and, and_true, true_implies, false_implies, not_true_eq_false, not_false_eq_true, Nat.reduceAdd, Nat.reduceLeDiff, Nat.le_add_left, Nat.zero_le, Nat.le_refl, znew, true_or, or_true, b01_t, b01_f, b01_ok, bool_ft, vp_b01, vp_b0, vp_b1, b01_eq0, b01_eq1, implies_true, nI_add, nI_clamp, zi_in, zi_le_t, zi_le_f, zi_lt_t, zi_lt_f, zi_eq_t, zi_eq_f, nI_leI, nI_ltI, nI_eq, z_in, pk_mul, zu_same, zu_rw, zu_ix, zi_ne0, zi_sub, zi_m1, Nat.add_sub_cancel, Nat.reduceMul, Nat.reduceSub]
    exact hVQ _ _ ⟨rfl, rfl⟩
theorem zX5_light (hW : isTw h w) (hT : tw S w t sd T) (h6 : tny t ≤ 6) {c : Int32} (hc : c ≠ -1) : zM l E 0 YX5_light [.ref w, .int c] (z, h, S, L) 0 0 (fun r X => r = some (.int (lightF (tny t) T c)) ∧ X = (z, h, S, L)) (fun _ _ => False) := by
  refine zM.go rfl rfl (Nat.le_of_ble_eq_true rfl) (ls := [some (.ref w), some (.int c), none, none]) rfl ?_
  intro V hVl hVE hVd hVc hVs hVQ hVX
  have loop : ∀ p, p ≤ 6 → zW V YX5_light 4 [some (.ref w), some (.int c), some (.int (lightF (min p (tny t)) T c)), some (.int (nI p))] [] (z, h, S, L) 0 0 := by
    refine z_down ?_ (fun p hp ih => ?_)
    · refine sX5_light_4 _ _ _ _ _ ?_
      simp (disch := omega) only [oAld, oAld1, oBin, oGR, oIfc, oIld, oInc, oIst, oNop, oPush, oRI, hW.k, hW.r0, hW.t0, hW.n0, hW.r1, hW.t1, hW.n1, List.getElem?_cons_zero, List.getElem?_cons_succ, List.set_cons_zero, List.set_cons_succ, List.drop_succ_cons, List.drop_zero, List.take_succ_cons, List.take_zero, List.length_cons, List.length_nil, List.reverse_cons, List.reverse_nil, List.nil_append, List.cons_append, Option.toList_some, Option.toList_none, va_rf_s, true_and, and_true, true_implies, false_implies, not_true_eq_false, not_false_eq_true, Nat.reduceAdd, Nat.reduceLeDiff, Nat.le_add_left, Nat.zero_le, Nat.le_refl, znew, true_or, or_true, b01_t, b01_f, b01_ok, bool_ft, vp_b01, vp_b0, vp_b1, b01_eq0, b01_eq1, implies_true, nI_add, nI_clamp, zi_in, zi_le_t, zi_le_f, zi_lt_t, zi_lt_f, zi_eq_t, zi_eq_f, nI_leI, nI_ltI, nI_eq, z_in, pk_mul, zu_same, zu_rw, zu_ix, zi_ne0, zi_sub, zi_m1, Nat.add_sub_cancel, Nat.reduceMul, Nat.reduceSub]
      refine hVQ _ _ ⟨?_, rfl⟩
      rw [Nat.min_eq_right h6]
    · have e1 := hT.1 p hp
      have e2 := hT.2.1 p hp
      by_cases hpn : p < tny t
      · rw [if_pos hpn] at e1
        rw [show min (p + 1) (tny t) = p + 1 by omega] at ih
        rw [show min p (tny t) = p by omega]
        refine sX5_light_4 _ _ _ _ _ ?_
        simp (disch := omega) only [oAld, oAld1, oBin, oGR, oIfc, oIld, oInc, oIst, oNop, oPush, oRI, hW.k, hW.r0, hW.t0, hW.n0, hW.r1, hW.t1, hW.n1, e1, e2, i_add0, List.getElem?_cons_zero, List.getElem?_cons_succ, List.set_cons_zero, List.set_cons_succ, List.drop_succ_cons, List.drop_zero, List.take_succ_cons, List.take_zero, List.length_cons, List.length_nil, List.reverse_cons, List.reverse_nil, List.nil_append, List.cons_append, Option.toList_some, Option.toList_none, va_rf_s, true_and, and_true, true_implies, false_implies, not_true_eq_false, not_false_eq_true, Nat.reduceAdd, Nat.reduceLeDiff, Nat.le_add_left, Nat.zero_le, Nat.le_refl, znew, true_or, or_true, b01_t, b01_f, b01_ok, bool_ft, vp_b01, vp_b0, vp_b1, b01_eq0, b01_eq1, implies_true, nI_add, nI_clamp, zi_in, zi_le_t, zi_le_f, zi_lt_t, zi_lt_f, zi_eq_t, zi_eq_f, nI_leI, nI_ltI, nI_eq, z_in, pk_mul, zu_same, zu_rw, zu_ix, zi_ne0, zi_sub, zi_m1, Nat.add_sub_cancel, Nat.reduceMul, Nat.reduceSub]
        refine ⟨fun hq => ?_, fun hq => ?_⟩
        · rw [lightF, if_pos hq] at ih; exact ih
        · rw [lightF, if_neg hq] at ih; exact ih
      · rw [if_neg hpn] at e1
        rw [show min (p + 1) (tny t) = min p (tny t) by omega] at ih
        have hne : ((-1 : Int32) = c) = False := eq_false (fun e => hc e.symm)
        refine sX5_light_4 _ _ _ _ _ ?_
        simp (disch := omega) only [oAld, oAld1, oBin, oGR, oIfc, oIld, oInc, oIst, oNop, oPush, oRI, hW.k, hW.r0, hW.t0, hW.n0, hW.r1, hW.t1, hW.n1, e1, hne, i_add0, List.getElem?_cons_zero, List.getElem?_cons_succ, List.set_cons_zero, List.set_cons_succ, List.drop_succ_cons, List.drop_zero, List.take_succ_cons, List.take_zero, List.length_cons, List.length_nil, List.reverse_cons, List.reverse_nil, List.nil_append, List.cons_append, Option.toList_some, Option.toList_none, va_rf_s, true_and, and_true, true_implies, false_implies, not_true_eq_false, not_false_eq_true, Nat.reduceAdd, Nat.reduceLeDiff, Nat.le_add_left, Nat.zero_le, Nat.le_refl, znew, true_or, or_true, b01_t, b01_f, b01_ok, bool_ft, vp_b01, vp_b0, vp_b1, b01_eq0, b01_eq1, implies_true, nI_add, nI_clamp, zi_in, zi_le_t, zi_le_f, zi_lt_t, zi_lt_f, zi_eq_t, zi_eq_f, nI_leI, nI_ltI, nI_eq, z_in, pk_mul, zu_same, zu_rw, zu_ix, zi_ne0, zi_sub, zi_m1, Nat.add_sub_cancel, Nat.reduceMul, Nat.reduceSub]
        exact ih
  refine sX5_light_0 _ _ _ _ _ ?_
  simp (disch := omega) only [oIst, oPush, List.getElem?_cons_zero, List.getElem?_cons_succ, List.set_cons_zero, List.set_cons_succ, List.drop_succ_cons, List.drop_zero, List.take_succ_cons, List.take_zero, List.length_cons, List.length_nil, List.reverse_cons, List.reverse_nil, List.nil_append, List.cons_append, Option.toList_some, Option.toList_none, va_rf_s, true_and, and_true, true_implies, false_implies, not_true_eq_false, not_false_eq_true, Nat.reduceAdd, Nat.reduceLeDiff, Nat.le_add_left, Nat.zero_le, Nat.le_refl, znew, true_or, or_true, b01_t, b01_f, b01_ok, bool_ft, vp_b01, vp_b0, vp_b1, b01_eq0, b01_eq1, implies_true, nI_add, nI_clamp, zi_in, zi_le_t, zi_le_f, zi_lt_t, zi_lt_f, zi_eq_t, zi_eq_f, nI_leI, nI_ltI, nI_eq, z_in, pk_mul, zu_same, zu_rw, zu_ix, zi_ne0, zi_sub, zi_m1, Nat.add_sub_cancel, Nat.reduceMul, Nat.reduceSub]
  have := loop 0 (by omega)
  rw [Nat.zero_min] at this
  exact this
theorem zX5_who (hW : isTw h w) (hT : tw S w t sd T) (h6 : tny t ≤ 6) (hH : rowH t T) {c : Int32} (hc : c ≠ -1) : zM l E 1 YX5_who [.ref w, .int c] (z, h, S, L) 0 0 (fun r X => r = some (.int (whoR t T c)) ∧ X = (z, h, S, L)) (fun _ _ => False) := by
  unfold whoR
  generalize hp : (fun y => decide (T (12 + y) = nI 0) && decide (T y = c)) = pp
  have hbit : ∀ s, nI 1 <<< (nI s &&& 31) = bitF s := fun s => rfl
  have h6' := hT.2.2.2.2.2.1
  refine zM.go rfl rfl (Nat.le_of_ble_eq_true rfl) (ls := [some (.ref w), some (.int c), none, none]) rfl ?_
  intro V hVl hVE hVd hVc hVs hVQ hVX
  have loop : ∀ p, p ≤ 6 → zW V YX5_who 4 [some (.ref w), some (.int c), some (.int (setF pp (min p (tny t)))), some (.int (nI p))] [] (z, h, S, L) 0 0 := by
    refine z_down ?_ (fun p hp' ih => ?_)
    · refine sX5_who_4 _ _ _ _ _ ?_
      simp (disch := omega) only [oAld, oAld1, oBin, oCV, oGR, oIfc, oIld, oInc, oIst, oNop, oPush, oRI, hW.k, hW.r0, hW.t0, hW.n0, List.getElem?_cons_zero, List.getElem?_cons_succ, List.set_cons_zero, List.set_cons_succ, List.drop_succ_cons, List.drop_zero, List.take_succ_cons, List.take_zero, List.length_cons, List.length_nil, List.reverse_cons, List.reverse_nil, List.nil_append, List.cons_append, Option.toList_some, Option.toList_none, va_rf_s, true_and, and_true, true_implies, false_implies, not_true_eq_false, not_false_eq_true, Nat.reduceAdd, Nat.reduceLeDiff, Nat.le_add_left, Nat.zero_le, Nat.le_refl, znew, true_or, or_true, b01_t, b01_f, b01_ok, bool_ft, vp_b01, vp_b0, vp_b1, b01_eq0, b01_eq1, implies_true, nI_add, nI_clamp, zi_in, zi_le_t, zi_le_f, zi_lt_t, zi_lt_f, zi_eq_t, zi_eq_f, nI_leI, nI_ltI, nI_eq, z_in, pk_mul, zu_same, zu_rw, zu_ix, zi_ne0, zi_sub, zi_m1, Nat.add_sub_cancel, Nat.reduceMul, Nat.reduceSub]
      refine hVQ _ _ ⟨?_, rfl⟩
      rw [Nat.min_eq_right h6]
    · have e1 := hT.1 p hp'
      by_cases hpn : p < tny t
      · rw [if_pos hpn] at e1
        rw [show min (p + 1) (tny t) = p + 1 by omega] at ih
        rw [show min p (tny t) = p by omega]
        refine sX5_who_4 _ _ _ _ _ ?_
        simp (disch := omega) only [oAld, oAld1, oBin, oCV, oGR, oIfc, oIld, oInc, oIst, oNop, oPush, oRI, hW.k, hW.r0, hW.t0, hW.n0, e1, i_or0, List.getElem?_cons_zero, List.getElem?_cons_succ, List.set_cons_zero, List.set_cons_succ, List.drop_succ_cons, List.drop_zero, List.take_succ_cons, List.take_zero, List.length_cons, List.length_nil, List.reverse_cons, List.reverse_nil, List.nil_append, List.cons_append, Option.toList_some, Option.toList_none, va_rf_s, true_and, and_true, true_implies, false_implies, not_true_eq_false, not_false_eq_true, Nat.reduceAdd, Nat.reduceLeDiff, Nat.le_add_left, Nat.zero_le, Nat.le_refl, znew, true_or, or_true, b01_t, b01_f, b01_ok, bool_ft, vp_b01, vp_b0, vp_b1, b01_eq0, b01_eq1, implies_true, nI_add, nI_clamp, zi_in, zi_le_t, zi_le_f, zi_lt_t, zi_lt_f, zi_eq_t, zi_eq_f, nI_leI, nI_ltI, nI_eq, z_in, pk_mul, zu_same, zu_rw, zu_ix, zi_ne0, zi_sub, zi_m1, Nat.add_sub_cancel, Nat.reduceMul, Nat.reduceSub]
        refine ⟨fun hq => ?_, fun hq => ?_⟩
        · refine zC.of0 (zX5_isHome hW (by omega)) (by omega) (Nat.zero_le _) (Nat.zero_le _) ?_
          rintro _ _ ⟨rfl, rfl⟩
          rw [h6', bt_home h6 (by omega)]
          cases hh : hmB t T p with
          | false =>
            rw [hmB_out hpn hH] at hh
            refine sX5_who_26 _ _ _ _ _ ?_
            simp (disch := omega) only [oBin, oIf, oIld, oInc, oIst, oNop, oPush, hbit, List.getElem?_cons_zero, List.getElem?_cons_succ, List.set_cons_zero, List.set_cons_succ, List.drop_succ_cons, List.drop_zero, List.take_succ_cons, List.take_zero, List.length_cons, List.length_nil, List.reverse_cons, List.reverse_nil, List.nil_append, List.cons_append, Option.toList_some, Option.toList_none, va_rf_s, true_and, and_true, true_implies, false_implies, not_true_eq_false, not_false_eq_true, Nat.reduceAdd, Nat.reduceLeDiff, Nat.le_add_left, Nat.zero_le, Nat.le_refl, znew, true_or, or_true, b01_t, b01_f, b01_ok, bool_ft, vp_b01, vp_b0, vp_b1, b01_eq0, b01_eq1, implies_true, nI_add, nI_clamp, zi_in, zi_le_t, zi_le_f, zi_lt_t, zi_lt_f, zi_eq_t, zi_eq_f, nI_leI, nI_ltI, nI_eq, z_in, pk_mul, zu_same, zu_rw, zu_ix, zi_ne0, zi_sub, zi_m1, Nat.add_sub_cancel, Nat.reduceMul, Nat.reduceSub]
            rw [setF_t (by rw [← hp]; simp [hh, hq])] at ih
            exact ih
          | true =>
            have hh' : ¬ T (12 + p) = nI 0 := by
              rw [← hmB_out hpn hH]; rw [hh]; decide
            refine sX5_who_26 _ _ _ _ _ ?_
            simp (disch := omega) only [oBin, oIf, oIld, oInc, oIst, oNop, oPush, i_or0, List.getElem?_cons_zero, List.getElem?_cons_succ, List.set_cons_zero, List.set_cons_succ, List.drop_succ_cons, List.drop_zero, List.take_succ_cons, List.take_zero, List.length_cons, List.length_nil, List.reverse_cons, List.reverse_nil, List.nil_append, List.cons_append, Option.toList_some, Option.toList_none, va_rf_s, true_and, and_true, true_implies, false_implies, not_true_eq_false, not_false_eq_true, Nat.reduceAdd, Nat.reduceLeDiff, Nat.le_add_left, Nat.zero_le, Nat.le_refl, znew, true_or, or_true, b01_t, b01_f, b01_ok, bool_ft, vp_b01, vp_b0, vp_b1, b01_eq0, b01_eq1, implies_true, nI_add, nI_clamp, zi_in, zi_le_t, zi_le_f, zi_lt_t, zi_lt_f, zi_eq_t, zi_eq_f, nI_leI, nI_ltI, nI_eq, z_in, pk_mul, zu_same, zu_rw, zu_ix, zi_ne0, zi_sub, zi_m1, Nat.add_sub_cancel, Nat.reduceMul, Nat.reduceSub]
            rw [setF_f (by rw [← hp]; simp [hh'])] at ih
            exact ih
        · rw [setF_f (by rw [← hp]; simp [hq])] at ih
          exact ih
      · rw [if_neg hpn] at e1
        rw [show min (p + 1) (tny t) = min p (tny t) by omega] at ih
        have hne : ((-1 : Int32) = c) = False := eq_false (fun e => hc e.symm)
        refine sX5_who_4 _ _ _ _ _ ?_
        simp (disch := omega) only [oAld, oAld1, oBin, oCV, oGR, oIfc, oIld, oInc, oIst, oNop, oPush, oRI, hW.k, hW.r0, hW.t0, hW.n0, e1, hne, i_or0, List.getElem?_cons_zero, List.getElem?_cons_succ, List.set_cons_zero, List.set_cons_succ, List.drop_succ_cons, List.drop_zero, List.take_succ_cons, List.take_zero, List.length_cons, List.length_nil, List.reverse_cons, List.reverse_nil, List.nil_append, List.cons_append, Option.toList_some, Option.toList_none, va_rf_s, true_and, and_true, true_implies, false_implies, not_true_eq_false, not_false_eq_true, Nat.reduceAdd, Nat.reduceLeDiff, Nat.le_add_left, Nat.zero_le, Nat.le_refl, znew, true_or, or_true, b01_t, b01_f, b01_ok, bool_ft, vp_b01, vp_b0, vp_b1, b01_eq0, b01_eq1, implies_true, nI_add, nI_clamp, zi_in, zi_le_t, zi_le_f, zi_lt_t, zi_lt_f, zi_eq_t, zi_eq_f, nI_leI, nI_ltI, nI_eq, z_in, pk_mul, zu_same, zu_rw, zu_ix, zi_ne0, zi_sub, zi_m1, Nat.add_sub_cancel, Nat.reduceMul, Nat.reduceSub]
        exact ih
  refine sX5_who_0 _ _ _ _ _ ?_
  simp (disch := omega) only [oIst, oPush, List.getElem?_cons_zero, List.getElem?_cons_succ, List.set_cons_zero, List.set_cons_succ, List.drop_succ_cons, List.drop_zero, List.take_succ_cons, List.take_zero, List.length_cons, List.length_nil, List.reverse_cons, List.reverse_nil, List.nil_append, List.cons_append, Option.toList_some, Option.toList_none, va_rf_s, true_and, and_true, true_implies, false_implies, not_true_eq_false, not_false_eq_true, Nat.reduceAdd, Nat.reduceLeDiff, Nat.le_add_left, Nat.zero_le, Nat.le_refl, znew, true_or, or_true, b01_t, b01_f, b01_ok, bool_ft, vp_b01, vp_b0, vp_b1, b01_eq0, b01_eq1, implies_true, nI_add, nI_clamp, zi_in, zi_le_t, zi_le_f, zi_lt_t, zi_lt_f, zi_eq_t, zi_eq_f, nI_leI, nI_ltI, nI_eq, z_in, pk_mul, zu_same, zu_rw, zu_ix, zi_ne0, zi_sub, zi_m1, Nat.add_sub_cancel, Nat.reduceMul, Nat.reduceSub]
  have := loop 0 (by omega)
  rw [Nat.zero_min] at this
  exact this
theorem nI_nm1 {n : Nat} (hn : n < 2 ^ 31) : nI n ≠ -1 := fun e => by
  have := congrArg Int32.toInt e
  rw [nI_toInt hn] at this
  have h2 : (-1 : Int32).toInt = -1 := by decide
  omega
theorem zX5_needs (hW : isTw h w) (hX : isTx h S ok D ta t q0 A) (hT : tw S w t sd T) {s : Nat} (hs : s < tns t) : zM l E 3 YX5_needs [.ref w, .ref ta, .int (nI s)] (z, h, S, L) 0 0 (fun r X => r = some (.int (needR t T s)) ∧ X = (z, h, S, L)) (fun _ _ => False) := by
  obtain ⟨h7, h10, h6, h5⟩ := hX.b
  obtain ⟨-, s1, s2, s3, s4, s5, s6, -⟩ := hX.st hs
  refine zM.go rfl rfl (Nat.le_of_ble_eq_true rfl) (ls := [some (.ref w), some (.ref ta), some (.int (nI s))]) rfl ?_
  intro V hVl hVE hVd hVc hVs hVQ hVX
  refine sX5_needs_0 _ _ _ _ _ ?_
  simp (disch := omega) only [oAld, oCV, oGR, oIld, oPush, hX.k, hX.r1, hX.z0, hX.z1, hX.z2, hX.z3, List.getElem?_cons_zero, List.getElem?_cons_succ, List.set_cons_zero, List.set_cons_succ, List.drop_succ_cons, List.drop_zero, List.take_succ_cons, List.take_zero, List.length_cons, List.length_nil, List.reverse_cons, List.reverse_nil, List.nil_append, List.cons_append, Option.toList_some, Option.toList_none, va_rf_s, true_and, and_true, true_implies, false_implies, not_true_eq_false, not_false_eq_true, Nat.reduceAdd, Nat.reduceLeDiff, Nat.le_add_left, Nat.zero_le, Nat.le_refl, znew, true_or, or_true, b01_t, b01_f, b01_ok, bool_ft, vp_b01, vp_b0, vp_b1, b01_eq0, b01_eq1, implies_true, nI_add, nI_clamp, zi_in, zi_le_t, zi_le_f, zi_lt_t, zi_lt_f, zi_eq_t, zi_eq_f, nI_leI, nI_ltI, nI_eq, z_in, pk_mul, zu_same, zu_rw, zu_ix, zi_ne0, zi_sub, zi_m1, Nat.add_sub_cancel, Nat.reduceMul, Nat.reduceSub]
  refine zC.of0 (zJ5_get hX.l1 hs) (by omega) (Nat.zero_le _) (Nat.zero_le _) ?_
  rintro _ _ ⟨rfl, rfl⟩
  refine sX5_needs_9 _ _ _ _ _ ?_
  simp (disch := omega) only [oAld, oCV, oCast, oGI, oGR, oIld, hX.k, hX.r1, hX.z0, hX.z1, hX.z2, hX.z3, s1, s4, List.getElem?_cons_zero, List.getElem?_cons_succ, List.set_cons_zero, List.set_cons_succ, List.drop_succ_cons, List.drop_zero, List.take_succ_cons, List.take_zero, List.length_cons, List.length_nil, List.reverse_cons, List.reverse_nil, List.nil_append, List.cons_append, Option.toList_some, Option.toList_none, va_rf_s, true_and, and_true, true_implies, false_implies, not_true_eq_false, not_false_eq_true, Nat.reduceAdd, Nat.reduceLeDiff, Nat.le_add_left, Nat.zero_le, Nat.le_refl, znew, true_or, or_true, b01_t, b01_f, b01_ok, bool_ft, vp_b01, vp_b0, vp_b1, b01_eq0, b01_eq1, implies_true, nI_add, nI_clamp, zi_in, zi_le_t, zi_le_f, zi_lt_t, zi_lt_f, zi_eq_t, zi_eq_f, nI_leI, nI_ltI, nI_eq, z_in, pk_mul, zu_same, zu_rw, zu_ix, zi_ne0, zi_sub, zi_m1, Nat.add_sub_cancel, Nat.reduceMul, Nat.reduceSub]
  refine zC.of0 (zJ5_get hX.l1 hs) (by omega) (Nat.zero_le _) (Nat.zero_le _) ?_
  rintro _ _ ⟨rfl, rfl⟩
  refine sX5_needs_24 _ _ _ _ _ ?_
  simp (disch := omega) only [oCV, oCast, oGI, hW.k, s1, s2, List.getElem?_cons_zero, List.getElem?_cons_succ, List.set_cons_zero, List.set_cons_succ, List.drop_succ_cons, List.drop_zero, List.take_succ_cons, List.take_zero, List.length_cons, List.length_nil, List.reverse_cons, List.reverse_nil, List.nil_append, List.cons_append, Option.toList_some, Option.toList_none, va_rf_s, true_and, and_true, true_implies, false_implies, not_true_eq_false, not_false_eq_true, Nat.reduceAdd, Nat.reduceLeDiff, Nat.le_add_left, Nat.zero_le, Nat.le_refl, znew, true_or, or_true, b01_t, b01_f, b01_ok, bool_ft, vp_b01, vp_b0, vp_b1, b01_eq0, b01_eq1, implies_true, nI_add, nI_clamp, zi_in, zi_le_t, zi_le_f, zi_lt_t, zi_lt_f, zi_eq_t, zi_eq_f, nI_leI, nI_ltI, nI_eq, z_in, pk_mul, zu_same, zu_rw, zu_ix, zi_ne0, zi_sub, zi_m1, Nat.add_sub_cancel, Nat.reduceMul, Nat.reduceSub]
  refine zC.of0 (zX5_light hW hT h6 (nI_nm1 (by omega))) (by omega) (Nat.zero_le _) (Nat.zero_le _) ?_
  rintro _ _ ⟨rfl, rfl⟩
  refine sX5_needs_33 _ _ _ _ _ ?_
  simp (disch := omega) only [oAld, oBin, oCV, oGR, oIld, hX.k, hX.r1, hX.z0, hX.z1, hX.z2, hX.z3, List.getElem?_cons_zero, List.getElem?_cons_succ, List.set_cons_zero, List.set_cons_succ, List.drop_succ_cons, List.drop_zero, List.take_succ_cons, List.take_zero, List.length_cons, List.length_nil, List.reverse_cons, List.reverse_nil, List.nil_append, List.cons_append, Option.toList_some, Option.toList_none, va_rf_s, true_and, and_true, true_implies, false_implies, not_true_eq_false, not_false_eq_true, Nat.reduceAdd, Nat.reduceLeDiff, Nat.le_add_left, Nat.zero_le, Nat.le_refl, znew, true_or, or_true, b01_t, b01_f, b01_ok, bool_ft, vp_b01, vp_b0, vp_b1, b01_eq0, b01_eq1, implies_true, nI_add, nI_clamp, zi_in, zi_le_t, zi_le_f, zi_lt_t, zi_lt_f, zi_eq_t, zi_eq_f, nI_leI, nI_ltI, nI_eq, z_in, pk_mul, zu_same, zu_rw, zu_ix, zi_ne0, zi_sub, zi_m1, Nat.add_sub_cancel, Nat.reduceMul, Nat.reduceSub]
  refine zC.of0 (zJ5_get hX.l1 hs) (by omega) (Nat.zero_le _) (Nat.zero_le _) ?_
  rintro _ _ ⟨rfl, rfl⟩
  refine sX5_needs_43 _ _ _ _ _ ?_
  simp (disch := omega) only [oCV, oCast, oGI, hW.k, s1, s3, List.getElem?_cons_zero, List.getElem?_cons_succ, List.set_cons_zero, List.set_cons_succ, List.drop_succ_cons, List.drop_zero, List.take_succ_cons, List.take_zero, List.length_cons, List.length_nil, List.reverse_cons, List.reverse_nil, List.nil_append, List.cons_append, Option.toList_some, Option.toList_none, va_rf_s, true_and, and_true, true_implies, false_implies, not_true_eq_false, not_false_eq_true, Nat.reduceAdd, Nat.reduceLeDiff, Nat.le_add_left, Nat.zero_le, Nat.le_refl, znew, true_or, or_true, b01_t, b01_f, b01_ok, bool_ft, vp_b01, vp_b0, vp_b1, b01_eq0, b01_eq1, implies_true, nI_add, nI_clamp, zi_in, zi_le_t, zi_le_f, zi_lt_t, zi_lt_f, zi_eq_t, zi_eq_f, nI_leI, nI_ltI, nI_eq, z_in, pk_mul, zu_same, zu_rw, zu_ix, zi_ne0, zi_sub, zi_m1, Nat.add_sub_cancel, Nat.reduceMul, Nat.reduceSub]
  refine zC.of0 (zX5_light hW hT h6 (nI_nm1 (by omega))) (by omega) (Nat.zero_le _) (Nat.zero_le _) ?_
  rintro _ _ ⟨rfl, rfl⟩
  refine sX5_needs_52 (by omega) _ _ _ _ _ ?_
  simp (disch := omega) only [oBin, oM2, oRI, List.getElem?_cons_zero, List.getElem?_cons_succ, List.set_cons_zero, List.set_cons_succ, List.drop_succ_cons, List.drop_zero, List.take_succ_cons, List.take_zero, List.length_cons, List.length_nil, List.reverse_cons, List.reverse_nil, List.nil_append, List.cons_append, Option.toList_some, Option.toList_none, va_rf_s, true_and, and_true, true_implies, false_implies, not_true_eq_false, not_false_eq_true, Nat.reduceAdd, Nat.reduceLeDiff, Nat.le_add_left, Nat.zero_le, Nat.le_refl, znew, true_or, or_true, b01_t, b01_f, b01_ok, bool_ft, vp_b01, vp_b0, vp_b1, b01_eq0, b01_eq1, implies_true, nI_add, nI_clamp, zi_in, zi_le_t, zi_le_f, zi_lt_t, zi_lt_f, zi_eq_t, zi_eq_f, nI_leI, nI_ltI, nI_eq, z_in, pk_mul, zu_same, zu_rw, zu_ix, zi_ne0, zi_sub, zi_m1, Nat.add_sub_cancel, Nat.reduceMul, Nat.reduceSub]
  refine hVQ _ _ ⟨?_, rfl⟩
  rw [maxF_need]; rfl
theorem zX5_lit (hW : isTw h w) (hX : isTx h S ok D ta t q0 A) (hT : tw S w t sd T) (hI : rI t T) (hTI : tI t) : zM l E 4 YX5_lit [.ref w, .ref ta] (z, h, S, L) 0 0 (fun r X => r = some (.int (litR t T)) ∧ X = (z, h, S, L)) (fun _ _ => False) := by
  obtain ⟨h7, h10, h6, h5⟩ := hX.b
  have key : ∀ s, s < tns t → (needR t T s = nI 0) = (tlo t s ≤ lightF (tny t) T (nI (tone t s)) + lightF (tny t) T (nI (toth t s))) := by
    intro s hs
    obtain ⟨n, e, h1, h2⟩ := hTI.1 s hs
    obtain ⟨k1, e1, hk1⟩ := lightF_N (c := nI (tone t s)) h6 hI.gl
    obtain ⟨k2, e2, hk2⟩ := lightF_N (c := nI (toth t s)) h6 hI.gl
    unfold needR
    rw [e, e1, e2, need_0 (by omega) (by omega) (by omega)]
  unfold litR
  generalize hp : (fun s => decide (tlo t s ≤ lightF (tny t) T (nI (tone t s)) + lightF (tny t) T (nI (toth t s)))) = pp
  have hbit : ∀ s, nI 1 <<< (nI s &&& 31) = bitF s := fun s => rfl
  refine zM.go rfl rfl (Nat.le_of_ble_eq_true rfl) (ls := [some (.ref w), some (.ref ta), none, none]) rfl ?_
  intro V hVl hVE hVd hVc hVs hVQ hVX
  have loop : ∀ s, s ≤ tns t → zW V YX5_lit 4 [some (.ref w), some (.ref ta), some (.int (setF pp s)), some (.int (nI s))] [] (z, h, S, L) 0 0 := by
    refine z_down ?_ (fun s hs ih => ?_)
    · refine sX5_lit_4 _ _ _ _ _ ?_
      simp (disch := omega) only [oAld, oCV, oGR, oIld, hX.k, hX.r1, hX.z0, hX.z1, hX.z2, hX.z3, List.getElem?_cons_zero, List.getElem?_cons_succ, List.set_cons_zero, List.set_cons_succ, List.drop_succ_cons, List.drop_zero, List.take_succ_cons, List.take_zero, List.length_cons, List.length_nil, List.reverse_cons, List.reverse_nil, List.nil_append, List.cons_append, Option.toList_some, Option.toList_none, va_rf_s, true_and, and_true, true_implies, false_implies, not_true_eq_false, not_false_eq_true, Nat.reduceAdd, Nat.reduceLeDiff, Nat.le_add_left, Nat.zero_le, Nat.le_refl, znew, true_or, or_true, b01_t, b01_f, b01_ok, bool_ft, vp_b01, vp_b0, vp_b1, b01_eq0, b01_eq1, implies_true, nI_add, nI_clamp, zi_in, zi_le_t, zi_le_f, zi_lt_t, zi_lt_f, zi_eq_t, zi_eq_f, nI_leI, nI_ltI, nI_eq, z_in, pk_mul, zu_same, zu_rw, zu_ix, zi_ne0, zi_sub, zi_m1, Nat.add_sub_cancel, Nat.reduceMul, Nat.reduceSub]
      refine zC.of0 (zJ5_size hX.l1) (by omega) (Nat.zero_le _) (Nat.zero_le _) ?_
      rintro _ _ ⟨rfl, rfl⟩
      refine sX5_lit_12 _ _ _ _ _ ?_
      simp (disch := omega) only [oAld, oCV, oIfc, oIld, oRI, hW.k, List.getElem?_cons_zero, List.getElem?_cons_succ, List.set_cons_zero, List.set_cons_succ, List.drop_succ_cons, List.drop_zero, List.take_succ_cons, List.take_zero, List.length_cons, List.length_nil, List.reverse_cons, List.reverse_nil, List.nil_append, List.cons_append, Option.toList_some, Option.toList_none, va_rf_s, true_and, and_true, true_implies, false_implies, not_true_eq_false, not_false_eq_true, Nat.reduceAdd, Nat.reduceLeDiff, Nat.le_add_left, Nat.zero_le, Nat.le_refl, znew, true_or, or_true, b01_t, b01_f, b01_ok, bool_ft, vp_b01, vp_b0, vp_b1, b01_eq0, b01_eq1, implies_true, nI_add, nI_clamp, zi_in, zi_le_t, zi_le_f, zi_lt_t, zi_lt_f, zi_eq_t, zi_eq_f, nI_leI, nI_ltI, nI_eq, z_in, pk_mul, zu_same, zu_rw, zu_ix, zi_ne0, zi_sub, zi_m1, Nat.add_sub_cancel, Nat.reduceMul, Nat.reduceSub]
      exact hVQ _ _ ⟨rfl, rfl⟩
    · refine sX5_lit_4 _ _ _ _ _ ?_
      simp (disch := omega) only [oAld, oCV, oGR, oIld, hX.k, hX.r1, hX.z0, hX.z1, hX.z2, hX.z3, List.getElem?_cons_zero, List.getElem?_cons_succ, List.set_cons_zero, List.set_cons_succ, List.drop_succ_cons, List.drop_zero, List.take_succ_cons, List.take_zero, List.length_cons, List.length_nil, List.reverse_cons, List.reverse_nil, List.nil_append, List.cons_append, Option.toList_some, Option.toList_none, va_rf_s, true_and, and_true, true_implies, false_implies, not_true_eq_false, not_false_eq_true, Nat.reduceAdd, Nat.reduceLeDiff, Nat.le_add_left, Nat.zero_le, Nat.le_refl, znew, true_or, or_true, b01_t, b01_f, b01_ok, bool_ft, vp_b01, vp_b0, vp_b1, b01_eq0, b01_eq1, implies_true, nI_add, nI_clamp, zi_in, zi_le_t, zi_le_f, zi_lt_t, zi_lt_f, zi_eq_t, zi_eq_f, nI_leI, nI_ltI, nI_eq, z_in, pk_mul, zu_same, zu_rw, zu_ix, zi_ne0, zi_sub, zi_m1, Nat.add_sub_cancel, Nat.reduceMul, Nat.reduceSub]
      refine zC.of0 (zJ5_size hX.l1) (by omega) (Nat.zero_le _) (Nat.zero_le _) ?_
      rintro _ _ ⟨rfl, rfl⟩
      refine sX5_lit_12 _ _ _ _ _ ?_
      simp (disch := omega) only [oAld, oCV, oIfc, oIld, oRI, hW.k, List.getElem?_cons_zero, List.getElem?_cons_succ, List.set_cons_zero, List.set_cons_succ, List.drop_succ_cons, List.drop_zero, List.take_succ_cons, List.take_zero, List.length_cons, List.length_nil, List.reverse_cons, List.reverse_nil, List.nil_append, List.cons_append, Option.toList_some, Option.toList_none, va_rf_s, true_and, and_true, true_implies, false_implies, not_true_eq_false, not_false_eq_true, Nat.reduceAdd, Nat.reduceLeDiff, Nat.le_add_left, Nat.zero_le, Nat.le_refl, znew, true_or, or_true, b01_t, b01_f, b01_ok, bool_ft, vp_b01, vp_b0, vp_b1, b01_eq0, b01_eq1, implies_true, nI_add, nI_clamp, zi_in, zi_le_t, zi_le_f, zi_lt_t, zi_lt_f, zi_eq_t, zi_eq_f, nI_leI, nI_ltI, nI_eq, z_in, pk_mul, zu_same, zu_rw, zu_ix, zi_ne0, zi_sub, zi_m1, Nat.add_sub_cancel, Nat.reduceMul, Nat.reduceSub]
      refine zC.of0 (zX5_needs hW hX hT hs) (by omega) (Nat.zero_le _) (Nat.zero_le _) ?_
      rintro _ _ ⟨rfl, rfl⟩
      by_cases hn : needR t T s = nI 0
      · have hn' : (needR t T s = nI 0) = True := eq_true hn
        refine sX5_lit_22 _ _ _ _ _ ?_
        simp (disch := omega) only [oBin, oIf, oIld, oInc, oIst, oNop, oPush, hn', hbit, List.getElem?_cons_zero, List.getElem?_cons_succ, List.set_cons_zero, List.set_cons_succ, List.drop_succ_cons, List.drop_zero, List.take_succ_cons, List.take_zero, List.length_cons, List.length_nil, List.reverse_cons, List.reverse_nil, List.nil_append, List.cons_append, Option.toList_some, Option.toList_none, va_rf_s, true_and, and_true, true_implies, false_implies, not_true_eq_false, not_false_eq_true, Nat.reduceAdd, Nat.reduceLeDiff, Nat.le_add_left, Nat.zero_le, Nat.le_refl, znew, true_or, or_true, b01_t, b01_f, b01_ok, bool_ft, vp_b01, vp_b0, vp_b1, b01_eq0, b01_eq1, implies_true, nI_add, nI_clamp, zi_in, zi_le_t, zi_le_f, zi_lt_t, zi_lt_f, zi_eq_t, zi_eq_f, nI_leI, nI_ltI, nI_eq, z_in, pk_mul, zu_same, zu_rw, zu_ix, zi_ne0, zi_sub, zi_m1, Nat.add_sub_cancel, Nat.reduceMul, Nat.reduceSub]
        rw [key s hs] at hn
        rw [setF_t (by rw [← hp]; exact decide_eq_true hn)] at ih
        exact ih
      · have hn' : (needR t T s = nI 0) = False := eq_false hn
        refine sX5_lit_22 _ _ _ _ _ ?_
        simp (disch := omega) only [oBin, oIf, oIld, oInc, oIst, oNop, oPush, hn', i_or0, List.getElem?_cons_zero, List.getElem?_cons_succ, List.set_cons_zero, List.set_cons_succ, List.drop_succ_cons, List.drop_zero, List.take_succ_cons, List.take_zero, List.length_cons, List.length_nil, List.reverse_cons, List.reverse_nil, List.nil_append, List.cons_append, Option.toList_some, Option.toList_none, va_rf_s, true_and, and_true, true_implies, false_implies, not_true_eq_false, not_false_eq_true, Nat.reduceAdd, Nat.reduceLeDiff, Nat.le_add_left, Nat.zero_le, Nat.le_refl, znew, true_or, or_true, b01_t, b01_f, b01_ok, bool_ft, vp_b01, vp_b0, vp_b1, b01_eq0, b01_eq1, implies_true, nI_add, nI_clamp, zi_in, zi_le_t, zi_le_f, zi_lt_t, zi_lt_f, zi_eq_t, zi_eq_f, nI_leI, nI_ltI, nI_eq, z_in, pk_mul, zu_same, zu_rw, zu_ix, zi_ne0, zi_sub, zi_m1, Nat.add_sub_cancel, Nat.reduceMul, Nat.reduceSub]
        rw [key s hs] at hn
        rw [setF_f (by rw [← hp]; simpa using hn)] at ih
        exact ih
  refine sX5_lit_0 _ _ _ _ _ ?_
  simp (disch := omega) only [oIst, oPush, List.getElem?_cons_zero, List.getElem?_cons_succ, List.set_cons_zero, List.set_cons_succ, List.drop_succ_cons, List.drop_zero, List.take_succ_cons, List.take_zero, List.length_cons, List.length_nil, List.reverse_cons, List.reverse_nil, List.nil_append, List.cons_append, Option.toList_some, Option.toList_none, va_rf_s, true_and, and_true, true_implies, false_implies, not_true_eq_false, not_false_eq_true, Nat.reduceAdd, Nat.reduceLeDiff, Nat.le_add_left, Nat.zero_le, Nat.le_refl, znew, true_or, or_true, b01_t, b01_f, b01_ok, bool_ft, vp_b01, vp_b0, vp_b1, b01_eq0, b01_eq1, implies_true, nI_add, nI_clamp, zi_in, zi_le_t, zi_le_f, zi_lt_t, zi_lt_f, zi_eq_t, zi_eq_f, nI_leI, nI_ltI, nI_eq, z_in, pk_mul, zu_same, zu_rw, zu_ix, zi_ne0, zi_sub, zi_m1, Nat.add_sub_cancel, Nat.reduceMul, Nat.reduceSub]
  exact loop 0 (by omega)
end CD
