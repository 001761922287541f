/-! the model: a text is cut up, the whole -/
section MU
variable {l : Launch} {E : zE} {b z : Nat} {h : Nat → Option zSh} {S : Nat → Nat → Int32} {L : Nat → Nat → Int64} {P : List Int32} {K : List zTk}
/-- a number -/
theorem zX10_cu_num {l : Launch} {E : zE} {V : zV} (hVl : V.1 = l) (hVE : V.2.1 = E) (hVd : V.2.2.1 = 2) (hM : isM h b) (hT : mTx b S P) (hK : mTK b S L K) (hKl : K.length ≤ 400) {i : Nat} (hi : i < P.length) (hL : isL (by8 P i) = false) (hD : isD (by8 P i) = true)
    (hn : ∀ S' L' x2 x3 x4 x5 x6 x7, mCu b S S' L L' → mTK b S' L' (K ++ [(tkO P i).1]) → zW V YX10_cutsUp 7 [some (.ref b), some (.int (nI (tkO P i).2)), x2, x3, x4, x5, x6, x7] [] (z, h, S', L') 0 0) (x2 x5 x6 x7 : Option Value) :
    zW V YX10_cutsUp 208 [some (.ref b), some (.int (nI i)), x2, some (.int (nI 0)), some (.int (nI 0)), x5, x6, x7] [] (z, h, S, L) 0 0 := by
  have hP := hT.2.1
  have hr := runD_le P i
  have h0l : (0 : Int64) = lN (hsL []) := rfl
  have hin : ∀ j, j < runD P i → isD (by8 P (i + j)) = true := fun j hj => run_in (p := fun j => isD (by8 P j)) hj
  have htk : tkO P i = ((if 4 < runD P i then 3 else 2, i, dgV P i (min (runD P i) 4), []), i + runD P i) := by rw [tkO, if_neg (by rw [hL]; decide), if_pos hD]
  rw [htk] at hn
  have loop : ∀ n, n ≤ runD P i → zW V YX10_cutsUp 208 [some (.ref b), some (.int (nI i)), x2, some (.int (nI n)), some (.int (nI (dgV P i (min n 4)))), x5, x6, x7] [] (z, h, S, L) 0 0 := by
    refine z_down ?_ (fun n hnr ih => ?_)
    · have he := runD_end P i
      refine sX10_cutsUp_208 _ _ _ _ _ ?_
      simp (disch := omega) only [oAld, oBin, oCV, oIld, hM.1, List.getElem?_cons_zero, List.getElem?_cons_succ, List.set_cons_zero, List.set_cons_succ, List.drop_succ_cons, List.drop_zero, List.take_succ_cons, List.take_zero, List.length_cons, List.length_nil, List.reverse_cons, List.reverse_nil, List.nil_append, List.cons_append, Option.toList_some, Option.toList_none, va_rf_s, true_and, and_true, true_implies, false_implies, not_true_eq_false, not_false_eq_true, Nat.reduceAdd, Nat.reduceLeDiff, Nat.le_add_left, Nat.zero_le, Nat.le_refl, znew, true_or, or_true, b01_t, b01_f, b01_ok, bool_ft, vp_b01, vp_b0, vp_b1, b01_eq0, b01_eq1, implies_true, nI_add, nI_clamp, zi_in, zi_le_t, zi_le_f, zi_lt_t, zi_lt_f, zi_eq_t, zi_eq_f, nI_leI, nI_ltI, nI_eq, z_in, pk_mul, zu_same, zu_rw, zu_ix, zi_ne0, zi_sub, zi_m1, Nat.add_sub_cancel, Nat.reduceMul, Nat.reduceSub]
      refine zC.of0 (zX10_byteAt hM hT (by omega)) (by omega) (Nat.zero_le _) (Nat.zero_le _) ?_
      rintro _ _ ⟨rfl, rfl⟩
      refine sX10_cutsUp_215 _ _ _ _ _ ?_
      simp (disch := omega) only [oCS, List.getElem?_cons_zero, List.getElem?_cons_succ, List.set_cons_zero, List.set_cons_succ, List.drop_succ_cons, List.drop_zero, List.take_succ_cons, List.take_zero, List.length_cons, List.length_nil, List.reverse_cons, List.reverse_nil, List.nil_append, List.cons_append, Option.toList_some, Option.toList_none, va_rf_s, true_and, and_true, true_implies, false_implies, not_true_eq_false, not_false_eq_true, Nat.reduceAdd, Nat.reduceLeDiff, Nat.le_add_left, Nat.zero_le, Nat.le_refl, znew, true_or, or_true, b01_t, b01_f, b01_ok, bool_ft, vp_b01, vp_b0, vp_b1, b01_eq0, b01_eq1, implies_true, nI_add, nI_clamp, zi_in, zi_le_t, zi_le_f, zi_lt_t, zi_lt_f, zi_eq_t, zi_eq_f, nI_leI, nI_ltI, nI_eq, z_in, pk_mul, zu_same, zu_rw, zu_ix, zi_ne0, zi_sub, zi_m1, Nat.add_sub_cancel, Nat.reduceMul, Nat.reduceSub]
      refine zC.of0 (zX10_isDigit (by8_lt _ _) _) (by omega) (Nat.zero_le _) (Nat.zero_le _) ?_
      rintro _ _ ⟨rfl, rfl⟩
      rw [he]
      generalize hmin : dgV P i (min (runD P i) 4) = v at hn ⊢
      by_cases h4 : 4 < runD P i
      · rw [if_pos h4] at hn
        refine sX10_cutsUp_218 _ _ _ _ _ ?_
        simp (disch := omega) only [oAld, oBin, oCV, oIf, oIfc, oIld, oInc, oNop, oPush, hM.1, h0l, List.getElem?_cons_zero, List.getElem?_cons_succ, List.set_cons_zero, List.set_cons_succ, List.drop_succ_cons, List.drop_zero, List.take_succ_cons, List.take_zero, List.length_cons, List.length_nil, List.reverse_cons, List.reverse_nil, List.nil_append, List.cons_append, Option.toList_some, Option.toList_none, va_rf_s, true_and, and_true, true_implies, false_implies, not_true_eq_false, not_false_eq_true, Nat.reduceAdd, Nat.reduceLeDiff, Nat.le_add_left, Nat.zero_le, Nat.le_refl, znew, true_or, or_true, b01_t, b01_f, b01_ok, bool_ft, vp_b01, vp_b0, vp_b1, b01_eq0, b01_eq1, implies_true, nI_add, nI_clamp, zi_in, zi_le_t, zi_le_f, zi_lt_t, zi_lt_f, zi_eq_t, zi_eq_f, nI_leI, nI_ltI, nI_eq, z_in, pk_mul, zu_same, zu_rw, zu_ix, zi_ne0, zi_sub, zi_m1, Nat.add_sub_cancel, Nat.reduceMul, Nat.reduceSub]
        refine zC.of0 (zX10_token hM hK hKl _ _ _ _) (by omega) (Nat.zero_le _) (Nat.zero_le _) ?_
        rintro _ _ ⟨rfl, S1, L1, rfl, hf1, hL1, hK1⟩
        refine sX10_cutsUp_268 _ _ _ _ _ ?_
        simp (disch := omega) only [oBin, oIld, oIst, oNop, List.getElem?_cons_zero, List.getElem?_cons_succ, List.set_cons_zero, List.set_cons_succ, List.drop_succ_cons, List.drop_zero, List.take_succ_cons, List.take_zero, List.length_cons, List.length_nil, List.reverse_cons, List.reverse_nil, List.nil_append, List.cons_append, Option.toList_some, Option.toList_none, va_rf_s, true_and, and_true, true_implies, false_implies, not_true_eq_false, not_false_eq_true, Nat.reduceAdd, Nat.reduceLeDiff, Nat.le_add_left, Nat.zero_le, Nat.le_refl, znew, true_or, or_true, b01_t, b01_f, b01_ok, bool_ft, vp_b01, vp_b0, vp_b1, b01_eq0, b01_eq1, implies_true, nI_add, nI_clamp, zi_in, zi_le_t, zi_le_f, zi_lt_t, zi_lt_f, zi_eq_t, zi_eq_f, nI_leI, nI_ltI, nI_eq, z_in, pk_mul, zu_same, zu_rw, zu_ix, zi_ne0, zi_sub, zi_m1, Nat.add_sub_cancel, Nat.reduceMul, Nat.reduceSub]
        exact hn S1 L1 _ _ _ _ _ _ ⟨hf1, hL1⟩ hK1
      · rw [if_neg h4] at hn
        refine sX10_cutsUp_218 _ _ _ _ _ ?_
        simp (disch := omega) only [oAld, oBin, oCV, oIf, oIfc, oIld, oInc, oNop, oPush, hM.1, h0l, List.getElem?_cons_zero, List.getElem?_cons_succ, List.set_cons_zero, List.set_cons_succ, List.drop_succ_cons, List.drop_zero, List.take_succ_cons, List.take_zero, List.length_cons, List.length_nil, List.reverse_cons, List.reverse_nil, List.nil_append, List.cons_append, Option.toList_some, Option.toList_none, va_rf_s, true_and, and_true, true_implies, false_implies, not_true_eq_false, not_false_eq_true, Nat.reduceAdd, Nat.reduceLeDiff, Nat.le_add_left, Nat.zero_le, Nat.le_refl, znew, true_or, or_true, b01_t, b01_f, b01_ok, bool_ft, vp_b01, vp_b0, vp_b1, b01_eq0, b01_eq1, implies_true, nI_add, nI_clamp, zi_in, zi_le_t, zi_le_f, zi_lt_t, zi_lt_f, zi_eq_t, zi_eq_f, nI_leI, nI_ltI, nI_eq, z_in, pk_mul, zu_same, zu_rw, zu_ix, zi_ne0, zi_sub, zi_m1, Nat.add_sub_cancel, Nat.reduceMul, Nat.reduceSub]
        refine zC.of0 (zX10_token hM hK hKl _ _ _ _) (by omega) (Nat.zero_le _) (Nat.zero_le _) ?_
        rintro _ _ ⟨rfl, S1, L1, rfl, hf1, hL1, hK1⟩
        refine sX10_cutsUp_268 _ _ _ _ _ ?_
        simp (disch := omega) only [oBin, oIld, oIst, oNop, List.getElem?_cons_zero, List.getElem?_cons_succ, List.set_cons_zero, List.set_cons_succ, List.drop_succ_cons, List.drop_zero, List.take_succ_cons, List.take_zero, List.length_cons, List.length_nil, List.reverse_cons, List.reverse_nil, List.nil_append, List.cons_append, Option.toList_some, Option.toList_none, va_rf_s, true_and, and_true, true_implies, false_implies, not_true_eq_false, not_false_eq_true, Nat.reduceAdd, Nat.reduceLeDiff, Nat.le_add_left, Nat.zero_le, Nat.le_refl, znew, true_or, or_true, b01_t, b01_f, b01_ok, bool_ft, vp_b01, vp_b0, vp_b1, b01_eq0, b01_eq1, implies_true, nI_add, nI_clamp, zi_in, zi_le_t, zi_le_f, zi_lt_t, zi_lt_f, zi_eq_t, zi_eq_f, nI_leI, nI_ltI, nI_eq, z_in, pk_mul, zu_same, zu_rw, zu_ix, zi_ne0, zi_sub, zi_m1, Nat.add_sub_cancel, Nat.reduceMul, Nat.reduceSub]
        exact hn S1 L1 _ _ _ _ _ _ ⟨hf1, hL1⟩ hK1
    · have he := hin n hnr
      have hl : 48 ≤ by8 P (i + n) ∧ by8 P (i + n) ≤ 57 := by simpa [isD] using he
      refine sX10_cutsUp_208 _ _ _ _ _ ?_
      simp (disch := omega) only [oAld, oBin, oCV, oIld, hM.1, List.getElem?_cons_zero, List.getElem?_cons_succ, List.set_cons_zero, List.set_cons_succ, List.drop_succ_cons, List.drop_zero, List.take_succ_cons, List.take_zero, List.length_cons, List.length_nil, List.reverse_cons, List.reverse_nil, List.nil_append, List.cons_append, Option.toList_some, Option.toList_none, va_rf_s, true_and, and_true, true_implies, false_implies, not_true_eq_false, not_false_eq_true, Nat.reduceAdd, Nat.reduceLeDiff, Nat.le_add_left, Nat.zero_le, Nat.le_refl, znew, true_or, or_true, b01_t, b01_f, b01_ok, bool_ft, vp_b01, vp_b0, vp_b1, b01_eq0, b01_eq1, implies_true, nI_add, nI_clamp, zi_in, zi_le_t, zi_le_f, zi_lt_t, zi_lt_f, zi_eq_t, zi_eq_f, nI_leI, nI_ltI, nI_eq, z_in, pk_mul, zu_same, zu_rw, zu_ix, zi_ne0, zi_sub, zi_m1, Nat.add_sub_cancel, Nat.reduceMul, Nat.reduceSub]
      refine zC.of0 (zX10_byteAt hM hT (by omega)) (by omega) (Nat.zero_le _) (Nat.zero_le _) ?_
      rintro _ _ ⟨rfl, rfl⟩
      refine sX10_cutsUp_215 _ _ _ _ _ ?_
      simp (disch := omega) only [oCS, List.getElem?_cons_zero, List.getElem?_cons_succ, List.set_cons_zero, List.set_cons_succ, List.drop_succ_cons, List.drop_zero, List.take_succ_cons, List.take_zero, List.length_cons, List.length_nil, List.reverse_cons, List.reverse_nil, List.nil_append, List.cons_append, Option.toList_some, Option.toList_none, va_rf_s, true_and, and_true, true_implies, false_implies, not_true_eq_false, not_false_eq_true, Nat.reduceAdd, Nat.reduceLeDiff, Nat.le_add_left, Nat.zero_le, Nat.le_refl, znew, true_or, or_true, b01_t, b01_f, b01_ok, bool_ft, vp_b01, vp_b0, vp_b1, b01_eq0, b01_eq1, implies_true, nI_add, nI_clamp, zi_in, zi_le_t, zi_le_f, zi_lt_t, zi_lt_f, zi_eq_t, zi_eq_f, nI_leI, nI_ltI, nI_eq, z_in, pk_mul, zu_same, zu_rw, zu_ix, zi_ne0, zi_sub, zi_m1, Nat.add_sub_cancel, Nat.reduceMul, Nat.reduceSub]
      refine zC.of0 (zX10_isDigit (by8_lt _ _) _) (by omega) (Nat.zero_le _) (Nat.zero_le _) ?_
      rintro _ _ ⟨rfl, rfl⟩
      rw [he]
      by_cases h4 : n < 4
      · have hv := dgV_lt (P := P) (i := i) n (fun j hj => hin j (by omega))
        have hv2 : dgV P i n < 10000 := Nat.lt_of_lt_of_le hv (Nat.le_trans (Nat.pow_le_pow_right (by omega) (by omega : n ≤ 4)) (by decide))
        rw [show min (n + 1) 4 = n + 1 by omega, dgV] at ih
        rw [show min n 4 = n by omega]
        generalize dgV P i n = v at ih hv2 ⊢
        have e : 10 * v + by8 P (i + n) - 48 = 10 * v + (by8 P (i + n) - 48) := by omega
        refine sX10_cutsUp_218 _ _ _ _ _ ?_
        simp (disch := omega) only [oAld, oBin, oCV, oIf, oIfc, oIld, oInc, oNop, oPush, hM.1, List.getElem?_cons_zero, List.getElem?_cons_succ, List.set_cons_zero, List.set_cons_succ, List.drop_succ_cons, List.drop_zero, List.take_succ_cons, List.take_zero, List.length_cons, List.length_nil, List.reverse_cons, List.reverse_nil, List.nil_append, List.cons_append, Option.toList_some, Option.toList_none, va_rf_s, true_and, and_true, true_implies, false_implies, not_true_eq_false, not_false_eq_true, Nat.reduceAdd, Nat.reduceLeDiff, Nat.le_add_left, Nat.zero_le, Nat.le_refl, znew, true_or, or_true, b01_t, b01_f, b01_ok, bool_ft, vp_b01, vp_b0, vp_b1, b01_eq0, b01_eq1, implies_true, nI_add, nI_clamp, zi_in, zi_le_t, zi_le_f, zi_lt_t, zi_lt_f, zi_eq_t, zi_eq_f, nI_leI, nI_ltI, nI_eq, z_in, pk_mul, zu_same, zu_rw, zu_ix, zi_ne0, zi_sub, zi_m1, Nat.add_sub_cancel, Nat.reduceMul, Nat.reduceSub]
        refine zC.of0 (zX10_byteAt hM hT (by omega)) (by omega) (Nat.zero_le _) (Nat.zero_le _) ?_
        rintro _ _ ⟨rfl, rfl⟩
        refine sX10_cutsUp_238 _ _ _ _ _ ?_
        simp (disch := omega) only [oBin, oInc, oIst, oNop, oPush, e, List.getElem?_cons_zero, List.getElem?_cons_succ, List.set_cons_zero, List.set_cons_succ, List.drop_succ_cons, List.drop_zero, List.take_succ_cons, List.take_zero, List.length_cons, List.length_nil, List.reverse_cons, List.reverse_nil, List.nil_append, List.cons_append, Option.toList_some, Option.toList_none, va_rf_s, true_and, and_true, true_implies, false_implies, not_true_eq_false, not_false_eq_true, Nat.reduceAdd, Nat.reduceLeDiff, Nat.le_add_left, Nat.zero_le, Nat.le_refl, znew, true_or, or_true, b01_t, b01_f, b01_ok, bool_ft, vp_b01, vp_b0, vp_b1, b01_eq0, b01_eq1, implies_true, nI_add, nI_clamp, zi_in, zi_le_t, zi_le_f, zi_lt_t, zi_lt_f, zi_eq_t, zi_eq_f, nI_leI, nI_ltI, nI_eq, z_in, pk_mul, zu_same, zu_rw, zu_ix, zi_ne0, zi_sub, zi_m1, Nat.add_sub_cancel, Nat.reduceMul, Nat.reduceSub]
        exact ih
      · rw [show min (n + 1) 4 = min n 4 by omega] at ih
        refine sX10_cutsUp_218 _ _ _ _ _ ?_
        simp (disch := omega) only [oAld, oBin, oCV, oIf, oIfc, oIld, oInc, oNop, oPush, hM.1, List.getElem?_cons_zero, List.getElem?_cons_succ, List.set_cons_zero, List.set_cons_succ, List.drop_succ_cons, List.drop_zero, List.take_succ_cons, List.take_zero, List.length_cons, List.length_nil, List.reverse_cons, List.reverse_nil, List.nil_append, List.cons_append, Option.toList_some, Option.toList_none, va_rf_s, true_and, and_true, true_implies, false_implies, not_true_eq_false, not_false_eq_true, Nat.reduceAdd, Nat.reduceLeDiff, Nat.le_add_left, Nat.zero_le, Nat.le_refl, znew, true_or, or_true, b01_t, b01_f, b01_ok, bool_ft, vp_b01, vp_b0, vp_b1, b01_eq0, b01_eq1, implies_true, nI_add, nI_clamp, zi_in, zi_le_t, zi_le_f, zi_lt_t, zi_lt_f, zi_eq_t, zi_eq_f, nI_leI, nI_ltI, nI_eq, z_in, pk_mul, zu_same, zu_rw, zu_ix, zi_ne0, zi_sub, zi_m1, Nat.add_sub_cancel, Nat.reduceMul, Nat.reduceSub]
        exact ih
  exact loop 0 (by omega)
theorem mKey.fr {S S' : Nat → Nat → Int32} {L L' : Nat → Nat → Int64} (h : mKey b L) (hc : mCu b S S' L L') : mKey b L' := fun k hk => by rw [hc.2 _ (by omega)]; exact h k hk
theorem tks_len : ∀ f i, (tks P f i).length ≤ f
  | 0, _ => Nat.le_refl _
  | f + 1, i => by
    rw [tks]; split
    · simp
    · split
      · have := tks_len f (i + 1); omega
      · have := tks_len f (tkO P i).2; simp; omega
theorem tkO_next {i : Nat} (hi : i < P.length) : i < (tkO P i).2 ∧ (tkO P i).2 ≤ P.length := by
  unfold tkO
  split
  · rename_i h; have := runL_pos hi h; have := runL_le P i; exact ⟨by show i < i + runL P i; omega, by show i + runL P i ≤ P.length; omega⟩
  · split
    · rename_i h; have := runD_pos hi h; have := runD_le P i; exact ⟨by show i < i + runD P i; omega, by show i + runD P i ≤ P.length; omega⟩
    · exact ⟨by show i < i + 1; omega, by show i + 1 ≤ P.length; omega⟩
theorem mCu.rf {S : Nat → Nat → Int32} {L : Nat → Nat → Int64} : mCu b S S L L := ⟨zfr.rf, fun _ _ => rfl⟩
theorem take_all {α : Type} {A : List α} {n : Nat} (h : A.length ≤ n) : A.take n = A := List.take_of_length_le h
theorem zX10_cutsUp (hM : isM h b) (hT : mTx b S P) (hKey : mKey b L) :
    zM l E 2 YX10_cutsUp [.ref b] (z, h, S, L) 0 0 (fun r X => r = none ∧ ∃ S' L', X = (z, h, S', L') ∧ mCu b S S' L L' ∧ mTK b S' L' ((tkA P).take 401)) (fun _ _ => False) := by
  have hP := hT.2.1
  have h0l : (0 : Int64) = lN (hsL []) := rfl
  refine zM.go rfl rfl (Nat.le_of_ble_eq_true rfl) (ls := [some (.ref b), none, none, none, none, none, none, none]) rfl ?_
  intro V hVl hVE hVd hVc hVs hVQ hVX
  have loop : ∀ f i K S' L' x2 x3 x4 x5 x6 x7, P.length < f + i → i ≤ P.length → tkA P = K ++ tks P f i → K.length ≤ 401 → mCu b S S' L L' → mTK b S' L' K → zW V YX10_cutsUp 7 [some (.ref b), some (.int (nI i)), x2, x3, x4, x5, x6, x7] [] (z, h, S', L') 0 0 := by
    intro f
    induction f with
    | zero => intro i K S' L' x2 x3 x4 x5 x6 x7 h1 h2; omega
    | succ f ih =>
      intro i K S' L' x2 x3 x4 x5 x6 x7 h1 h2 h3 h4 hc hK
      have h10 := hK.1
      have hT' : mTx b S' P := hT.fr hc.1 rfl rfl
      by_cases h401 : K.length = 401
      · refine sX10_cutsUp_7 _ _ _ _ _ ?_
        simp (disch := omega) only [oAld, oCV, oGI, oIfc, oIld, oPush, oRV, hM.1, h10, List.getElem?_cons_zero, List.getElem?_cons_succ, List.set_cons_zero, List.set_cons_succ, List.drop_succ_cons, List.drop_zero, List.take_succ_cons, List.take_zero, List.length_cons, List.length_nil, List.reverse_cons, List.reverse_nil, List.nil_append, List.cons_append, Option.toList_some, Option.toList_none, va_rf_s, true_and, and_true, true_implies, false_implies, not_true_eq_false, not_false_eq_true, Nat.reduceAdd, Nat.reduceLeDiff, Nat.le_add_left, Nat.zero_le, Nat.le_refl, znew, true_or, or_true, b01_t, b01_f, b01_ok, bool_ft, vp_b01, vp_b0, vp_b1, b01_eq0, b01_eq1, implies_true, nI_add, nI_clamp, zi_in, zi_le_t, zi_le_f, zi_lt_t, zi_lt_f, zi_eq_t, zi_eq_f, nI_leI, nI_ltI, nI_eq, z_in, pk_mul, zu_same, zu_rw, zu_ix, zi_ne0, zi_sub, zi_m1, Nat.add_sub_cancel, Nat.reduceMul, Nat.reduceSub]
        refine hVQ _ _ ⟨rfl, S', L', rfl, hc, ?_⟩
        rw [h3, ← h401, List.take_left]
        exact hK
      · have hKl : K.length ≤ 400 := by omega
        refine sX10_cutsUp_7 _ _ _ _ _ ?_
        simp (disch := omega) only [oAld, oCV, oGI, oIfc, oIld, oPush, oRV, hM.1, h10, List.getElem?_cons_zero, List.getElem?_cons_succ, List.set_cons_zero, List.set_cons_succ, List.drop_succ_cons, List.drop_zero, List.take_succ_cons, List.take_zero, List.length_cons, List.length_nil, List.reverse_cons, List.reverse_nil, List.nil_append, List.cons_append, Option.toList_some, Option.toList_none, va_rf_s, true_and, and_true, true_implies, false_implies, not_true_eq_false, not_false_eq_true, Nat.reduceAdd, Nat.reduceLeDiff, Nat.le_add_left, Nat.zero_le, Nat.le_refl, znew, true_or, or_true, b01_t, b01_f, b01_ok, bool_ft, vp_b01, vp_b0, vp_b1, b01_eq0, b01_eq1, implies_true, nI_add, nI_clamp, zi_in, zi_le_t, zi_le_f, zi_lt_t, zi_lt_f, zi_eq_t, zi_eq_f, nI_leI, nI_ltI, nI_eq, z_in, pk_mul, zu_same, zu_rw, zu_ix, zi_ne0, zi_sub, zi_m1, Nat.add_sub_cancel, Nat.reduceMul, Nat.reduceSub]
        refine zC.of0 (zX10_byteAt hM hT' (by omega)) (by omega) (Nat.zero_le _) (Nat.zero_le _) ?_
        rintro _ _ ⟨rfl, rfl⟩
        have h4' := hT'.1
        by_cases hi : i < P.length
        · have hlt := by8_lt P i
          by_cases hs : isSp (by8 P i) = true
          · have hi' : tks P (f + 1) i = tks P f (i + 1) := by rw [tks, if_neg (by omega), if_pos hs]
            rw [hi'] at h3
            have hu : by8 P i = 9 ∨ by8 P i = 10 ∨ by8 P i = 13 ∨ by8 P i = 32 := by simpa [isSp] using hs
            have next := ih (i + 1) K S' L' (some (.int (nI (by8 P i)))) x3 x4 x5 x6 x7 (by omega) (by omega) h3 h4 hc hK
            generalize by8 P i = u at hu hlt next
            rcases hu with rfl | rfl | rfl | rfl
            · refine sX10_cutsUp_22 _ _ _ _ _ ?_
              simp (disch := omega) only [oAld, oCS, oCV, oGI, oIfc, oIld, oInc, oIst, oNop, oPush, hM.1, h4', List.getElem?_cons_zero, List.getElem?_cons_succ, List.set_cons_zero, List.set_cons_succ, List.drop_succ_cons, List.drop_zero, List.take_succ_cons, List.take_zero, List.length_cons, List.length_nil, List.reverse_cons, List.reverse_nil, List.nil_append, List.cons_append, Option.toList_some, Option.toList_none, va_rf_s, true_and, and_true, true_implies, false_implies, not_true_eq_false, not_false_eq_true, Nat.reduceAdd, Nat.reduceLeDiff, Nat.le_add_left, Nat.zero_le, Nat.le_refl, znew, true_or, or_true, b01_t, b01_f, b01_ok, bool_ft, vp_b01, vp_b0, vp_b1, b01_eq0, b01_eq1, implies_true, nI_add, nI_clamp, zi_in, zi_le_t, zi_le_f, zi_lt_t, zi_lt_f, zi_eq_t, zi_eq_f, nI_leI, nI_ltI, nI_eq, z_in, pk_mul, zu_same, zu_rw, zu_ix, zi_ne0, zi_sub, zi_m1, Nat.add_sub_cancel, Nat.reduceMul, Nat.reduceSub]
              exact next
            · refine sX10_cutsUp_22 _ _ _ _ _ ?_
              simp (disch := omega) only [oAld, oCS, oCV, oGI, oIfc, oIld, oInc, oIst, oNop, oPush, hM.1, h4', List.getElem?_cons_zero, List.getElem?_cons_succ, List.set_cons_zero, List.set_cons_succ, List.drop_succ_cons, List.drop_zero, List.take_succ_cons, List.take_zero, List.length_cons, List.length_nil, List.reverse_cons, List.reverse_nil, List.nil_append, List.cons_append, Option.toList_some, Option.toList_none, va_rf_s, true_and, and_true, true_implies, false_implies, not_true_eq_false, not_false_eq_true, Nat.reduceAdd, Nat.reduceLeDiff, Nat.le_add_left, Nat.zero_le, Nat.le_refl, znew, true_or, or_true, b01_t, b01_f, b01_ok, bool_ft, vp_b01, vp_b0, vp_b1, b01_eq0, b01_eq1, implies_true, nI_add, nI_clamp, zi_in, zi_le_t, zi_le_f, zi_lt_t, zi_lt_f, zi_eq_t, zi_eq_f, nI_leI, nI_ltI, nI_eq, z_in, pk_mul, zu_same, zu_rw, zu_ix, zi_ne0, zi_sub, zi_m1, Nat.add_sub_cancel, Nat.reduceMul, Nat.reduceSub]
              exact next
            · refine sX10_cutsUp_22 _ _ _ _ _ ?_
              simp (disch := omega) only [oAld, oCS, oCV, oGI, oIfc, oIld, oInc, oIst, oNop, oPush, hM.1, h4', List.getElem?_cons_zero, List.getElem?_cons_succ, List.set_cons_zero, List.set_cons_succ, List.drop_succ_cons, List.drop_zero, List.take_succ_cons, List.take_zero, List.length_cons, List.length_nil, List.reverse_cons, List.reverse_nil, List.nil_append, List.cons_append, Option.toList_some, Option.toList_none, va_rf_s, true_and, and_true, true_implies, false_implies, not_true_eq_false, not_false_eq_true, Nat.reduceAdd, Nat.reduceLeDiff, Nat.le_add_left, Nat.zero_le, Nat.le_refl, znew, true_or, or_true, b01_t, b01_f, b01_ok, bool_ft, vp_b01, vp_b0, vp_b1, b01_eq0, b01_eq1, implies_true, nI_add, nI_clamp, zi_in, zi_le_t, zi_le_f, zi_lt_t, zi_lt_f, zi_eq_t, zi_eq_f, nI_leI, nI_ltI, nI_eq, z_in, pk_mul, zu_same, zu_rw, zu_ix, zi_ne0, zi_sub, zi_m1, Nat.add_sub_cancel, Nat.reduceMul, Nat.reduceSub]
              exact next
            · refine sX10_cutsUp_22 _ _ _ _ _ ?_
              simp (disch := omega) only [oAld, oCS, oCV, oGI, oIfc, oIld, oInc, oIst, oNop, oPush, hM.1, h4', List.getElem?_cons_zero, List.getElem?_cons_succ, List.set_cons_zero, List.set_cons_succ, List.drop_succ_cons, List.drop_zero, List.take_succ_cons, List.take_zero, List.length_cons, List.length_nil, List.reverse_cons, List.reverse_nil, List.nil_append, List.cons_append, Option.toList_some, Option.toList_none, va_rf_s, true_and, and_true, true_implies, false_implies, not_true_eq_false, not_false_eq_true, Nat.reduceAdd, Nat.reduceLeDiff, Nat.le_add_left, Nat.zero_le, Nat.le_refl, znew, true_or, or_true, b01_t, b01_f, b01_ok, bool_ft, vp_b01, vp_b0, vp_b1, b01_eq0, b01_eq1, implies_true, nI_add, nI_clamp, zi_in, zi_le_t, zi_le_f, zi_lt_t, zi_lt_f, zi_eq_t, zi_eq_f, nI_leI, nI_ltI, nI_eq, z_in, pk_mul, zu_same, zu_rw, zu_ix, zi_ne0, zi_sub, zi_m1, Nat.add_sub_cancel, Nat.reduceMul, Nat.reduceSub]
              exact next
          · have hi' : tks P (f + 1) i = (tkO P i).1 :: tks P f (tkO P i).2 := by rw [tks, if_neg (by omega), if_neg hs]
            rw [hi'] at h3
            have hu : by8 P i ≠ 9 ∧ by8 P i ≠ 10 ∧ by8 P i ≠ 13 ∧ by8 P i ≠ 32 := by simpa [isSp] using hs
            obtain ⟨u1, u2, u3, u4⟩ := hu
            obtain ⟨hn1, hn2⟩ := tkO_next hi
            have next : ∀ S'' L'' x2 x3 x4 x5 x6 x7, mCu b S' S'' L' L'' → mTK b S'' L'' (K ++ [(tkO P i).1]) → zW V YX10_cutsUp 7 [some (.ref b), some (.int (nI (tkO P i).2)), x2, x3, x4, x5, x6, x7] [] (z, h, S'', L'') 0 0 := fun S'' L'' x2 x3 x4 x5 x6 x7 hc2 hK2 => ih _ _ S'' L'' x2 x3 x4 x5 x6 x7 (by omega) hn2 (by rw [h3, List.append_assoc]; rfl) (by simp; omega) (hc.tr hc2) hK2
            refine sX10_cutsUp_22 _ _ _ _ _ ?_
            simp (disch := omega) only [oAld, oCS, oCV, oGI, oIfc, oIld, oInc, oIst, oNop, oPush, hM.1, h4', List.getElem?_cons_zero, List.getElem?_cons_succ, List.set_cons_zero, List.set_cons_succ, List.drop_succ_cons, List.drop_zero, List.take_succ_cons, List.take_zero, List.length_cons, List.length_nil, List.reverse_cons, List.reverse_nil, List.nil_append, List.cons_append, Option.toList_some, Option.toList_none, va_rf_s, true_and, and_true, true_implies, false_implies, not_true_eq_false, not_false_eq_true, Nat.reduceAdd, Nat.reduceLeDiff, Nat.le_add_left, Nat.zero_le, Nat.le_refl, znew, true_or, or_true, b01_t, b01_f, b01_ok, bool_ft, vp_b01, vp_b0, vp_b1, b01_eq0, b01_eq1, implies_true, nI_add, nI_clamp, zi_in, zi_le_t, zi_le_f, zi_lt_t, zi_lt_f, zi_eq_t, zi_eq_f, nI_leI, nI_ltI, nI_eq, z_in, pk_mul, zu_same, zu_rw, zu_ix, zi_ne0, zi_sub, zi_m1, Nat.add_sub_cancel, Nat.reduceMul, Nat.reduceSub]
            refine zC.of0 (zX10_isLetter (by8_lt _ _) _) (by omega) (Nat.zero_le _) (Nat.zero_le _) ?_
            rintro _ _ ⟨rfl, rfl⟩
            cases hL : isL (by8 P i) with
            | true =>
              refine sX10_cutsUp_77 _ _ _ _ _ ?_
              simp (disch := omega) only [oCS, oIf, oIld, oIst, oLst, oPush, List.getElem?_cons_zero, List.getElem?_cons_succ, List.set_cons_zero, List.set_cons_succ, List.drop_succ_cons, List.drop_zero, List.take_succ_cons, List.take_zero, List.length_cons, List.length_nil, List.reverse_cons, List.reverse_nil, List.nil_append, List.cons_append, Option.toList_some, Option.toList_none, va_rf_s, true_and, and_true, true_implies, false_implies, not_true_eq_false, not_false_eq_true, Nat.reduceAdd, Nat.reduceLeDiff, Nat.le_add_left, Nat.zero_le, Nat.le_refl, znew, true_or, or_true, b01_t, b01_f, b01_ok, bool_ft, vp_b01, vp_b0, vp_b1, b01_eq0, b01_eq1, implies_true, nI_add, nI_clamp, zi_in, zi_le_t, zi_le_f, zi_lt_t, zi_lt_f, zi_eq_t, zi_eq_f, nI_leI, nI_ltI, nI_eq, z_in, pk_mul, zu_same, zu_rw, zu_ix, zi_ne0, zi_sub, zi_m1, Nat.add_sub_cancel, Nat.reduceMul, Nat.reduceSub]
              exact zX10_cu_word hVl hVE hVd hM hT' (hKey.fr hc) hK hKl hi hL next _ none none _ _
            | false =>
              refine sX10_cutsUp_77 _ _ _ _ _ ?_
              simp (disch := omega) only [oCS, oIf, oIld, oIst, oLst, oPush, List.getElem?_cons_zero, List.getElem?_cons_succ, List.set_cons_zero, List.set_cons_succ, List.drop_succ_cons, List.drop_zero, List.take_succ_cons, List.take_zero, List.length_cons, List.length_nil, List.reverse_cons, List.reverse_nil, List.nil_append, List.cons_append, Option.toList_some, Option.toList_none, va_rf_s, true_and, and_true, true_implies, false_implies, not_true_eq_false, not_false_eq_true, Nat.reduceAdd, Nat.reduceLeDiff, Nat.le_add_left, Nat.zero_le, Nat.le_refl, znew, true_or, or_true, b01_t, b01_f, b01_ok, bool_ft, vp_b01, vp_b0, vp_b1, b01_eq0, b01_eq1, implies_true, nI_add, nI_clamp, zi_in, zi_le_t, zi_le_f, zi_lt_t, zi_lt_f, zi_eq_t, zi_eq_f, nI_leI, nI_ltI, nI_eq, z_in, pk_mul, zu_same, zu_rw, zu_ix, zi_ne0, zi_sub, zi_m1, Nat.add_sub_cancel, Nat.reduceMul, Nat.reduceSub]
              refine zC.of0 (zX10_isDigit (by8_lt _ _) _) (by omega) (Nat.zero_le _) (Nat.zero_le _) ?_
              rintro _ _ ⟨rfl, rfl⟩
              cases hD : isD (by8 P i) with
              | true =>
                refine sX10_cutsUp_200 _ _ _ _ _ ?_
                simp (disch := omega) only [oAld, oBin, oCV, oIf, oIld, oIst, oPush, hM.1, List.getElem?_cons_zero, List.getElem?_cons_succ, List.set_cons_zero, List.set_cons_succ, List.drop_succ_cons, List.drop_zero, List.take_succ_cons, List.take_zero, List.length_cons, List.length_nil, List.reverse_cons, List.reverse_nil, List.nil_append, List.cons_append, Option.toList_some, Option.toList_none, va_rf_s, true_and, and_true, true_implies, false_implies, not_true_eq_false, not_false_eq_true, Nat.reduceAdd, Nat.reduceLeDiff, Nat.le_add_left, Nat.zero_le, Nat.le_refl, znew, true_or, or_true, b01_t, b01_f, b01_ok, bool_ft, vp_b01, vp_b0, vp_b1, b01_eq0, b01_eq1, implies_true, nI_add, nI_clamp, zi_in, zi_le_t, zi_le_f, zi_lt_t, zi_lt_f, zi_eq_t, zi_eq_f, nI_leI, nI_ltI, nI_eq, z_in, pk_mul, zu_same, zu_rw, zu_ix, zi_ne0, zi_sub, zi_m1, Nat.add_sub_cancel, Nat.reduceMul, Nat.reduceSub]
                exact zX10_cu_num hVl hVE hVd hM hT' hK hKl hi hL hD next _ _ _ _
              | false =>
                have htk : tkO P i = ((sgK (by8 P i), i, 0, []), i + 1) := by rw [tkO, if_neg (by rw [hL]; decide), if_neg (by rw [hD]; decide)]
                rw [htk] at next
                refine sX10_cutsUp_200 _ _ _ _ _ ?_
                simp (disch := omega) only [oAld, oBin, oCV, oIf, oIld, oIst, oPush, hM.1, List.getElem?_cons_zero, List.getElem?_cons_succ, List.set_cons_zero, List.set_cons_succ, List.drop_succ_cons, List.drop_zero, List.take_succ_cons, List.take_zero, List.length_cons, List.length_nil, List.reverse_cons, List.reverse_nil, List.nil_append, List.cons_append, Option.toList_some, Option.toList_none, va_rf_s, true_and, and_true, true_implies, false_implies, not_true_eq_false, not_false_eq_true, Nat.reduceAdd, Nat.reduceLeDiff, Nat.le_add_left, Nat.zero_le, Nat.le_refl, znew, true_or, or_true, b01_t, b01_f, b01_ok, bool_ft, vp_b01, vp_b0, vp_b1, b01_eq0, b01_eq1, implies_true, nI_add, nI_clamp, zi_in, zi_le_t, zi_le_f, zi_lt_t, zi_lt_f, zi_eq_t, zi_eq_f, nI_leI, nI_ltI, nI_eq, z_in, pk_mul, zu_same, zu_rw, zu_ix, zi_ne0, zi_sub, zi_m1, Nat.add_sub_cancel, Nat.reduceMul, Nat.reduceSub]
                refine zC.of0 (zX10_byteAt hM hT' (by omega)) (by omega) (Nat.zero_le _) (Nat.zero_le _) ?_
                rintro _ _ ⟨rfl, rfl⟩
                refine sX10_cutsUp_286 _ _ _ _ _ ?_
                simp (disch := omega) only [oCV, hM.1, List.getElem?_cons_zero, List.getElem?_cons_succ, List.set_cons_zero, List.set_cons_succ, List.drop_succ_cons, List.drop_zero, List.take_succ_cons, List.take_zero, List.length_cons, List.length_nil, List.reverse_cons, List.reverse_nil, List.nil_append, List.cons_append, Option.toList_some, Option.toList_none, va_rf_s, true_and, and_true, true_implies, false_implies, not_true_eq_false, not_false_eq_true, Nat.reduceAdd, Nat.reduceLeDiff, Nat.le_add_left, Nat.zero_le, Nat.le_refl, znew, true_or, or_true, b01_t, b01_f, b01_ok, bool_ft, vp_b01, vp_b0, vp_b1, b01_eq0, b01_eq1, implies_true, nI_add, nI_clamp, zi_in, zi_le_t, zi_le_f, zi_lt_t, zi_lt_f, zi_eq_t, zi_eq_f, nI_leI, nI_ltI, nI_eq, z_in, pk_mul, zu_same, zu_rw, zu_ix, zi_ne0, zi_sub, zi_m1, Nat.add_sub_cancel, Nat.reduceMul, Nat.reduceSub]
                refine zC.of0 (zX10_sign hM hK hKl hlt _) (by omega) (Nat.zero_le _) (Nat.zero_le _) ?_
                rintro _ _ ⟨rfl, S1, L1, rfl, hf1, hL1, hK1⟩
                refine sX10_cutsUp_289 _ _ _ _ _ ?_
                simp (disch := omega) only [oBin, oIst, oNop, List.getElem?_cons_zero, List.getElem?_cons_succ, List.set_cons_zero, List.set_cons_succ, List.drop_succ_cons, List.drop_zero, List.take_succ_cons, List.take_zero, List.length_cons, List.length_nil, List.reverse_cons, List.reverse_nil, List.nil_append, List.cons_append, Option.toList_some, Option.toList_none, va_rf_s, true_and, and_true, true_implies, false_implies, not_true_eq_false, not_false_eq_true, Nat.reduceAdd, Nat.reduceLeDiff, Nat.le_add_left, Nat.zero_le, Nat.le_refl, znew, true_or, or_true, b01_t, b01_f, b01_ok, bool_ft, vp_b01, vp_b0, vp_b1, b01_eq0, b01_eq1, implies_true, nI_add, nI_clamp, zi_in, zi_le_t, zi_le_f, zi_lt_t, zi_lt_f, zi_eq_t, zi_eq_f, nI_leI, nI_ltI, nI_eq, z_in, pk_mul, zu_same, zu_rw, zu_ix, zi_ne0, zi_sub, zi_m1, Nat.add_sub_cancel, Nat.reduceMul, Nat.reduceSub]
                exact next S1 L1 _ _ _ _ _ _ ⟨hf1, hL1⟩ hK1
        · have hi' : tks P (f + 1) i = [(0, P.length, 0, [])] := by rw [tks, if_pos (by omega)]
          rw [hi'] at h3
          obtain rfl : i = P.length := by omega
          refine sX10_cutsUp_22 _ _ _ _ _ ?_
          simp (disch := omega) only [oAld, oCS, oCV, oGI, oIfc, oIld, oInc, oIst, oNop, oPush, hM.1, h4', h0l, List.getElem?_cons_zero, List.getElem?_cons_succ, List.set_cons_zero, List.set_cons_succ, List.drop_succ_cons, List.drop_zero, List.take_succ_cons, List.take_zero, List.length_cons, List.length_nil, List.reverse_cons, List.reverse_nil, List.nil_append, List.cons_append, Option.toList_some, Option.toList_none, va_rf_s, true_and, and_true, true_implies, false_implies, not_true_eq_false, not_false_eq_true, Nat.reduceAdd, Nat.reduceLeDiff, Nat.le_add_left, Nat.zero_le, Nat.le_refl, znew, true_or, or_true, b01_t, b01_f, b01_ok, bool_ft, vp_b01, vp_b0, vp_b1, b01_eq0, b01_eq1, implies_true, nI_add, nI_clamp, zi_in, zi_le_t, zi_le_f, zi_lt_t, zi_lt_f, zi_eq_t, zi_eq_f, nI_leI, nI_ltI, nI_eq, z_in, pk_mul, zu_same, zu_rw, zu_ix, zi_ne0, zi_sub, zi_m1, Nat.add_sub_cancel, Nat.reduceMul, Nat.reduceSub]
          refine zC.of0 (zX10_token hM hK hKl _ _ _ _) (by omega) (Nat.zero_le _) (Nat.zero_le _) ?_
          rintro _ _ ⟨rfl, S1, L1, rfl, hf1, hL1, hK1⟩
          refine sX10_cutsUp_42 _ _ _ _ _ ?_
          simp (disch := omega) only [oRV, List.getElem?_cons_zero, List.getElem?_cons_succ, List.set_cons_zero, List.set_cons_succ, List.drop_succ_cons, List.drop_zero, List.take_succ_cons, List.take_zero, List.length_cons, List.length_nil, List.reverse_cons, List.reverse_nil, List.nil_append, List.cons_append, Option.toList_some, Option.toList_none, va_rf_s, true_and, and_true, true_implies, false_implies, not_true_eq_false, not_false_eq_true, Nat.reduceAdd, Nat.reduceLeDiff, Nat.le_add_left, Nat.zero_le, Nat.le_refl, znew, true_or, or_true, b01_t, b01_f, b01_ok, bool_ft, vp_b01, vp_b0, vp_b1, b01_eq0, b01_eq1, implies_true, nI_add, nI_clamp, zi_in, zi_le_t, zi_le_f, zi_lt_t, zi_lt_f, zi_eq_t, zi_eq_f, nI_leI, nI_ltI, nI_eq, z_in, pk_mul, zu_same, zu_rw, zu_ix, zi_ne0, zi_sub, zi_m1, Nat.add_sub_cancel, Nat.reduceMul, Nat.reduceSub]
          refine hVQ _ _ ⟨rfl, S1, L1, rfl, hc.tr ⟨hf1, hL1⟩, ?_⟩
          rw [h3, take_all (by simp; omega)]
          exact hK1
  refine sX10_cutsUp_0 _ _ _ _ _ ?_
  simp (disch := omega) only [oAld, oIst, oPI, oPush, hM.1, List.getElem?_cons_zero, List.getElem?_cons_succ, List.set_cons_zero, List.set_cons_succ, List.drop_succ_cons, List.drop_zero, List.take_succ_cons, List.take_zero, List.length_cons, List.length_nil, List.reverse_cons, List.reverse_nil, List.nil_append, List.cons_append, Option.toList_some, Option.toList_none, va_rf_s, true_and, and_true, true_implies, false_implies, not_true_eq_false, not_false_eq_true, Nat.reduceAdd, Nat.reduceLeDiff, Nat.le_add_left, Nat.zero_le, Nat.le_refl, znew, true_or, or_true, b01_t, b01_f, b01_ok, bool_ft, vp_b01, vp_b0, vp_b1, b01_eq0, b01_eq1, implies_true, nI_add, nI_clamp, zi_in, zi_le_t, zi_le_f, zi_lt_t, zi_lt_f, zi_eq_t, zi_eq_f, nI_leI, nI_ltI, nI_eq, z_in, pk_mul, zu_same, zu_rw, zu_ix, zi_ne0, zi_sub, zi_m1, Nat.add_sub_cancel, Nat.reduceMul, Nat.reduceSub]
  refine loop (P.length + 1) 0 [] _ L _ _ _ _ _ _ (by omega) (by omega) rfl (by simp) ⟨zfr.rf.fld (by decide), fun _ _ => rfl⟩ ⟨?_, by simp, fun i hi => ?_⟩
  · rw [zu_same]; rfl
  · exact absurd hi (by simp)
end MU
