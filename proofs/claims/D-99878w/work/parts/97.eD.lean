/-! the component: words, cutting up -/
theorem nmL_len {P : List Int32} {i : Nat} : ∀ n, (nmL P i n).length = n
  | 0 => rfl
  | n + 1 => by rw [nmL, List.length_append, nmL_len n]; rfl
theorem nmL_at {P : List Int32} {i : Nat} : ∀ n j, j < n → (nmL P i n).getD j 0 = by8 P (i + j) - 96
  | 0, j, h => absurd h (by omega)
  | n + 1, j, h => by
    rw [nmL, getD_snoc, nmL_len]
    by_cases e : j = n
    · rw [if_pos e, e]
    · rw [if_neg e, if_pos (by omega)]; exact nmL_at n j (by omega)
theorem getD_ext {w u : List Nat} (hl : w.length = u.length) (h : ∀ j, j < w.length → w.getD j 0 = u.getD j 0) : w = u := by
  refine List.ext_getElem? (fun j => ?_)
  by_cases hj : j < w.length
  · have := h j hj
    rw [List.getD_eq_getElem?_getD, List.getD_eq_getElem?_getD, List.getElem?_eq_getElem hj, List.getElem?_eq_getElem (by omega)] at this
    rw [List.getElem?_eq_getElem hj, List.getElem?_eq_getElem (by omega)]
    exact congrArg some this
  · rw [List.getElem?_eq_none (by omega), List.getElem?_eq_none (by omega)]
theorem kw_inj : ∀ i, i < 23 → ∀ j, j < 23 → kwL i = kwL j → i = j := by decide +kernel
theorem kw_len : ∀ i, i < 23 → (kwL i).length ≤ 7 := by decide +kernel
theorem kw_26 : ∀ i, i < 23 → ∀ j, j < (kwL i).length → (kwL i).getD j 0 ≤ 26 := by decide +kernel
def kwP (w : List Nat) (k : Nat) : Bool := decide (kwL k = w)
theorem kwM_F {w : List Nat} : ∀ m, m ≤ 23 → kwM w m = match firstF (kwP w) m with
    | some k => 20 + k
    | none => 1
  | 0, _ => rfl
  | m + 1, hm => by
    have ih := kwM_F (w := w) m (by omega)
    rw [kwM]
    show _ = match (match firstF (kwP w) m with
      | some k => some k
      | none => if kwP w m = true then some m else none) with
      | some k => 20 + k
      | none => 1
    cases hf : firstF (kwP w) m with
    | none =>
      rw [hf] at ih
      simp only []
      by_cases he : kwL m = w
      · rw [if_pos he, if_pos (show kwP w m = true from decide_eq_true he)]
      · rw [if_neg he, if_neg (by unfold kwP; rw [decide_eq_false he]; decide)]; exact ih
    | some k =>
      rw [hf] at ih
      have hk := firstF_lt hf
      have e1 : kwL k = w := of_decide_eq_true hk.2
      rw [if_neg (fun he => by have := kw_inj m (by omega) k (by omega) (he.trans e1.symm); omega)]
      exact ih
theorem oM_s {k : Nat} : oM (some k) = nI k := rfl
theorem oM_n : oM none = -1 := rfl
section ED
variable {l : Launch} {E : zE} {z : Nat} {h : Nat → Option zSh} {S : Nat → Nat → Int32} {L : Nat → Nat → Int64} {c : Nat} {P : List Int32} {adK adV : Nat → Nat} {oF : Option Nat}
def cKw (E : zE) (h : Nat → Option zSh) (c : Nat) (adK adV : Nat → Nat) : Prop := ∀ k, k < 23 → zr h (c + 3) k = some (adK k) ∧ isKo E (adK k) (adV k) (kwL k).length (fun j => nI ((kwL k).getD j 0 + 96))
theorem zX2_word (hB : isC h c) (hP : cP S c P) (hBy : isBy P) (hc : csZ E) (hs : siZ E oF) (hK : cKw E h c adK adV) {a n : Nat} (hn : 1 ≤ n) (ha : a + n ≤ P.length) (hl : ∀ j, j < n → isL (by8 P (a + j)) = true) : zM l E 4 YX2_word [.ref (c + 2), .int (nI a), .int (nI (a + n))] (z, h, S, L) 0 0 (fun r X => r = some (.int (oM (firstF (kwP (nmL P a n)) 23))) ∧ X = (z, h, S, L)) (fun _ _ => False) := by
  obtain ⟨p1, p2, p3⟩ := id hP
  refine zM.go rfl rfl (Nat.le_of_ble_eq_true rfl) (ls := [some (.ref (c + 2)), some (.int (nI a)), some (.int (nI (a + n))), none, none, none]) rfl ?_
  intro V hVl hVE hVd hVc hVs hVQ hVX
  generalize hp : kwP (nmL P a n) = p at hVQ
  have loop : ∀ w, w ≤ 23 → ∀ x4 x5, firstF p w = none → zW V YX2_word 2 [some (.ref (c + 2)), some (.int (nI a)), some (.int (nI (a + n))), some (.int (nI w)), x4, x5] [] (z, h, S, L) 0 0 := by
    refine z_down ?_ (fun w hw ih => ?_)
    · intro x4 x5 hf
      refine sX2_word_2 _ _ _ _ _ ?_
      simp (disch := omega) only [oAld, oAld9, oCVo, oGR, oIfc, oIld, oLen, oPush, oRI, hB.tk, hB.tr0, hB.tt0, hB.tn0, List.getElem?_cons_zero, List.getElem?_cons_succ, List.set_cons_zero, List.set_cons_succ, List.drop_succ_cons, List.drop_zero, List.take_succ_cons, List.take_zero, List.length_cons, List.length_nil, List.reverse_cons, List.reverse_nil, List.nil_append, List.cons_append, Option.toList_some, Option.toList_none, va_rf_s, true_and, and_true, true_implies, false_implies, not_true_eq_false, not_false_eq_true, Nat.reduceAdd, Nat.reduceLeDiff, Nat.le_add_left, Nat.zero_le, Nat.le_refl, znew, true_or, or_true, b01_t, b01_f, b01_ok, bool_ft, vp_b01, vp_b0, vp_b1, b01_eq0, b01_eq1, implies_true, nI_add, nI_clamp, zi_in, zi_le_t, zi_le_f, zi_lt_t, zi_lt_f, zi_eq_t, zi_eq_f, nI_leI, nI_ltI, nI_eq, z_in, pk_mul, zu_same, zu_rw, zu_ix, zi_ne0, zi_sub, zi_m1, Nat.add_sub_cancel, Nat.reduceMul, Nat.reduceSub]
      exact hVQ _ _ ⟨by rw [hf]; rfl, rfl⟩
    · intro x4 x5 hf
      obtain ⟨k1, k2⟩ := hK w hw
      have k3 := k2.1
      have hlw := kw_len w hw
      rw [← hVE] at k3
      have fstep : ∀ b, p w = b → firstF p (w + 1) = if b = true then some w else none := fun b hb => by rw [firstF, hf, hb]
      have f0 : p w = false → ∀ k', k' ≤ a + n → zW V YX2_word 36 [some (.ref (c + 2)), some (.int (nI a)), some (.int (nI (a + n))), some (.int (nI w)), some (.int (nI 0)), some (.int (nI k'))] [] (z, h, S, L) 0 0 := by
        intro hpw k' hk'
        have ih := fun x4 x5 => ih x4 x5 (by rw [fstep false hpw]; rfl)
        by_cases e : k' = a + n
        · rw [e]
          refine sX2_word_36 _ _ _ _ _ ?_
          simp (disch := omega) only [oAld, oAld9, oBin, oCVo, oGR, oIf, oIfc, oIld, oInc, oNop, oRI, hB.tk, hB.tr0, hB.tt0, hB.tn0, List.getElem?_cons_zero, List.getElem?_cons_succ, List.set_cons_zero, List.set_cons_succ, List.drop_succ_cons, List.drop_zero, List.take_succ_cons, List.take_zero, List.length_cons, List.length_nil, List.reverse_cons, List.reverse_nil, List.nil_append, List.cons_append, Option.toList_some, Option.toList_none, va_rf_s, true_and, and_true, true_implies, false_implies, not_true_eq_false, not_false_eq_true, Nat.reduceAdd, Nat.reduceLeDiff, Nat.le_add_left, Nat.zero_le, Nat.le_refl, znew, true_or, or_true, b01_t, b01_f, b01_ok, bool_ft, vp_b01, vp_b0, vp_b1, b01_eq0, b01_eq1, implies_true, nI_add, nI_clamp, zi_in, zi_le_t, zi_le_f, zi_lt_t, zi_lt_f, zi_eq_t, zi_eq_f, nI_leI, nI_ltI, nI_eq, z_in, pk_mul, zu_same, zu_rw, zu_ix, zi_ne0, zi_sub, zi_m1, Nat.add_sub_cancel, Nat.reduceMul, Nat.reduceSub]
          exact ih _ _
        · refine sX2_word_36 _ _ _ _ _ ?_
          simp (disch := omega) only [oAld, oAld9, oBin, oCVo, oGR, oIf, oIfc, oIld, oInc, oNop, oRI, hB.tk, hB.tr0, hB.tt0, hB.tn0, List.getElem?_cons_zero, List.getElem?_cons_succ, List.set_cons_zero, List.set_cons_succ, List.drop_succ_cons, List.drop_zero, List.take_succ_cons, List.take_zero, List.length_cons, List.length_nil, List.reverse_cons, List.reverse_nil, List.nil_append, List.cons_append, Option.toList_some, Option.toList_none, va_rf_s, true_and, and_true, true_implies, false_implies, not_true_eq_false, not_false_eq_true, Nat.reduceAdd, Nat.reduceLeDiff, Nat.le_add_left, Nat.zero_le, Nat.le_refl, znew, true_or, or_true, b01_t, b01_f, b01_ok, bool_ft, vp_b01, vp_b0, vp_b1, b01_eq0, b01_eq1, implies_true, nI_add, nI_clamp, zi_in, zi_le_t, zi_le_f, zi_lt_t, zi_lt_f, zi_eq_t, zi_eq_f, nI_leI, nI_ltI, nI_eq, z_in, pk_mul, zu_same, zu_rw, zu_ix, zi_ne0, zi_sub, zi_m1, Nat.add_sub_cancel, Nat.reduceMul, Nat.reduceSub]
          exact ih _ _
      have inner : ∀ j, j ≤ n → (kwL w).length = n → (∀ i, i < j → (kwL w).getD i 0 = by8 P (a + i) - 96) → zW V YX2_word 36 [some (.ref (c + 2)), some (.int (nI a)), some (.int (nI (a + n))), some (.int (nI w)), some (.int (nI 1)), some (.int (nI (a + j)))] [] (z, h, S, L) 0 0 := by
        refine z_down ?_ (fun j hj ihj => ?_)
        · intro hlen he
          have hpw : p w = true := by
            rw [← hp]; unfold kwP
            refine decide_eq_true (getD_ext (by rw [nmL_len]; exact hlen) (fun j hj => ?_))
            rw [nmL_at n j (by omega)]; exact he j (by omega)
          have hF : firstF p 23 = some w := firstF_some (by rw [fstep true hpw]; rfl) 23 (by omega)
          refine sX2_word_36 _ _ _ _ _ ?_
          simp (disch := omega) only [oAld, oAld9, oBin, oCVo, oGR, oIf, oIfc, oIld, oInc, oNop, oRI, hB.tk, hB.tr0, hB.tt0, hB.tn0, List.getElem?_cons_zero, List.getElem?_cons_succ, List.set_cons_zero, List.set_cons_succ, List.drop_succ_cons, List.drop_zero, List.take_succ_cons, List.take_zero, List.length_cons, List.length_nil, List.reverse_cons, List.reverse_nil, List.nil_append, List.cons_append, Option.toList_some, Option.toList_none, va_rf_s, true_and, and_true, true_implies, false_implies, not_true_eq_false, not_false_eq_true, Nat.reduceAdd, Nat.reduceLeDiff, Nat.le_add_left, Nat.zero_le, Nat.le_refl, znew, true_or, or_true, b01_t, b01_f, b01_ok, bool_ft, vp_b01, vp_b0, vp_b1, b01_eq0, b01_eq1, implies_true, nI_add, nI_clamp, zi_in, zi_le_t, zi_le_f, zi_lt_t, zi_lt_f, zi_eq_t, zi_eq_f, nI_leI, nI_ltI, nI_eq, z_in, pk_mul, zu_same, zu_rw, zu_ix, zi_ne0, zi_sub, zi_m1, Nat.add_sub_cancel, Nat.reduceMul, Nat.reduceSub]
          exact hVQ _ _ ⟨by rw [hF]; rfl, rfl⟩
        · intro hlen he
          have h26 := kw_26 w hw j (by omega)
          have hLj := hl j hj
          have hr := of_decide_eq_true hLj
          have et : S (c + 4) (a + j) = nI (by8 P (a + j)) := by
            rw [p3 _ (by omega)]
            rcases ctK hBy (a + j) with ⟨q, -⟩ | ⟨-, q⟩
            · unfold ctB at q; rw [if_pos (by omega)] at q; exact q
            · omega
          have esub : a + j - a = j := by omega
          refine sX2_word_36 _ _ _ _ _ ?_
          simp (disch := omega) only [oAld, oAld9, oBin, oCVo, oGR, oIf, oIfc, oIld, oInc, oNop, oRI, hB.tk, hB.tr0, hB.tt0, hB.tn0, k1, k3, esub, List.getElem?_cons_zero, List.getElem?_cons_succ, List.set_cons_zero, List.set_cons_succ, List.drop_succ_cons, List.drop_zero, List.take_succ_cons, List.take_zero, List.length_cons, List.length_nil, List.reverse_cons, List.reverse_nil, List.nil_append, List.cons_append, Option.toList_some, Option.toList_none, va_rf_s, true_and, and_true, true_implies, false_implies, not_true_eq_false, not_false_eq_true, Nat.reduceAdd, Nat.reduceLeDiff, Nat.le_add_left, Nat.zero_le, Nat.le_refl, znew, true_or, or_true, b01_t, b01_f, b01_ok, bool_ft, vp_b01, vp_b0, vp_b1, b01_eq0, b01_eq1, implies_true, nI_add, nI_clamp, zi_in, zi_le_t, zi_le_f, zi_lt_t, zi_lt_f, zi_eq_t, zi_eq_f, nI_leI, nI_ltI, nI_eq, z_in, pk_mul, zu_same, zu_rw, zu_ix, zi_ne0, zi_sub, zi_m1, Nat.add_sub_cancel, Nat.reduceMul, Nat.reduceSub]
          refine zC.of0 (zJ8_charAt (by rw [hVE]; exact hc) (by rw [hVE]; exact hs) (N := (kwL w).length) (f := fun j => nI ((kwL w).getD j 0 + 96)) (q := (kwL w).getD j 0 + 96) (by rw [hVE]; exact k2) (i := j) (by omega) rfl (by omega) _) (by omega) (Nat.zero_le _) (Nat.zero_le _) ?_
          rintro _ _ ⟨rfl, rfl⟩
          by_cases hx : (kwL w).getD j 0 = by8 P (a + j) - 96
          · have hx' : (nI ((kwL w).getD j 0 + 96) = nI (by8 P (a + j))) = True := eq_true (by rw [hx]; congr 1; omega)
            refine sX2_word_60 _ _ _ _ _ ?_
            simp (disch := omega) only [oAld, oAld1, oGR, oIfc, oIld, oInc, oIst, oNop, oPush, hB.tk, hB.tr1, hB.tt1, hB.tn1, et, hx', List.getElem?_cons_zero, List.getElem?_cons_succ, List.set_cons_zero, List.set_cons_succ, List.drop_succ_cons, List.drop_zero, List.take_succ_cons, List.take_zero, List.length_cons, List.length_nil, List.reverse_cons, List.reverse_nil, List.nil_append, List.cons_append, Option.toList_some, Option.toList_none, va_rf_s, true_and, and_true, true_implies, false_implies, not_true_eq_false, not_false_eq_true, Nat.reduceAdd, Nat.reduceLeDiff, Nat.le_add_left, Nat.zero_le, Nat.le_refl, znew, true_or, or_true, b01_t, b01_f, b01_ok, bool_ft, vp_b01, vp_b0, vp_b1, b01_eq0, b01_eq1, implies_true, nI_add, nI_clamp, zi_in, zi_le_t, zi_le_f, zi_lt_t, zi_lt_f, zi_eq_t, zi_eq_f, nI_leI, nI_ltI, nI_eq, z_in, pk_mul, zu_same, zu_rw, zu_ix, zi_ne0, zi_sub, zi_m1, Nat.add_sub_cancel, Nat.reduceMul, Nat.reduceSub]
            exact ihj hlen (fun i hi => by
              by_cases e : i = j
              · rw [e]; exact hx
              · exact he i (by omega))
          · have hx' : (nI ((kwL w).getD j 0 + 96) = nI (by8 P (a + j))) = False := eq_false (fun q => hx (by rw [nI_eq (by omega) (by omega)] at q; omega))
            refine sX2_word_60 _ _ _ _ _ ?_
            simp (disch := omega) only [oAld, oAld1, oGR, oIfc, oIld, oInc, oIst, oNop, oPush, hB.tk, hB.tr1, hB.tt1, hB.tn1, et, hx', List.getElem?_cons_zero, List.getElem?_cons_succ, List.set_cons_zero, List.set_cons_succ, List.drop_succ_cons, List.drop_zero, List.take_succ_cons, List.take_zero, List.length_cons, List.length_nil, List.reverse_cons, List.reverse_nil, List.nil_append, List.cons_append, Option.toList_some, Option.toList_none, va_rf_s, true_and, and_true, true_implies, false_implies, not_true_eq_false, not_false_eq_true, Nat.reduceAdd, Nat.reduceLeDiff, Nat.le_add_left, Nat.zero_le, Nat.le_refl, znew, true_or, or_true, b01_t, b01_f, b01_ok, bool_ft, vp_b01, vp_b0, vp_b1, b01_eq0, b01_eq1, implies_true, nI_add, nI_clamp, zi_in, zi_le_t, zi_le_f, zi_lt_t, zi_lt_f, zi_eq_t, zi_eq_f, nI_leI, nI_ltI, nI_eq, z_in, pk_mul, zu_same, zu_rw, zu_ix, zi_ne0, zi_sub, zi_m1, Nat.add_sub_cancel, Nat.reduceMul, Nat.reduceSub]
            refine f0 ?_ (a + j + 1) (by omega)
            rw [← hp]; unfold kwP
            refine decide_eq_false (fun q => hx ?_)
            rw [q, nmL_at n j hj]
      refine sX2_word_2 _ _ _ _ _ ?_
      simp (disch := omega) only [oAld, oAld9, oCVo, oGR, oIfc, oIld, oLen, oPush, oRI, hB.tk, hB.tr0, hB.tt0, hB.tn0, k1, k3, List.getElem?_cons_zero, List.getElem?_cons_succ, List.set_cons_zero, List.set_cons_succ, List.drop_succ_cons, List.drop_zero, List.take_succ_cons, List.take_zero, List.length_cons, List.length_nil, List.reverse_cons, List.reverse_nil, List.nil_append, List.cons_append, Option.toList_some, Option.toList_none, va_rf_s, true_and, and_true, true_implies, false_implies, not_true_eq_false, not_false_eq_true, Nat.reduceAdd, Nat.reduceLeDiff, Nat.le_add_left, Nat.zero_le, Nat.le_refl, znew, true_or, or_true, b01_t, b01_f, b01_ok, bool_ft, vp_b01, vp_b0, vp_b1, b01_eq0, b01_eq1, implies_true, nI_add, nI_clamp, zi_in, zi_le_t, zi_le_f, zi_lt_t, zi_lt_f, zi_eq_t, zi_eq_f, nI_leI, nI_ltI, nI_eq, z_in, pk_mul, zu_same, zu_rw, zu_ix, zi_ne0, zi_sub, zi_m1, Nat.add_sub_cancel, Nat.reduceMul, Nat.reduceSub]
      refine zC.of0 (zJ8_length (by rw [hVE]; exact hc) (by rw [hVE]; exact k2) _) (by omega) (Nat.zero_le _) (Nat.zero_le _) ?_
      rintro _ _ ⟨rfl, rfl⟩
      have esub : a + n - a = n := by omega
      by_cases hlen : (kwL w).length = n
      · have hx' : (nI (kwL w).length = nI n) = True := eq_true (by rw [hlen])
        refine sX2_word_20 _ _ _ _ _ ?_
        simp (disch := omega) only [oBin, oIfc, oIld, oIst, oNop, oPush, esub, hx', List.getElem?_cons_zero, List.getElem?_cons_succ, List.set_cons_zero, List.set_cons_succ, List.drop_succ_cons, List.drop_zero, List.take_succ_cons, List.take_zero, List.length_cons, List.length_nil, List.reverse_cons, List.reverse_nil, List.nil_append, List.cons_append, Option.toList_some, Option.toList_none, va_rf_s, true_and, and_true, true_implies, false_implies, not_true_eq_false, not_false_eq_true, Nat.reduceAdd, Nat.reduceLeDiff, Nat.le_add_left, Nat.zero_le, Nat.le_refl, znew, true_or, or_true, b01_t, b01_f, b01_ok, bool_ft, vp_b01, vp_b0, vp_b1, b01_eq0, b01_eq1, implies_true, nI_add, nI_clamp, zi_in, zi_le_t, zi_le_f, zi_lt_t, zi_lt_f, zi_eq_t, zi_eq_f, nI_leI, nI_ltI, nI_eq, z_in, pk_mul, zu_same, zu_rw, zu_ix, zi_ne0, zi_sub, zi_m1, Nat.add_sub_cancel, Nat.reduceMul, Nat.reduceSub]
        exact inner 0 (by omega) hlen (fun i hi => absurd hi (by omega))
      · have hx' : (nI (kwL w).length = nI n) = False := eq_false (fun q => hlen (by rw [nI_eq (by omega) (by omega)] at q; exact q))
        refine sX2_word_20 _ _ _ _ _ ?_
        simp (disch := omega) only [oBin, oIfc, oIld, oIst, oNop, oPush, esub, hx', List.getElem?_cons_zero, List.getElem?_cons_succ, List.set_cons_zero, List.set_cons_succ, List.drop_succ_cons, List.drop_zero, List.take_succ_cons, List.take_zero, List.length_cons, List.length_nil, List.reverse_cons, List.reverse_nil, List.nil_append, List.cons_append, Option.toList_some, Option.toList_none, va_rf_s, true_and, and_true, true_implies, false_implies, not_true_eq_false, not_false_eq_true, Nat.reduceAdd, Nat.reduceLeDiff, Nat.le_add_left, Nat.zero_le, Nat.le_refl, znew, true_or, or_true, b01_t, b01_f, b01_ok, bool_ft, vp_b01, vp_b0, vp_b1, b01_eq0, b01_eq1, implies_true, nI_add, nI_clamp, zi_in, zi_le_t, zi_le_f, zi_lt_t, zi_lt_f, zi_eq_t, zi_eq_f, nI_leI, nI_ltI, nI_eq, z_in, pk_mul, zu_same, zu_rw, zu_ix, zi_ne0, zi_sub, zi_m1, Nat.add_sub_cancel, Nat.reduceMul, Nat.reduceSub]
        refine f0 ?_ a (by omega)
        rw [← hp]; unfold kwP
        exact decide_eq_false (fun q => hlen (by rw [q, nmL_len]))
  refine sX2_word_0 _ _ _ _ _ ?_
  simp (disch := omega) only [oIst, oPush, List.getElem?_cons_zero, List.getElem?_cons_succ, List.set_cons_zero, List.set_cons_succ, List.drop_succ_cons, List.drop_zero, List.take_succ_cons, List.take_zero, List.length_cons, List.length_nil, List.reverse_cons, List.reverse_nil, List.nil_append, List.cons_append, Option.toList_some, Option.toList_none, va_rf_s, true_and, and_true, true_implies, false_implies, not_true_eq_false, not_false_eq_true, Nat.reduceAdd, Nat.reduceLeDiff, Nat.le_add_left, Nat.zero_le, Nat.le_refl, znew, true_or, or_true, b01_t, b01_f, b01_ok, bool_ft, vp_b01, vp_b0, vp_b1, b01_eq0, b01_eq1, implies_true, nI_add, nI_clamp, zi_in, zi_le_t, zi_le_f, zi_lt_t, zi_lt_f, zi_eq_t, zi_eq_f, nI_leI, nI_ltI, nI_eq, z_in, pk_mul, zu_same, zu_rw, zu_ix, zi_ne0, zi_sub, zi_m1, Nat.add_sub_cancel, Nat.reduceMul, Nat.reduceSub]
  exact loop 0 (by omega) _ _ rfl
end ED
