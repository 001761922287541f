/-! objects as they are made: fields with fresh arrays, one behind another; the model's constructor -/
def nf (X : zX) (b f t len : Nat) : zX := (X.1 + 1, zur (fun a => if a = X.1 then some (t, len, fun _ => none) else X.2.1 a) b f (some X.1), (fun a => if a = X.1 then fun _ => 0 else X.2.2.1 a), (fun a => if a = X.1 then fun _ => 0 else X.2.2.2 a))
def fz (b c : Nat) (X0 X : zX) (g : Nat → Int32) (l : List (Nat × Nat × Nat)) : Prop := X.1 = b + 1 + l.length ∧ zt X.2.1 b = 20 + c ∧ (∀ i, i < l.length → zr X.2.1 b (l.getD i (0, 0, 0)).1 = some (b + 1 + i) ∧ zt X.2.1 (b + 1 + i) = (l.getD i (0, 0, 0)).2.1 ∧ zn X.2.1 (b + 1 + i) = (l.getD i (0, 0, 0)).2.2) ∧ (∀ a, a < b → X.2.1 a = X0.2.1 a ∧ X.2.2.1 a = X0.2.2.1 a ∧ X.2.2.2 a = X0.2.2.2 a) ∧ (∀ a, b < a → a < X.1 → X.2.2.1 a = (fun _ => 0) ∧ X.2.2.2 a = fun _ => 0) ∧ X.2.2.1 b = g
theorem zur_ne {h : Nat → Option zSh} {a k : Nat} {v : Option Nat} {b : Nat} (hb : b ≠ a) : zur h a k v b = h b := if_neg hb
theorem zur_t {h : Nat → Option zSh} {a k : Nat} {v : Option Nat} {b : Nat} : zt (zur h a k v) b = zt h b := by
  by_cases hb : b = a
  · subst hb; unfold zt zur; rw [if_pos rfl]; rfl
  · unfold zt; rw [zur_ne hb]
theorem zur_n {h : Nat → Option zSh} {a k : Nat} {v : Option Nat} {b : Nat} : zn (zur h a k v) b = zn h b := by
  by_cases hb : b = a
  · subst hb; unfold zn zur; rw [if_pos rfl]; rfl
  · unfold zn; rw [zur_ne hb]
theorem zur_r {h : Nat → Option zSh} {a k : Nat} {v : Option Nat} {b j : Nat} : zr (zur h a k v) b j = if b = a ∧ j = k then v else zr h b j := by
  by_cases hb : b = a
  · subst hb
    have e : zr (zur h b k v) b = va_up (zr h b) k v := by unfold zr zur; rw [if_pos rfl]; rfl
    rw [e]; unfold va_up
    by_cases hj : j = k
    · rw [if_pos hj, if_pos ⟨rfl, hj⟩]
    · rw [if_neg hj, if_neg (fun q => hj q.2)]
  · rw [if_neg (fun q => hb q.1)]
    unfold zr; rw [zur_ne hb]
theorem nf_fz {b c f t len : Nat} {X0 X : zX} {g : Nat → Int32} {l : List (Nat × Nat × Nat)} (h : fz b c X0 X g l) (hf : ∀ q ∈ l, q.1 ≠ f) : fz b c X0 (nf X b f t len) g (l ++ [(f, t, len)]) := by
  obtain ⟨h1, h2, h3, h4, h5, h6⟩ := h
  have zt_old : ∀ a, a ≠ X.1 → zt (fun a => if a = X.1 then some (t, len, fun _ => none) else X.2.1 a) a = zt X.2.1 a ∧ zn (fun a => if a = X.1 then some (t, len, fun _ => none) else X.2.1 a) a = zn X.2.1 a ∧ zr (fun a => if a = X.1 then some (t, len, fun _ => none) else X.2.1 a) a = zr X.2.1 a := by
    intro a ha
    unfold zt zn zr
    simp only [if_neg ha]
    exact ⟨trivial, trivial, trivial⟩
  have zt_new : zt (fun a => if a = X.1 then some (t, len, fun _ => none) else X.2.1 a) X.1 = t ∧ zn (fun a => if a = X.1 then some (t, len, fun _ => none) else X.2.1 a) X.1 = len := by
    unfold zt zn
    simp only [if_true]
    exact ⟨trivial, trivial⟩
  refine ⟨?_, ?_, fun i hi => ?_, fun a ha => ?_, fun a ha ha2 => ?_, ?_⟩
  · show X.1 + 1 = _
    rw [h1, List.length_append]; simp; omega
  · show zt (zur _ b f (some X.1)) b = _
    rw [zur_t, (zt_old b (by omega)).1]; exact h2
  · rw [List.length_append] at hi
    have hi' : i < l.length + 1 := hi
    rw [getD_snoc]
    show zr (zur _ b f (some X.1)) b _ = _ ∧ zt (zur _ b f (some X.1)) _ = _ ∧ zn (zur _ b f (some X.1)) _ = _
    rw [zur_t, zur_n, zur_r]
    by_cases he : i = l.length
    · rw [if_pos he, if_pos ⟨rfl, rfl⟩]
      have e : b + 1 + i = X.1 := by rw [h1, he]
      rw [e]
      exact ⟨rfl, zt_new.1, zt_new.2⟩
    · have hl : i < l.length := by omega
      rw [if_neg he, if_pos hl]
      have hmem : (l.getD i (0, 0, 0)) ∈ l := by
        rw [List.getD_eq_getElem?_getD, List.getElem?_eq_getElem hl]; exact List.getElem_mem hl
      rw [if_neg (fun q => hf _ hmem q.2), (zt_old b (by omega)).2.2, (zt_old _ (by omega)).1, (zt_old _ (by omega)).2.1]
      exact h3 i hl
  · have hne : ¬ a = X.1 := by omega
    obtain ⟨k1, k2, k3⟩ := h4 a ha
    refine ⟨?_, ?_, ?_⟩
    · show zur (fun a => if a = X.1 then some (t, len, fun _ => none) else X.2.1 a) b f (some X.1) a = _
      rw [zur_ne (by omega), if_neg hne]; exact k1
    · show (if a = X.1 then (fun _ => (0 : Int32)) else X.2.2.1 a) = _
      rw [if_neg hne]; exact k2
    · show (if a = X.1 then (fun _ => (0 : Int64)) else X.2.2.2 a) = _
      rw [if_neg hne]; exact k3
  · have ha2' : a < X.1 + 1 := ha2
    show (if a = X.1 then fun _ => 0 else X.2.2.1 a) = _ ∧ (if a = X.1 then fun _ => 0 else X.2.2.2 a) = _
    by_cases he : a = X.1
    · rw [if_pos he, if_pos he]; exact ⟨rfl, rfl⟩
    · rw [if_neg he, if_neg he]; exact h5 a ha (by omega)
  · show (if b = X.1 then fun _ => 0 else X.2.2.1 b) = g
    rw [if_neg (by omega)]; exact h6
theorem fa_step {V : zV} {b c f t len k n : Nat} {X0 X : zX} {g : Nat → Int32} {l : List (Nat × Nat × Nat)} {ls : List (Option Value)} {K : zK} (h0 : ls[0]? = some (some (.ref b))) (h : fz b c X0 X g l) (hl : len ≤ 100000) (hk : k + 1 ≤ V.2.2.2.1) (hn : n + len ≤ V.2.2.2.2.1) (hK : K ls [] (nf X b f t len) (k + 1) (n + len)) : (oAld 0 (oPush (.int (nI len)) (oNewa V t (oPR c f K)))) ls [] X k n := by
  have e : (nI len).toNatClampNeg = len := nI_clamp (by omega)
  have hp : ¬ nI len < 0 := nI_pos (by omega)
  have h2 : zt (znew X (t, len, fun _ => none)).2.1 b = 20 + c := by
    have := h.1
    unfold zt znew
    simp only [if_neg (show ¬ b = X.1 by omega)]
    exact h.2.1
  unfold oAld
  rw [h0]
  show oNewa V t (oPR c f K) ls [.int (nI len), .ref b] X k n
  unfold oNewa
  show ¬ nI len < 0 ∧ (nI len).toNatClampNeg ≤ 100000 ∧ k + 1 ≤ V.2.2.2.1 ∧ n + (nI len).toNatClampNeg ≤ V.2.2.2.2.1 ∧ oPR c f K ls [.ref X.1, .ref b] (znew X (t, (nI len).toNatClampNeg, fun _ => none)) (k + 1) (n + (nI len).toNatClampNeg)
  rw [e]
  exact ⟨hp, hl, hk, hn, h2, hK⟩
theorem ob_step {b k n : Nat} {X : zX} {ls : List (Option Value)} {K : zK} (h0 : ls[0]? = some (some (.ref b))) (hK : K ls [] X k n) : (oAld 0 (oObj K)) ls [] X k n := by
  unfold oAld
  rw [h0]
  exact ⟨by simp, hK⟩
theorem fi_step {b c f k n : Nat} {v : Int32} {X0 X : zX} {g : Nat → Int32} {l : List (Nat × Nat × Nat)} {ls : List (Option Value)} {K : zK} {ok : Int32 → Prop} (h0 : ls[0]? = some (some (.ref b))) (h : fz b c X0 X g l) (hv : ok v) (hK : K ls [] (X.1, X.2.1, zu X.2.2.1 b f v, X.2.2.2) k n) : (oAld 0 (oPush (.int v) (oPI c f ok K))) ls [] X k n := by
  unfold oAld
  rw [h0]
  exact ⟨h.2.1, hv, hK⟩
theorem fi_fz {b c f : Nat} {v : Int32} {X0 X : zX} {g : Nat → Int32} {l : List (Nat × Nat × Nat)} (h : fz b c X0 X g l) : fz b c X0 (X.1, X.2.1, zu X.2.2.1 b f v, X.2.2.2) (fun j => if j = f then v else g j) l := by
  obtain ⟨h1, h2, h3, h4, h5, h6⟩ := h
  refine ⟨h1, h2, h3, fun a ha => ⟨(h4 a ha).1, ?_, (h4 a ha).2.2⟩, fun a ha ha2 => ⟨?_, (h5 a ha ha2).2⟩, ?_⟩
  · show zu X.2.2.1 b f v a = _
    rw [zu_rw _ _ (by omega)]; exact (h4 a ha).2.1
  · show zu X.2.2.1 b f v a = _
    rw [zu_rw _ _ (by omega)]; exact (h5 a ha ha2).1
  · show zu X.2.2.1 b f v b = _
    rw [zu_row, h6]
section NO
variable {l : Launch} {E : zE} {b z : Nat} {h : Nat → Option zSh} {S : Nat → Nat → Int32} {L : Nat → Nat → Int64}
def chL (c : Nat) : List Nat := if c = 0 then [] else [c - 96]
def okC (c : Nat) : Prop := c = 0 ∨ (97 ≤ c ∧ c ≤ 122)
theorem zX10_appendsC {w : List Nat} {c : Nat} (hc : okC c) (X : zX) : zM l E 0 YX10_appends [.long (lN (hsL w)), .int (nI c)] X 0 0 (fun r X' => r = some (.long (lN (hsL (w ++ chL c)))) ∧ X' = X) (fun _ _ => False) := by
  rcases hc with rfl | hc
  · refine zM.weak (zX10_appends0 X) ?_
    rintro r X' ⟨h1, h2⟩
    refine ⟨h1.trans ?_, h2⟩
    rw [chL, if_pos rfl, List.append_nil]
  · refine zM.weak (zX10_appends hc X) ?_
    rintro r X' ⟨h1, h2⟩
    refine ⟨h1.trans ?_, h2⟩
    rw [chL, if_neg (by omega), hsL_snoc]
theorem zX10_word {c1 c2 c3 c4 c5 c6 c7 : Nat} (h1 : okC c1) (h2 : okC c2) (h3 : okC c3) (h4 : okC c4) (h5 : okC c5) (h6 : okC c6) (h7 : okC c7) (X : zX) :
    zM l E 1 YX10_word [.int (nI c1), .int (nI c2), .int (nI c3), .int (nI c4), .int (nI c5), .int (nI c6), .int (nI c7)] X 0 0 (fun r X' => r = some (.long (lN (hsL (chL c1 ++ chL c2 ++ chL c3 ++ chL c4 ++ chL c5 ++ chL c6 ++ chL c7)))) ∧ X' = X) (fun _ _ => False) := by
  have h0l : (0 : Int64) = lN (hsL []) := rfl
  refine zM.go rfl rfl (Nat.le_of_ble_eq_true rfl) (ls := [some (.int (nI c1)), some (.int (nI c2)), some (.int (nI c3)), some (.int (nI c4)), some (.int (nI c5)), some (.int (nI c6)), some (.int (nI c7))]) rfl ?_
  intro V hVl hVE hVd hVc hVs hVQ hVX
  refine sX10_word_0 _ _ _ _ _ ?_
  simp (disch := omega) only [oCS, oIld, oPush, h0l, List.getElem?_cons_zero, List.getElem?_cons_succ, List.set_cons_zero, List.set_cons_succ, List.drop_succ_cons, List.drop_zero, List.take_succ_cons, List.take_zero, List.length_cons, List.length_nil, List.reverse_cons, List.reverse_nil, List.nil_append, List.cons_append, Option.toList_some, Option.toList_none, va_rf_s, true_and, and_true, true_implies, false_implies, not_true_eq_false, not_false_eq_true, Nat.reduceAdd, Nat.reduceLeDiff, Nat.le_add_left, Nat.zero_le, Nat.le_refl, znew, true_or, or_true, b01_t, b01_f, b01_ok, bool_ft, vp_b01, vp_b0, vp_b1, b01_eq0, b01_eq1, implies_true, nI_add, nI_clamp, zi_in, zi_le_t, zi_le_f, zi_lt_t, zi_lt_f, zi_eq_t, zi_eq_f, nI_leI, nI_ltI, nI_eq, z_in, pk_mul, zu_same, zu_rw, zu_ix, zi_ne0, zi_sub, zi_m1, Nat.add_sub_cancel, Nat.reduceMul, Nat.reduceSub]
  refine zC.of0 (zX10_appendsC h1 _) (by omega) (Nat.zero_le _) (Nat.zero_le _) ?_
  rintro _ _ ⟨rfl, rfl⟩
  rw [List.nil_append]
  refine sX10_word_5 _ _ _ _ _ ?_
  simp (disch := omega) only [oCS, oIld, List.getElem?_cons_zero, List.getElem?_cons_succ, List.set_cons_zero, List.set_cons_succ, List.drop_succ_cons, List.drop_zero, List.take_succ_cons, List.take_zero, List.length_cons, List.length_nil, List.reverse_cons, List.reverse_nil, List.nil_append, List.cons_append, Option.toList_some, Option.toList_none, va_rf_s, true_and, and_true, true_implies, false_implies, not_true_eq_false, not_false_eq_true, Nat.reduceAdd, Nat.reduceLeDiff, Nat.le_add_left, Nat.zero_le, Nat.le_refl, znew, true_or, or_true, b01_t, b01_f, b01_ok, bool_ft, vp_b01, vp_b0, vp_b1, b01_eq0, b01_eq1, implies_true, nI_add, nI_clamp, zi_in, zi_le_t, zi_le_f, zi_lt_t, zi_lt_f, zi_eq_t, zi_eq_f, nI_leI, nI_ltI, nI_eq, z_in, pk_mul, zu_same, zu_rw, zu_ix, zi_ne0, zi_sub, zi_m1, Nat.add_sub_cancel, Nat.reduceMul, Nat.reduceSub]
  refine zC.of0 (zX10_appendsC h2 _) (by omega) (Nat.zero_le _) (Nat.zero_le _) ?_
  rintro _ _ ⟨rfl, rfl⟩
  refine sX10_word_9 _ _ _ _ _ ?_
  simp (disch := omega) only [oCS, oIld, List.getElem?_cons_zero, List.getElem?_cons_succ, List.set_cons_zero, List.set_cons_succ, List.drop_succ_cons, List.drop_zero, List.take_succ_cons, List.take_zero, List.length_cons, List.length_nil, List.reverse_cons, List.reverse_nil, List.nil_append, List.cons_append, Option.toList_some, Option.toList_none, va_rf_s, true_and, and_true, true_implies, false_implies, not_true_eq_false, not_false_eq_true, Nat.reduceAdd, Nat.reduceLeDiff, Nat.le_add_left, Nat.zero_le, Nat.le_refl, znew, true_or, or_true, b01_t, b01_f, b01_ok, bool_ft, vp_b01, vp_b0, vp_b1, b01_eq0, b01_eq1, implies_true, nI_add, nI_clamp, zi_in, zi_le_t, zi_le_f, zi_lt_t, zi_lt_f, zi_eq_t, zi_eq_f, nI_leI, nI_ltI, nI_eq, z_in, pk_mul, zu_same, zu_rw, zu_ix, zi_ne0, zi_sub, zi_m1, Nat.add_sub_cancel, Nat.reduceMul, Nat.reduceSub]
  refine zC.of0 (zX10_appendsC h3 _) (by omega) (Nat.zero_le _) (Nat.zero_le _) ?_
  rintro _ _ ⟨rfl, rfl⟩
  refine sX10_word_13 _ _ _ _ _ ?_
  simp (disch := omega) only [oCS, oIld, List.getElem?_cons_zero, List.getElem?_cons_succ, List.set_cons_zero, List.set_cons_succ, List.drop_succ_cons, List.drop_zero, List.take_succ_cons, List.take_zero, List.length_cons, List.length_nil, List.reverse_cons, List.reverse_nil, List.nil_append, List.cons_append, Option.toList_some, Option.toList_none, va_rf_s, true_and, and_true, true_implies, false_implies, not_true_eq_false, not_false_eq_true, Nat.reduceAdd, Nat.reduceLeDiff, Nat.le_add_left, Nat.zero_le, Nat.le_refl, znew, true_or, or_true, b01_t, b01_f, b01_ok, bool_ft, vp_b01, vp_b0, vp_b1, b01_eq0, b01_eq1, implies_true, nI_add, nI_clamp, zi_in, zi_le_t, zi_le_f, zi_lt_t, zi_lt_f, zi_eq_t, zi_eq_f, nI_leI, nI_ltI, nI_eq, z_in, pk_mul, zu_same, zu_rw, zu_ix, zi_ne0, zi_sub, zi_m1, Nat.add_sub_cancel, Nat.reduceMul, Nat.reduceSub]
  refine zC.of0 (zX10_appendsC h4 _) (by omega) (Nat.zero_le _) (Nat.zero_le _) ?_
  rintro _ _ ⟨rfl, rfl⟩
  refine sX10_word_17 _ _ _ _ _ ?_
  simp (disch := omega) only [oCS, oIld, List.getElem?_cons_zero, List.getElem?_cons_succ, List.set_cons_zero, List.set_cons_succ, List.drop_succ_cons, List.drop_zero, List.take_succ_cons, List.take_zero, List.length_cons, List.length_nil, List.reverse_cons, List.reverse_nil, List.nil_append, List.cons_append, Option.toList_some, Option.toList_none, va_rf_s, true_and, and_true, true_implies, false_implies, not_true_eq_false, not_false_eq_true, Nat.reduceAdd, Nat.reduceLeDiff, Nat.le_add_left, Nat.zero_le, Nat.le_refl, znew, true_or, or_true, b01_t, b01_f, b01_ok, bool_ft, vp_b01, vp_b0, vp_b1, b01_eq0, b01_eq1, implies_true, nI_add, nI_clamp, zi_in, zi_le_t, zi_le_f, zi_lt_t, zi_lt_f, zi_eq_t, zi_eq_f, nI_leI, nI_ltI, nI_eq, z_in, pk_mul, zu_same, zu_rw, zu_ix, zi_ne0, zi_sub, zi_m1, Nat.add_sub_cancel, Nat.reduceMul, Nat.reduceSub]
  refine zC.of0 (zX10_appendsC h5 _) (by omega) (Nat.zero_le _) (Nat.zero_le _) ?_
  rintro _ _ ⟨rfl, rfl⟩
  refine sX10_word_22 _ _ _ _ _ ?_
  simp (disch := omega) only [oCS, oIld, List.getElem?_cons_zero, List.getElem?_cons_succ, List.set_cons_zero, List.set_cons_succ, List.drop_succ_cons, List.drop_zero, List.take_succ_cons, List.take_zero, List.length_cons, List.length_nil, List.reverse_cons, List.reverse_nil, List.nil_append, List.cons_append, Option.toList_some, Option.toList_none, va_rf_s, true_and, and_true, true_implies, false_implies, not_true_eq_false, not_false_eq_true, Nat.reduceAdd, Nat.reduceLeDiff, Nat.le_add_left, Nat.zero_le, Nat.le_refl, znew, true_or, or_true, b01_t, b01_f, b01_ok, bool_ft, vp_b01, vp_b0, vp_b1, b01_eq0, b01_eq1, implies_true, nI_add, nI_clamp, zi_in, zi_le_t, zi_le_f, zi_lt_t, zi_lt_f, zi_eq_t, zi_eq_f, nI_leI, nI_ltI, nI_eq, z_in, pk_mul, zu_same, zu_rw, zu_ix, zi_ne0, zi_sub, zi_m1, Nat.add_sub_cancel, Nat.reduceMul, Nat.reduceSub]
  refine zC.of0 (zX10_appendsC h6 _) (by omega) (Nat.zero_le _) (Nat.zero_le _) ?_
  rintro _ _ ⟨rfl, rfl⟩
  refine sX10_word_27 _ _ _ _ _ ?_
  simp (disch := omega) only [oCS, oIld, List.getElem?_cons_zero, List.getElem?_cons_succ, List.set_cons_zero, List.set_cons_succ, List.drop_succ_cons, List.drop_zero, List.take_succ_cons, List.take_zero, List.length_cons, List.length_nil, List.reverse_cons, List.reverse_nil, List.nil_append, List.cons_append, Option.toList_some, Option.toList_none, va_rf_s, true_and, and_true, true_implies, false_implies, not_true_eq_false, not_false_eq_true, Nat.reduceAdd, Nat.reduceLeDiff, Nat.le_add_left, Nat.zero_le, Nat.le_refl, znew, true_or, or_true, b01_t, b01_f, b01_ok, bool_ft, vp_b01, vp_b0, vp_b1, b01_eq0, b01_eq1, implies_true, nI_add, nI_clamp, zi_in, zi_le_t, zi_le_f, zi_lt_t, zi_lt_f, zi_eq_t, zi_eq_f, nI_leI, nI_ltI, nI_eq, z_in, pk_mul, zu_same, zu_rw, zu_ix, zi_ne0, zi_sub, zi_m1, Nat.add_sub_cancel, Nat.reduceMul, Nat.reduceSub]
  refine zC.of0 (zX10_appendsC h7 _) (by omega) (Nat.zero_le _) (Nat.zero_le _) ?_
  rintro _ _ ⟨rfl, rfl⟩
  refine sX10_word_32 _ _ _ _ _ ?_
  simp (disch := omega) only [oRL, List.getElem?_cons_zero, List.getElem?_cons_succ, List.set_cons_zero, List.set_cons_succ, List.drop_succ_cons, List.drop_zero, List.take_succ_cons, List.take_zero, List.length_cons, List.length_nil, List.reverse_cons, List.reverse_nil, List.nil_append, List.cons_append, Option.toList_some, Option.toList_none, va_rf_s, true_and, and_true, true_implies, false_implies, not_true_eq_false, not_false_eq_true, Nat.reduceAdd, Nat.reduceLeDiff, Nat.le_add_left, Nat.zero_le, Nat.le_refl, znew, true_or, or_true, b01_t, b01_f, b01_ok, bool_ft, vp_b01, vp_b0, vp_b1, b01_eq0, b01_eq1, implies_true, nI_add, nI_clamp, zi_in, zi_le_t, zi_le_f, zi_lt_t, zi_lt_f, zi_eq_t, zi_eq_f, nI_leI, nI_ltI, nI_eq, z_in, pk_mul, zu_same, zu_rw, zu_ix, zi_ne0, zi_sub, zi_m1, Nat.add_sub_cancel, Nat.reduceMul, Nat.reduceSub]
  exact hVQ _ _ ⟨rfl, rfl⟩
def lAr : List (Nat × Nat × Nat) := [(1, 1, 2000), (3, 1, 2000), (5, 0, 403), (6, 0, 403), (7, 0, 403), (8, 4, 403), (9, 4, 23), (21, 4, 18), (22, 0, 18), (23, 0, 2), (24, 0, 2), (25, 0, 20), (26, 0, 20), (27, 0, 20), (28, 0, 2), (29, 0, 12), (30, 0, 12), (31, 0, 12), (32, 0, 2), (33, 0, 10), (34, 0, 2), (35, 0, 2), (36, 0, 2), (37, 0, 8), (38, 0, 8), (40, 2, 260), (41, 0, 260), (42, 0, 260), (43, 0, 260), (44, 0, 260), (46, 0, 840), (47, 0, 840), (48, 0, 64), (50, 0, 9), (51, 0, 400), (53, 0, 48), (54, 0, 48), (57, 0, 6), (58, 2, 6), (59, 0, 12), (61, 0, 1920), (62, 0, 6), (63, 0, 7), (64, 0, 896), (65, 0, 49), (67, 0, 20), (68, 0, 20), (69, 2, 20), (70, 2, 3), (71, 0, 144)]
def kkL (b i : Nat) (L1 L : Nat → Nat → Int64) : Prop := (∀ j, j < i → L (b + 7) j = lN (hsL (kwL j))) ∧ ∀ a, a ≠ b + 7 → L a = L1 a
theorem kkL.st {i : Nat} {L1 : Nat → Nat → Int64} {v : Int64} (hk : kkL b i L1 L) (hv : v = lN (hsL (kwL i))) : kkL b (i + 1) L1 (zu L (b + 7) i v) := by
  refine ⟨fun j hj => ?_, fun a ha => by rw [zu_rw _ _ ha]; exact hk.2 a ha⟩
  rw [zu_rowj]
  by_cases he : j = i
  · rw [if_pos he, hv, he]
  · rw [if_neg he]; exact hk.1 j (by omega)
theorem x10_initB {V : zV} {k n : Nat} (hVl : V.1 = l) (hVE : V.2.1 = E) (hVd : V.2.2.1 = 2) (hVc : V.2.2.2.1 = k) (hVs : V.2.2.2.2.1 = n) (hM : isM h b) (hz : ∀ o, 1 ≤ o → o ≤ 50 → S (b + o) = fun _ => 0) (hb : S b = fun j => if j = 17 then -1 else 0)
    (hVQ : ∀ S' L', (∀ a, a < b → S' a = S a ∧ L' a = L a) → mXs b S' 0 (tZ x0) → mZ b S' → S' (b + 36) = rZ x0 → mKey b L' → (S' b 2 = nI 0 ∧ S' b 17 = -1 ∧ S' b 60 = nI 0 ∧ S' b 66 = nI 0) → (∀ s, s < 3 → S' (b + 49) s = nI 0) → V.2.2.2.2.2.1 none (z, h, S', L')) :
    zC V YX10_plain [.ref b, .int (nI 0)] (z, h, S, L) k n (fun v X' k' n' => zW V YX10_init 423 [some (.ref b)] (v.toList ++ []) X' k' n') (zOut V [some (.ref b)]) := by
  refine zC.of0 (zX10_plain hM (sd := 0) (by omega)) (by omega) (by omega) (by omega) ?_
  rintro _ _ ⟨rfl, S2, rfl, hf2, -, hp2⟩
  refine sX10_init_423 _ _ _ _ _ ?_
  simp (disch := omega) only [oAld, oCV, oPush, hM.1, List.getElem?_cons_zero, List.getElem?_cons_succ, List.set_cons_zero, List.set_cons_succ, List.drop_succ_cons, List.drop_zero, List.take_succ_cons, List.take_zero, List.length_cons, List.length_nil, List.reverse_cons, List.reverse_nil, List.nil_append, List.cons_append, Option.toList_some, Option.toList_none, va_rf_s, true_and, and_true, true_implies, false_implies, not_true_eq_false, not_false_eq_true, Nat.reduceAdd, Nat.reduceLeDiff, Nat.le_add_left, Nat.zero_le, Nat.le_refl, znew, true_or, or_true, b01_t, b01_f, b01_ok, bool_ft, vp_b01, vp_b0, vp_b1, b01_eq0, b01_eq1, implies_true, nI_add, nI_clamp, zi_in, zi_le_t, zi_le_f, zi_lt_t, zi_lt_f, zi_eq_t, zi_eq_f, nI_leI, nI_ltI, nI_eq, z_in, pk_mul, zu_same, zu_rw, zu_ix, zi_ne0, zi_sub, zi_m1, Nat.add_sub_cancel, Nat.reduceMul, Nat.reduceSub]
  refine zC.of0 (zX10_plain hM (sd := 1) (by omega)) (by omega) (by omega) (by omega) ?_
  rintro _ _ ⟨rfl, S3, rfl, hf3, hs3, -⟩
  have hf23 : zfr [10, 11, 15, 19, 21, 22, 23, 24, 25] [] b S S3 := hf2.tt hf3
  have kk0 : kkL b 0 L L := ⟨fun j hj => by omega, fun _ _ => rfl⟩
  refine sX10_init_428 _ _ _ _ _ ?_
  simp (disch := omega) only [oAld, oCS, oGR, oPush, hM.1, hM.r9, hM.t9, hM.n9, List.getElem?_cons_zero, List.getElem?_cons_succ, List.set_cons_zero, List.set_cons_succ, List.drop_succ_cons, List.drop_zero, List.take_succ_cons, List.take_zero, List.length_cons, List.length_nil, List.reverse_cons, List.reverse_nil, List.nil_append, List.cons_append, Option.toList_some, Option.toList_none, va_rf_s, true_and, and_true, true_implies, false_implies, not_true_eq_false, not_false_eq_true, Nat.reduceAdd, Nat.reduceLeDiff, Nat.le_add_left, Nat.zero_le, Nat.le_refl, znew, true_or, or_true, b01_t, b01_f, b01_ok, bool_ft, vp_b01, vp_b0, vp_b1, b01_eq0, b01_eq1, implies_true, nI_add, nI_clamp, zi_in, zi_le_t, zi_le_f, zi_lt_t, zi_lt_f, zi_eq_t, zi_eq_f, nI_leI, nI_ltI, nI_eq, z_in, pk_mul, zu_same, zu_rw, zu_ix, zi_ne0, zi_sub, zi_m1, Nat.add_sub_cancel, Nat.reduceMul, Nat.reduceSub]
  refine zC.of0 (zX10_word (by unfold okC; omega) (by unfold okC; omega) (by unfold okC; omega) (by unfold okC; omega) (by unfold okC; omega) (by unfold okC; omega) (by unfold okC; omega) _) (by omega) (by omega) (by omega) ?_
  rintro _ _ ⟨rfl, rfl⟩
  have kk1 := kk0.st (v := lN (hsL (chL 99 ++ chL 111 ++ chL 114 ++ chL 110 ++ chL 101 ++ chL 114 ++ chL 0))) rfl
  refine sX10_init_449 _ _ _ _ _ ?_
  simp (disch := omega) only [oAld, oCS, oGR, oLast, oPush, hM.1, hM.r9, hM.t9, hM.n9, List.getElem?_cons_zero, List.getElem?_cons_succ, List.set_cons_zero, List.set_cons_succ, List.drop_succ_cons, List.drop_zero, List.take_succ_cons, List.take_zero, List.length_cons, List.length_nil, List.reverse_cons, List.reverse_nil, List.nil_append, List.cons_append, Option.toList_some, Option.toList_none, va_rf_s, true_and, and_true, true_implies, false_implies, not_true_eq_false, not_false_eq_true, Nat.reduceAdd, Nat.reduceLeDiff, Nat.le_add_left, Nat.zero_le, Nat.le_refl, znew, true_or, or_true, b01_t, b01_f, b01_ok, bool_ft, vp_b01, vp_b0, vp_b1, b01_eq0, b01_eq1, implies_true, nI_add, nI_clamp, zi_in, zi_le_t, zi_le_f, zi_lt_t, zi_lt_f, zi_eq_t, zi_eq_f, nI_leI, nI_ltI, nI_eq, z_in, pk_mul, zu_same, zu_rw, zu_ix, zi_ne0, zi_sub, zi_m1, Nat.add_sub_cancel, Nat.reduceMul, Nat.reduceSub]
  generalize zu L (b + 7) 0 (lN (hsL (chL 99 ++ chL 111 ++ chL 114 ++ chL 110 ++ chL 101 ++ chL 114 ++ chL 0))) = K1 at kk1 ⊢
  clear kk0
  refine zC.of0 (zX10_word (by unfold okC; omega) (by unfold okC; omega) (by unfold okC; omega) (by unfold okC; omega) (by unfold okC; omega) (by unfold okC; omega) (by unfold okC; omega) _) (by omega) (by omega) (by omega) ?_
  rintro _ _ ⟨rfl, rfl⟩
  have kk2 := kk1.st (v := lN (hsL (chL 115 ++ chL 116 ++ chL 114 ++ chL 101 ++ chL 101 ++ chL 116 ++ chL 0))) rfl
  refine sX10_init_471 _ _ _ _ _ ?_
  simp (disch := omega) only [oAld, oCS, oGR, oLast, oPush, hM.1, hM.r9, hM.t9, hM.n9, List.getElem?_cons_zero, List.getElem?_cons_succ, List.set_cons_zero, List.set_cons_succ, List.drop_succ_cons, List.drop_zero, List.take_succ_cons, List.take_zero, List.length_cons, List.length_nil, List.reverse_cons, List.reverse_nil, List.nil_append, List.cons_append, Option.toList_some, Option.toList_none, va_rf_s, true_and, and_true, true_implies, false_implies, not_true_eq_false, not_false_eq_true, Nat.reduceAdd, Nat.reduceLeDiff, Nat.le_add_left, Nat.zero_le, Nat.le_refl, znew, true_or, or_true, b01_t, b01_f, b01_ok, bool_ft, vp_b01, vp_b0, vp_b1, b01_eq0, b01_eq1, implies_true, nI_add, nI_clamp, zi_in, zi_le_t, zi_le_f, zi_lt_t, zi_lt_f, zi_eq_t, zi_eq_f, nI_leI, nI_ltI, nI_eq, z_in, pk_mul, zu_same, zu_rw, zu_ix, zi_ne0, zi_sub, zi_m1, Nat.add_sub_cancel, Nat.reduceMul, Nat.reduceSub]
  generalize zu K1 (b + 7) 1 (lN (hsL (chL 115 ++ chL 116 ++ chL 114 ++ chL 101 ++ chL 101 ++ chL 116 ++ chL 0))) = K2 at kk2 ⊢
  clear kk1
  refine zC.of0 (zX10_word (by unfold okC; omega) (by unfold okC; omega) (by unfold okC; omega) (by unfold okC; omega) (by unfold okC; omega) (by unfold okC; omega) (by unfold okC; omega) _) (by omega) (by omega) (by omega) ?_
  rintro _ _ ⟨rfl, rfl⟩
  have kk3 := kk2.st (v := lN (hsL (chL 121 ++ chL 111 ++ chL 117 ++ chL 110 ++ chL 103 ++ chL 0 ++ chL 0))) rfl
  refine sX10_init_492 _ _ _ _ _ ?_
  simp (disch := omega) only [oAld, oCS, oGR, oLast, oPush, hM.1, hM.r9, hM.t9, hM.n9, List.getElem?_cons_zero, List.getElem?_cons_succ, List.set_cons_zero, List.set_cons_succ, List.drop_succ_cons, List.drop_zero, List.take_succ_cons, List.take_zero, List.length_cons, List.length_nil, List.reverse_cons, List.reverse_nil, List.nil_append, List.cons_append, Option.toList_some, Option.toList_none, va_rf_s, true_and, and_true, true_implies, false_implies, not_true_eq_false, not_false_eq_true, Nat.reduceAdd, Nat.reduceLeDiff, Nat.le_add_left, Nat.zero_le, Nat.le_refl, znew, true_or, or_true, b01_t, b01_f, b01_ok, bool_ft, vp_b01, vp_b0, vp_b1, b01_eq0, b01_eq1, implies_true, nI_add, nI_clamp, zi_in, zi_le_t, zi_le_f, zi_lt_t, zi_lt_f, zi_eq_t, zi_eq_f, nI_leI, nI_ltI, nI_eq, z_in, pk_mul, zu_same, zu_rw, zu_ix, zi_ne0, zi_sub, zi_m1, Nat.add_sub_cancel, Nat.reduceMul, Nat.reduceSub]
  generalize zu K2 (b + 7) 2 (lN (hsL (chL 121 ++ chL 111 ++ chL 117 ++ chL 110 ++ chL 103 ++ chL 0 ++ chL 0))) = K3 at kk3 ⊢
  clear kk2
  refine zC.of0 (zX10_word (by unfold okC; omega) (by unfold okC; omega) (by unfold okC; omega) (by unfold okC; omega) (by unfold okC; omega) (by unfold okC; omega) (by unfold okC; omega) _) (by omega) (by omega) (by omega) ?_
  rintro _ _ ⟨rfl, rfl⟩
  have kk4 := kk3.st (v := lN (hsL (chL 119 ++ chL 111 ++ chL 114 ++ chL 100 ++ chL 0 ++ chL 0 ++ chL 0))) rfl
  refine sX10_init_512 _ _ _ _ _ ?_
  simp (disch := omega) only [oAld, oCS, oGR, oLast, oPush, hM.1, hM.r9, hM.t9, hM.n9, List.getElem?_cons_zero, List.getElem?_cons_succ, List.set_cons_zero, List.set_cons_succ, List.drop_succ_cons, List.drop_zero, List.take_succ_cons, List.take_zero, List.length_cons, List.length_nil, List.reverse_cons, List.reverse_nil, List.nil_append, List.cons_append, Option.toList_some, Option.toList_none, va_rf_s, true_and, and_true, true_implies, false_implies, not_true_eq_false, not_false_eq_true, Nat.reduceAdd, Nat.reduceLeDiff, Nat.le_add_left, Nat.zero_le, Nat.le_refl, znew, true_or, or_true, b01_t, b01_f, b01_ok, bool_ft, vp_b01, vp_b0, vp_b1, b01_eq0, b01_eq1, implies_true, nI_add, nI_clamp, zi_in, zi_le_t, zi_le_f, zi_lt_t, zi_lt_f, zi_eq_t, zi_eq_f, nI_leI, nI_ltI, nI_eq, z_in, pk_mul, zu_same, zu_rw, zu_ix, zi_ne0, zi_sub, zi_m1, Nat.add_sub_cancel, Nat.reduceMul, Nat.reduceSub]
  generalize zu K3 (b + 7) 3 (lN (hsL (chL 119 ++ chL 111 ++ chL 114 ++ chL 100 ++ chL 0 ++ chL 0 ++ chL 0))) = K4 at kk4 ⊢
  clear kk3
  refine zC.of0 (zX10_word (by unfold okC; omega) (by unfold okC; omega) (by unfold okC; omega) (by unfold okC; omega) (by unfold okC; omega) (by unfold okC; omega) (by unfold okC; omega) _) (by omega) (by omega) (by omega) ?_
  rintro _ _ ⟨rfl, rfl⟩
  have kk5 := kk4.st (v := lN (hsL (chL 108 ++ chL 105 ++ chL 103 ++ chL 104 ++ chL 116 ++ chL 101 ++ chL 114))) rfl
  refine sX10_init_535 _ _ _ _ _ ?_
  simp (disch := omega) only [oAld, oCS, oGR, oLast, oPush, hM.1, hM.r9, hM.t9, hM.n9, List.getElem?_cons_zero, List.getElem?_cons_succ, List.set_cons_zero, List.set_cons_succ, List.drop_succ_cons, List.drop_zero, List.take_succ_cons, List.take_zero, List.length_cons, List.length_nil, List.reverse_cons, List.reverse_nil, List.nil_append, List.cons_append, Option.toList_some, Option.toList_none, va_rf_s, true_and, and_true, true_implies, false_implies, not_true_eq_false, not_false_eq_true, Nat.reduceAdd, Nat.reduceLeDiff, Nat.le_add_left, Nat.zero_le, Nat.le_refl, znew, true_or, or_true, b01_t, b01_f, b01_ok, bool_ft, vp_b01, vp_b0, vp_b1, b01_eq0, b01_eq1, implies_true, nI_add, nI_clamp, zi_in, zi_le_t, zi_le_f, zi_lt_t, zi_lt_f, zi_eq_t, zi_eq_f, nI_leI, nI_ltI, nI_eq, z_in, pk_mul, zu_same, zu_rw, zu_ix, zi_ne0, zi_sub, zi_m1, Nat.add_sub_cancel, Nat.reduceMul, Nat.reduceSub]
  generalize zu K4 (b + 7) 4 (lN (hsL (chL 108 ++ chL 105 ++ chL 103 ++ chL 104 ++ chL 116 ++ chL 101 ++ chL 114))) = K5 at kk5 ⊢
  clear kk4
  refine zC.of0 (zX10_word (by unfold okC; omega) (by unfold okC; omega) (by unfold okC; omega) (by unfold okC; omega) (by unfold okC; omega) (by unfold okC; omega) (by unfold okC; omega) _) (by omega) (by omega) (by omega) ?_
  rintro _ _ ⟨rfl, rfl⟩
  have kk6 := kk5.st (v := lN (hsL (chL 103 ++ chL 108 ++ chL 111 ++ chL 119 ++ chL 115 ++ chL 0 ++ chL 0))) rfl
  refine sX10_init_556 _ _ _ _ _ ?_
  simp (disch := omega) only [oAld, oCS, oGR, oLast, oPush, hM.1, hM.r9, hM.t9, hM.n9, List.getElem?_cons_zero, List.getElem?_cons_succ, List.set_cons_zero, List.set_cons_succ, List.drop_succ_cons, List.drop_zero, List.take_succ_cons, List.take_zero, List.length_cons, List.length_nil, List.reverse_cons, List.reverse_nil, List.nil_append, List.cons_append, Option.toList_some, Option.toList_none, va_rf_s, true_and, and_true, true_implies, false_implies, not_true_eq_false, not_false_eq_true, Nat.reduceAdd, Nat.reduceLeDiff, Nat.le_add_left, Nat.zero_le, Nat.le_refl, znew, true_or, or_true, b01_t, b01_f, b01_ok, bool_ft, vp_b01, vp_b0, vp_b1, b01_eq0, b01_eq1, implies_true, nI_add, nI_clamp, zi_in, zi_le_t, zi_le_f, zi_lt_t, zi_lt_f, zi_eq_t, zi_eq_f, nI_leI, nI_ltI, nI_eq, z_in, pk_mul, zu_same, zu_rw, zu_ix, zi_ne0, zi_sub, zi_m1, Nat.add_sub_cancel, Nat.reduceMul, Nat.reduceSub]
  generalize zu K5 (b + 7) 5 (lN (hsL (chL 103 ++ chL 108 ++ chL 111 ++ chL 119 ++ chL 115 ++ chL 0 ++ chL 0))) = K6 at kk6 ⊢
  clear kk5
  refine zC.of0 (zX10_word (by unfold okC; omega) (by unfold okC; omega) (by unfold okC; omega) (by unfold okC; omega) (by unfold okC; omega) (by unfold okC; omega) (by unfold okC; omega) _) (by omega) (by omega) (by omega) ?_
  rintro _ _ ⟨rfl, rfl⟩
  have kk7 := kk6.st (v := lN (hsL (chL 119 ++ chL 101 ++ chL 97 ++ chL 114 ++ chL 115 ++ chL 0 ++ chL 0))) rfl
  refine sX10_init_578 _ _ _ _ _ ?_
  simp (disch := omega) only [oAld, oCS, oGR, oLast, oPush, hM.1, hM.r9, hM.t9, hM.n9, List.getElem?_cons_zero, List.getElem?_cons_succ, List.set_cons_zero, List.set_cons_succ, List.drop_succ_cons, List.drop_zero, List.take_succ_cons, List.take_zero, List.length_cons, List.length_nil, List.reverse_cons, List.reverse_nil, List.nil_append, List.cons_append, Option.toList_some, Option.toList_none, va_rf_s, true_and, and_true, true_implies, false_implies, not_true_eq_false, not_false_eq_true, Nat.reduceAdd, Nat.reduceLeDiff, Nat.le_add_left, Nat.zero_le, Nat.le_refl, znew, true_or, or_true, b01_t, b01_f, b01_ok, bool_ft, vp_b01, vp_b0, vp_b1, b01_eq0, b01_eq1, implies_true, nI_add, nI_clamp, zi_in, zi_le_t, zi_le_f, zi_lt_t, zi_lt_f, zi_eq_t, zi_eq_f, nI_leI, nI_ltI, nI_eq, z_in, pk_mul, zu_same, zu_rw, zu_ix, zi_ne0, zi_sub, zi_m1, Nat.add_sub_cancel, Nat.reduceMul, Nat.reduceSub]
  generalize zu K6 (b + 7) 6 (lN (hsL (chL 119 ++ chL 101 ++ chL 97 ++ chL 114 ++ chL 115 ++ chL 0 ++ chL 0))) = K7 at kk7 ⊢
  clear kk6
  refine zC.of0 (zX10_word (by unfold okC; omega) (by unfold okC; omega) (by unfold okC; omega) (by unfold okC; omega) (by unfold okC; omega) (by unfold okC; omega) (by unfold okC; omega) _) (by omega) (by omega) (by omega) ?_
  rintro _ _ ⟨rfl, rfl⟩
  have kk8 := kk7.st (v := lN (hsL (chL 99 ++ chL 111 ++ chL 111 ++ chL 108 ++ chL 115 ++ chL 0 ++ chL 0))) rfl
  refine sX10_init_600 _ _ _ _ _ ?_
  simp (disch := omega) only [oAld, oCS, oGR, oLast, oPush, hM.1, hM.r9, hM.t9, hM.n9, List.getElem?_cons_zero, List.getElem?_cons_succ, List.set_cons_zero, List.set_cons_succ, List.drop_succ_cons, List.drop_zero, List.take_succ_cons, List.take_zero, List.length_cons, List.length_nil, List.reverse_cons, List.reverse_nil, List.nil_append, List.cons_append, Option.toList_some, Option.toList_none, va_rf_s, true_and, and_true, true_implies, false_implies, not_true_eq_false, not_false_eq_true, Nat.reduceAdd, Nat.reduceLeDiff, Nat.le_add_left, Nat.zero_le, Nat.le_refl, znew, true_or, or_true, b01_t, b01_f, b01_ok, bool_ft, vp_b01, vp_b0, vp_b1, b01_eq0, b01_eq1, implies_true, nI_add, nI_clamp, zi_in, zi_le_t, zi_le_f, zi_lt_t, zi_lt_f, zi_eq_t, zi_eq_f, nI_leI, nI_ltI, nI_eq, z_in, pk_mul, zu_same, zu_rw, zu_ix, zi_ne0, zi_sub, zi_m1, Nat.add_sub_cancel, Nat.reduceMul, Nat.reduceSub]
  generalize zu K7 (b + 7) 7 (lN (hsL (chL 99 ++ chL 111 ++ chL 111 ++ chL 108 ++ chL 115 ++ chL 0 ++ chL 0))) = K8 at kk8 ⊢
  clear kk7
  refine zC.of0 (zX10_word (by unfold okC; omega) (by unfold okC; omega) (by unfold okC; omega) (by unfold okC; omega) (by unfold okC; omega) (by unfold okC; omega) (by unfold okC; omega) _) (by omega) (by omega) (by omega) ?_
  rintro _ _ ⟨rfl, rfl⟩
  have kk9 := kk8.st (v := lN (hsL (chL 108 ++ chL 101 ++ chL 97 ++ chL 118 ++ chL 101 ++ chL 115 ++ chL 0))) rfl
  refine sX10_init_623 _ _ _ _ _ ?_
  simp (disch := omega) only [oAld, oCS, oGR, oLast, oPush, hM.1, hM.r9, hM.t9, hM.n9, List.getElem?_cons_zero, List.getElem?_cons_succ, List.set_cons_zero, List.set_cons_succ, List.drop_succ_cons, List.drop_zero, List.take_succ_cons, List.take_zero, List.length_cons, List.length_nil, List.reverse_cons, List.reverse_nil, List.nil_append, List.cons_append, Option.toList_some, Option.toList_none, va_rf_s, true_and, and_true, true_implies, false_implies, not_true_eq_false, not_false_eq_true, Nat.reduceAdd, Nat.reduceLeDiff, Nat.le_add_left, Nat.zero_le, Nat.le_refl, znew, true_or, or_true, b01_t, b01_f, b01_ok, bool_ft, vp_b01, vp_b0, vp_b1, b01_eq0, b01_eq1, implies_true, nI_add, nI_clamp, zi_in, zi_le_t, zi_le_f, zi_lt_t, zi_lt_f, zi_eq_t, zi_eq_f, nI_leI, nI_ltI, nI_eq, z_in, pk_mul, zu_same, zu_rw, zu_ix, zi_ne0, zi_sub, zi_m1, Nat.add_sub_cancel, Nat.reduceMul, Nat.reduceSub]
  generalize zu K8 (b + 7) 8 (lN (hsL (chL 108 ++ chL 101 ++ chL 97 ++ chL 118 ++ chL 101 ++ chL 115 ++ chL 0))) = K9 at kk9 ⊢
  clear kk8
  refine zC.of0 (zX10_word (by unfold okC; omega) (by unfold okC; omega) (by unfold okC; omega) (by unfold okC; omega) (by unfold okC; omega) (by unfold okC; omega) (by unfold okC; omega) _) (by omega) (by omega) (by omega) ?_
  rintro _ _ ⟨rfl, rfl⟩
  have kk10 := kk9.st (v := lN (hsL (chL 100 ++ chL 114 ++ chL 97 ++ chL 117 ++ chL 103 ++ chL 104 ++ chL 116))) rfl
  refine sX10_init_647 _ _ _ _ _ ?_
  simp (disch := omega) only [oAld, oCS, oGR, oLast, oPush, hM.1, hM.r9, hM.t9, hM.n9, List.getElem?_cons_zero, List.getElem?_cons_succ, List.set_cons_zero, List.set_cons_succ, List.drop_succ_cons, List.drop_zero, List.take_succ_cons, List.take_zero, List.length_cons, List.length_nil, List.reverse_cons, List.reverse_nil, List.nil_append, List.cons_append, Option.toList_some, Option.toList_none, va_rf_s, true_and, and_true, true_implies, false_implies, not_true_eq_false, not_false_eq_true, Nat.reduceAdd, Nat.reduceLeDiff, Nat.le_add_left, Nat.zero_le, Nat.le_refl, znew, true_or, or_true, b01_t, b01_f, b01_ok, bool_ft, vp_b01, vp_b0, vp_b1, b01_eq0, b01_eq1, implies_true, nI_add, nI_clamp, zi_in, zi_le_t, zi_le_f, zi_lt_t, zi_lt_f, zi_eq_t, zi_eq_f, nI_leI, nI_ltI, nI_eq, z_in, pk_mul, zu_same, zu_rw, zu_ix, zi_ne0, zi_sub, zi_m1, Nat.add_sub_cancel, Nat.reduceMul, Nat.reduceSub]
  generalize zu K9 (b + 7) 9 (lN (hsL (chL 100 ++ chL 114 ++ chL 97 ++ chL 117 ++ chL 103 ++ chL 104 ++ chL 116))) = K10 at kk10 ⊢
  clear kk9
  refine zC.of0 (zX10_word (by unfold okC; omega) (by unfold okC; omega) (by unfold okC; omega) (by unfold okC; omega) (by unfold okC; omega) (by unfold okC; omega) (by unfold okC; omega) _) (by omega) (by omega) (by omega) ?_
  rintro _ _ ⟨rfl, rfl⟩
  have kk11 := kk10.st (v := lN (hsL (chL 115 ++ chL 101 ++ chL 101 ++ chL 100 ++ chL 0 ++ chL 0 ++ chL 0))) rfl
  refine sX10_init_668 _ _ _ _ _ ?_
  simp (disch := omega) only [oAld, oCS, oGR, oLast, oPush, hM.1, hM.r9, hM.t9, hM.n9, List.getElem?_cons_zero, List.getElem?_cons_succ, List.set_cons_zero, List.set_cons_succ, List.drop_succ_cons, List.drop_zero, List.take_succ_cons, List.take_zero, List.length_cons, List.length_nil, List.reverse_cons, List.reverse_nil, List.nil_append, List.cons_append, Option.toList_some, Option.toList_none, va_rf_s, true_and, and_true, true_implies, false_implies, not_true_eq_false, not_false_eq_true, Nat.reduceAdd, Nat.reduceLeDiff, Nat.le_add_left, Nat.zero_le, Nat.le_refl, znew, true_or, or_true, b01_t, b01_f, b01_ok, bool_ft, vp_b01, vp_b0, vp_b1, b01_eq0, b01_eq1, implies_true, nI_add, nI_clamp, zi_in, zi_le_t, zi_le_f, zi_lt_t, zi_lt_f, zi_eq_t, zi_eq_f, nI_leI, nI_ltI, nI_eq, z_in, pk_mul, zu_same, zu_rw, zu_ix, zi_ne0, zi_sub, zi_m1, Nat.add_sub_cancel, Nat.reduceMul, Nat.reduceSub]
  generalize zu K10 (b + 7) 10 (lN (hsL (chL 115 ++ chL 101 ++ chL 101 ++ chL 100 ++ chL 0 ++ chL 0 ++ chL 0))) = K11 at kk11 ⊢
  clear kk10
  refine zC.of0 (zX10_word (by unfold okC; omega) (by unfold okC; omega) (by unfold okC; omega) (by unfold okC; omega) (by unfold okC; omega) (by unfold okC; omega) (by unfold okC; omega) _) (by omega) (by omega) (by omega) ?_
  rintro _ _ ⟨rfl, rfl⟩
  have kk12 := kk11.st (v := lN (hsL (chL 105 ++ chL 102 ++ chL 0 ++ chL 0 ++ chL 0 ++ chL 0 ++ chL 0))) rfl
  refine sX10_init_687 _ _ _ _ _ ?_
  simp (disch := omega) only [oAld, oCS, oGR, oLast, oPush, hM.1, hM.r9, hM.t9, hM.n9, List.getElem?_cons_zero, List.getElem?_cons_succ, List.set_cons_zero, List.set_cons_succ, List.drop_succ_cons, List.drop_zero, List.take_succ_cons, List.take_zero, List.length_cons, List.length_nil, List.reverse_cons, List.reverse_nil, List.nil_append, List.cons_append, Option.toList_some, Option.toList_none, va_rf_s, true_and, and_true, true_implies, false_implies, not_true_eq_false, not_false_eq_true, Nat.reduceAdd, Nat.reduceLeDiff, Nat.le_add_left, Nat.zero_le, Nat.le_refl, znew, true_or, or_true, b01_t, b01_f, b01_ok, bool_ft, vp_b01, vp_b0, vp_b1, b01_eq0, b01_eq1, implies_true, nI_add, nI_clamp, zi_in, zi_le_t, zi_le_f, zi_lt_t, zi_lt_f, zi_eq_t, zi_eq_f, nI_leI, nI_ltI, nI_eq, z_in, pk_mul, zu_same, zu_rw, zu_ix, zi_ne0, zi_sub, zi_m1, Nat.add_sub_cancel, Nat.reduceMul, Nat.reduceSub]
  generalize zu K11 (b + 7) 11 (lN (hsL (chL 105 ++ chL 102 ++ chL 0 ++ chL 0 ++ chL 0 ++ chL 0 ++ chL 0))) = K12 at kk12 ⊢
  clear kk11
  refine zC.of0 (zX10_word (by unfold okC; omega) (by unfold okC; omega) (by unfold okC; omega) (by unfold okC; omega) (by unfold okC; omega) (by unfold okC; omega) (by unfold okC; omega) _) (by omega) (by omega) (by omega) ?_
  rintro _ _ ⟨rfl, rfl⟩
  have kk13 := kk12.st (v := lN (hsL (chL 116 ++ chL 104 ++ chL 101 ++ chL 110 ++ chL 0 ++ chL 0 ++ chL 0))) rfl
  refine sX10_init_708 _ _ _ _ _ ?_
  simp (disch := omega) only [oAld, oCS, oGR, oLast, oPush, hM.1, hM.r9, hM.t9, hM.n9, List.getElem?_cons_zero, List.getElem?_cons_succ, List.set_cons_zero, List.set_cons_succ, List.drop_succ_cons, List.drop_zero, List.take_succ_cons, List.take_zero, List.length_cons, List.length_nil, List.reverse_cons, List.reverse_nil, List.nil_append, List.cons_append, Option.toList_some, Option.toList_none, va_rf_s, true_and, and_true, true_implies, false_implies, not_true_eq_false, not_false_eq_true, Nat.reduceAdd, Nat.reduceLeDiff, Nat.le_add_left, Nat.zero_le, Nat.le_refl, znew, true_or, or_true, b01_t, b01_f, b01_ok, bool_ft, vp_b01, vp_b0, vp_b1, b01_eq0, b01_eq1, implies_true, nI_add, nI_clamp, zi_in, zi_le_t, zi_le_f, zi_lt_t, zi_lt_f, zi_eq_t, zi_eq_f, nI_leI, nI_ltI, nI_eq, z_in, pk_mul, zu_same, zu_rw, zu_ix, zi_ne0, zi_sub, zi_m1, Nat.add_sub_cancel, Nat.reduceMul, Nat.reduceSub]
  generalize zu K12 (b + 7) 12 (lN (hsL (chL 116 ++ chL 104 ++ chL 101 ++ chL 110 ++ chL 0 ++ chL 0 ++ chL 0))) = K13 at kk13 ⊢
  clear kk12
  refine zC.of0 (zX10_word (by unfold okC; omega) (by unfold okC; omega) (by unfold okC; omega) (by unfold okC; omega) (by unfold okC; omega) (by unfold okC; omega) (by unfold okC; omega) _) (by omega) (by omega) (by omega) ?_
  rintro _ _ ⟨rfl, rfl⟩
  have kk14 := kk13.st (v := lN (hsL (chL 101 ++ chL 108 ++ chL 115 ++ chL 101 ++ chL 0 ++ chL 0 ++ chL 0))) rfl
  refine sX10_init_729 _ _ _ _ _ ?_
  simp (disch := omega) only [oAld, oCS, oGR, oLast, oPush, hM.1, hM.r9, hM.t9, hM.n9, List.getElem?_cons_zero, List.getElem?_cons_succ, List.set_cons_zero, List.set_cons_succ, List.drop_succ_cons, List.drop_zero, List.take_succ_cons, List.take_zero, List.length_cons, List.length_nil, List.reverse_cons, List.reverse_nil, List.nil_append, List.cons_append, Option.toList_some, Option.toList_none, va_rf_s, true_and, and_true, true_implies, false_implies, not_true_eq_false, not_false_eq_true, Nat.reduceAdd, Nat.reduceLeDiff, Nat.le_add_left, Nat.zero_le, Nat.le_refl, znew, true_or, or_true, b01_t, b01_f, b01_ok, bool_ft, vp_b01, vp_b0, vp_b1, b01_eq0, b01_eq1, implies_true, nI_add, nI_clamp, zi_in, zi_le_t, zi_le_f, zi_lt_t, zi_lt_f, zi_eq_t, zi_eq_f, nI_leI, nI_ltI, nI_eq, z_in, pk_mul, zu_same, zu_rw, zu_ix, zi_ne0, zi_sub, zi_m1, Nat.add_sub_cancel, Nat.reduceMul, Nat.reduceSub]
  generalize zu K13 (b + 7) 13 (lN (hsL (chL 101 ++ chL 108 ++ chL 115 ++ chL 101 ++ chL 0 ++ chL 0 ++ chL 0))) = K14 at kk14 ⊢
  clear kk13
  refine zC.of0 (zX10_word (by unfold okC; omega) (by unfold okC; omega) (by unfold okC; omega) (by unfold okC; omega) (by unfold okC; omega) (by unfold okC; omega) (by unfold okC; omega) _) (by omega) (by omega) (by omega) ?_
  rintro _ _ ⟨rfl, rfl⟩
  have kk15 := kk14.st (v := lN (hsL (chL 104 ++ chL 101 ++ chL 97 ++ chL 116 ++ chL 0 ++ chL 0 ++ chL 0))) rfl
  refine sX10_init_750 _ _ _ _ _ ?_
  simp (disch := omega) only [oAld, oCS, oGR, oLast, oPush, hM.1, hM.r9, hM.t9, hM.n9, List.getElem?_cons_zero, List.getElem?_cons_succ, List.set_cons_zero, List.set_cons_succ, List.drop_succ_cons, List.drop_zero, List.take_succ_cons, List.take_zero, List.length_cons, List.length_nil, List.reverse_cons, List.reverse_nil, List.nil_append, List.cons_append, Option.toList_some, Option.toList_none, va_rf_s, true_and, and_true, true_implies, false_implies, not_true_eq_false, not_false_eq_true, Nat.reduceAdd, Nat.reduceLeDiff, Nat.le_add_left, Nat.zero_le, Nat.le_refl, znew, true_or, or_true, b01_t, b01_f, b01_ok, bool_ft, vp_b01, vp_b0, vp_b1, b01_eq0, b01_eq1, implies_true, nI_add, nI_clamp, zi_in, zi_le_t, zi_le_f, zi_lt_t, zi_lt_f, zi_eq_t, zi_eq_f, nI_leI, nI_ltI, nI_eq, z_in, pk_mul, zu_same, zu_rw, zu_ix, zi_ne0, zi_sub, zi_m1, Nat.add_sub_cancel, Nat.reduceMul, Nat.reduceSub]
  generalize zu K14 (b + 7) 14 (lN (hsL (chL 104 ++ chL 101 ++ chL 97 ++ chL 116 ++ chL 0 ++ chL 0 ++ chL 0))) = K15 at kk15 ⊢
  clear kk14
  refine zC.of0 (zX10_word (by unfold okC; omega) (by unfold okC; omega) (by unfold okC; omega) (by unfold okC; omega) (by unfold okC; omega) (by unfold okC; omega) (by unfold okC; omega) _) (by omega) (by omega) (by omega) ?_
  rintro _ _ ⟨rfl, rfl⟩
  have kk16 := kk15.st (v := lN (hsL (chL 97 ++ chL 103 ++ chL 101 ++ chL 0 ++ chL 0 ++ chL 0 ++ chL 0))) rfl
  refine sX10_init_770 _ _ _ _ _ ?_
  simp (disch := omega) only [oAld, oCS, oGR, oLast, oPush, hM.1, hM.r9, hM.t9, hM.n9, List.getElem?_cons_zero, List.getElem?_cons_succ, List.set_cons_zero, List.set_cons_succ, List.drop_succ_cons, List.drop_zero, List.take_succ_cons, List.take_zero, List.length_cons, List.length_nil, List.reverse_cons, List.reverse_nil, List.nil_append, List.cons_append, Option.toList_some, Option.toList_none, va_rf_s, true_and, and_true, true_implies, false_implies, not_true_eq_false, not_false_eq_true, Nat.reduceAdd, Nat.reduceLeDiff, Nat.le_add_left, Nat.zero_le, Nat.le_refl, znew, true_or, or_true, b01_t, b01_f, b01_ok, bool_ft, vp_b01, vp_b0, vp_b1, b01_eq0, b01_eq1, implies_true, nI_add, nI_clamp, zi_in, zi_le_t, zi_le_f, zi_lt_t, zi_lt_f, zi_eq_t, zi_eq_f, nI_leI, nI_ltI, nI_eq, z_in, pk_mul, zu_same, zu_rw, zu_ix, zi_ne0, zi_sub, zi_m1, Nat.add_sub_cancel, Nat.reduceMul, Nat.reduceSub]
  generalize zu K15 (b + 7) 15 (lN (hsL (chL 97 ++ chL 103 ++ chL 101 ++ chL 0 ++ chL 0 ++ chL 0 ++ chL 0))) = K16 at kk16 ⊢
  clear kk15
  refine zC.of0 (zX10_word (by unfold okC; omega) (by unfold okC; omega) (by unfold okC; omega) (by unfold okC; omega) (by unfold okC; omega) (by unfold okC; omega) (by unfold okC; omega) _) (by omega) (by omega) (by omega) ?_
  rintro _ _ ⟨rfl, rfl⟩
  have kk17 := kk16.st (v := lN (hsL (chL 116 ++ chL 101 ++ chL 109 ++ chL 112 ++ chL 101 ++ chL 114 ++ chL 0))) rfl
  refine sX10_init_793 _ _ _ _ _ ?_
  simp (disch := omega) only [oAld, oCS, oGR, oLast, oPush, hM.1, hM.r9, hM.t9, hM.n9, List.getElem?_cons_zero, List.getElem?_cons_succ, List.set_cons_zero, List.set_cons_succ, List.drop_succ_cons, List.drop_zero, List.take_succ_cons, List.take_zero, List.length_cons, List.length_nil, List.reverse_cons, List.reverse_nil, List.nil_append, List.cons_append, Option.toList_some, Option.toList_none, va_rf_s, true_and, and_true, true_implies, false_implies, not_true_eq_false, not_false_eq_true, Nat.reduceAdd, Nat.reduceLeDiff, Nat.le_add_left, Nat.zero_le, Nat.le_refl, znew, true_or, or_true, b01_t, b01_f, b01_ok, bool_ft, vp_b01, vp_b0, vp_b1, b01_eq0, b01_eq1, implies_true, nI_add, nI_clamp, zi_in, zi_le_t, zi_le_f, zi_lt_t, zi_lt_f, zi_eq_t, zi_eq_f, nI_leI, nI_ltI, nI_eq, z_in, pk_mul, zu_same, zu_rw, zu_ix, zi_ne0, zi_sub, zi_m1, Nat.add_sub_cancel, Nat.reduceMul, Nat.reduceSub]
  generalize zu K16 (b + 7) 16 (lN (hsL (chL 116 ++ chL 101 ++ chL 109 ++ chL 112 ++ chL 101 ++ chL 114 ++ chL 0))) = K17 at kk17 ⊢
  clear kk16
  refine zC.of0 (zX10_word (by unfold okC; omega) (by unfold okC; omega) (by unfold okC; omega) (by unfold okC; omega) (by unfold okC; omega) (by unfold okC; omega) (by unfold okC; omega) _) (by omega) (by omega) (by omega) ?_
  rintro _ _ ⟨rfl, rfl⟩
  have kk18 := kk17.st (v := lN (hsL (chL 119 ++ chL 111 ++ chL 114 ++ chL 110 ++ chL 0 ++ chL 0 ++ chL 0))) rfl
  refine sX10_init_814 _ _ _ _ _ ?_
  simp (disch := omega) only [oAld, oCS, oGR, oLast, oPush, hM.1, hM.r9, hM.t9, hM.n9, List.getElem?_cons_zero, List.getElem?_cons_succ, List.set_cons_zero, List.set_cons_succ, List.drop_succ_cons, List.drop_zero, List.take_succ_cons, List.take_zero, List.length_cons, List.length_nil, List.reverse_cons, List.reverse_nil, List.nil_append, List.cons_append, Option.toList_some, Option.toList_none, va_rf_s, true_and, and_true, true_implies, false_implies, not_true_eq_false, not_false_eq_true, Nat.reduceAdd, Nat.reduceLeDiff, Nat.le_add_left, Nat.zero_le, Nat.le_refl, znew, true_or, or_true, b01_t, b01_f, b01_ok, bool_ft, vp_b01, vp_b0, vp_b1, b01_eq0, b01_eq1, implies_true, nI_add, nI_clamp, zi_in, zi_le_t, zi_le_f, zi_lt_t, zi_lt_f, zi_eq_t, zi_eq_f, nI_leI, nI_ltI, nI_eq, z_in, pk_mul, zu_same, zu_rw, zu_ix, zi_ne0, zi_sub, zi_m1, Nat.add_sub_cancel, Nat.reduceMul, Nat.reduceSub]
  generalize zu K17 (b + 7) 17 (lN (hsL (chL 119 ++ chL 111 ++ chL 114 ++ chL 110 ++ chL 0 ++ chL 0 ++ chL 0))) = K18 at kk18 ⊢
  clear kk17
  refine zC.of0 (zX10_word (by unfold okC; omega) (by unfold okC; omega) (by unfold okC; omega) (by unfold okC; omega) (by unfold okC; omega) (by unfold okC; omega) (by unfold okC; omega) _) (by omega) (by omega) (by omega) ?_
  rintro _ _ ⟨rfl, rfl⟩
  have kk19 := kk18.st (v := lN (hsL (chL 115 ++ chL 105 ++ chL 110 ++ chL 99 ++ chL 101 ++ chL 0 ++ chL 0))) rfl
  refine sX10_init_836 _ _ _ _ _ ?_
  simp (disch := omega) only [oAld, oCS, oGR, oLast, oPush, hM.1, hM.r9, hM.t9, hM.n9, List.getElem?_cons_zero, List.getElem?_cons_succ, List.set_cons_zero, List.set_cons_succ, List.drop_succ_cons, List.drop_zero, List.take_succ_cons, List.take_zero, List.length_cons, List.length_nil, List.reverse_cons, List.reverse_nil, List.nil_append, List.cons_append, Option.toList_some, Option.toList_none, va_rf_s, true_and, and_true, true_implies, false_implies, not_true_eq_false, not_false_eq_true, Nat.reduceAdd, Nat.reduceLeDiff, Nat.le_add_left, Nat.zero_le, Nat.le_refl, znew, true_or, or_true, b01_t, b01_f, b01_ok, bool_ft, vp_b01, vp_b0, vp_b1, b01_eq0, b01_eq1, implies_true, nI_add, nI_clamp, zi_in, zi_le_t, zi_le_f, zi_lt_t, zi_lt_f, zi_eq_t, zi_eq_f, nI_leI, nI_ltI, nI_eq, z_in, pk_mul, zu_same, zu_rw, zu_ix, zi_ne0, zi_sub, zi_m1, Nat.add_sub_cancel, Nat.reduceMul, Nat.reduceSub]
  generalize zu K18 (b + 7) 18 (lN (hsL (chL 115 ++ chL 105 ++ chL 110 ++ chL 99 ++ chL 101 ++ chL 0 ++ chL 0))) = K19 at kk19 ⊢
  clear kk18
  refine zC.of0 (zX10_word (by unfold okC; omega) (by unfold okC; omega) (by unfold okC; omega) (by unfold okC; omega) (by unfold okC; omega) (by unfold okC; omega) (by unfold okC; omega) _) (by omega) (by omega) (by omega) ?_
  rintro _ _ ⟨rfl, rfl⟩
  have kk20 := kk19.st (v := lN (hsL (chL 104 ++ chL 111 ++ chL 117 ++ chL 114 ++ chL 0 ++ chL 0 ++ chL 0))) rfl
  refine sX10_init_857 _ _ _ _ _ ?_
  simp (disch := omega) only [oAld, oCS, oGR, oLast, oPush, hM.1, hM.r9, hM.t9, hM.n9, List.getElem?_cons_zero, List.getElem?_cons_succ, List.set_cons_zero, List.set_cons_succ, List.drop_succ_cons, List.drop_zero, List.take_succ_cons, List.take_zero, List.length_cons, List.length_nil, List.reverse_cons, List.reverse_nil, List.nil_append, List.cons_append, Option.toList_some, Option.toList_none, va_rf_s, true_and, and_true, true_implies, false_implies, not_true_eq_false, not_false_eq_true, Nat.reduceAdd, Nat.reduceLeDiff, Nat.le_add_left, Nat.zero_le, Nat.le_refl, znew, true_or, or_true, b01_t, b01_f, b01_ok, bool_ft, vp_b01, vp_b0, vp_b1, b01_eq0, b01_eq1, implies_true, nI_add, nI_clamp, zi_in, zi_le_t, zi_le_f, zi_lt_t, zi_lt_f, zi_eq_t, zi_eq_f, nI_leI, nI_ltI, nI_eq, z_in, pk_mul, zu_same, zu_rw, zu_ix, zi_ne0, zi_sub, zi_m1, Nat.add_sub_cancel, Nat.reduceMul, Nat.reduceSub]
  generalize zu K19 (b + 7) 19 (lN (hsL (chL 104 ++ chL 111 ++ chL 117 ++ chL 114 ++ chL 0 ++ chL 0 ++ chL 0))) = K20 at kk20 ⊢
  clear kk19
  refine zC.of0 (zX10_word (by unfold okC; omega) (by unfold okC; omega) (by unfold okC; omega) (by unfold okC; omega) (by unfold okC; omega) (by unfold okC; omega) (by unfold okC; omega) _) (by omega) (by omega) (by omega) ?_
  rintro _ _ ⟨rfl, rfl⟩
  have kk21 := kk20.st (v := lN (hsL (chL 103 ++ chL 108 ++ chL 111 ++ chL 119 ++ chL 0 ++ chL 0 ++ chL 0))) rfl
  refine sX10_init_878 _ _ _ _ _ ?_
  simp (disch := omega) only [oAld, oCS, oGR, oLast, oPush, hM.1, hM.r9, hM.t9, hM.n9, List.getElem?_cons_zero, List.getElem?_cons_succ, List.set_cons_zero, List.set_cons_succ, List.drop_succ_cons, List.drop_zero, List.take_succ_cons, List.take_zero, List.length_cons, List.length_nil, List.reverse_cons, List.reverse_nil, List.nil_append, List.cons_append, Option.toList_some, Option.toList_none, va_rf_s, true_and, and_true, true_implies, false_implies, not_true_eq_false, not_false_eq_true, Nat.reduceAdd, Nat.reduceLeDiff, Nat.le_add_left, Nat.zero_le, Nat.le_refl, znew, true_or, or_true, b01_t, b01_f, b01_ok, bool_ft, vp_b01, vp_b0, vp_b1, b01_eq0, b01_eq1, implies_true, nI_add, nI_clamp, zi_in, zi_le_t, zi_le_f, zi_lt_t, zi_lt_f, zi_eq_t, zi_eq_f, nI_leI, nI_ltI, nI_eq, z_in, pk_mul, zu_same, zu_rw, zu_ix, zi_ne0, zi_sub, zi_m1, Nat.add_sub_cancel, Nat.reduceMul, Nat.reduceSub]
  generalize zu K20 (b + 7) 20 (lN (hsL (chL 103 ++ chL 108 ++ chL 111 ++ chL 119 ++ chL 0 ++ chL 0 ++ chL 0))) = K21 at kk21 ⊢
  clear kk20
  refine zC.of0 (zX10_word (by unfold okC; omega) (by unfold okC; omega) (by unfold okC; omega) (by unfold okC; omega) (by unfold okC; omega) (by unfold okC; omega) (by unfold okC; omega) _) (by omega) (by omega) (by omega) ?_
  rintro _ _ ⟨rfl, rfl⟩
  have kk22 := kk21.st (v := lN (hsL (chL 119 ++ chL 104 ++ chL 105 ++ chL 99 ++ chL 104 ++ chL 0 ++ chL 0))) rfl
  refine sX10_init_900 _ _ _ _ _ ?_
  simp (disch := omega) only [oAld, oCS, oGR, oLast, oPush, hM.1, hM.r9, hM.t9, hM.n9, List.getElem?_cons_zero, List.getElem?_cons_succ, List.set_cons_zero, List.set_cons_succ, List.drop_succ_cons, List.drop_zero, List.take_succ_cons, List.take_zero, List.length_cons, List.length_nil, List.reverse_cons, List.reverse_nil, List.nil_append, List.cons_append, Option.toList_some, Option.toList_none, va_rf_s, true_and, and_true, true_implies, false_implies, not_true_eq_false, not_false_eq_true, Nat.reduceAdd, Nat.reduceLeDiff, Nat.le_add_left, Nat.zero_le, Nat.le_refl, znew, true_or, or_true, b01_t, b01_f, b01_ok, bool_ft, vp_b01, vp_b0, vp_b1, b01_eq0, b01_eq1, implies_true, nI_add, nI_clamp, zi_in, zi_le_t, zi_le_f, zi_lt_t, zi_lt_f, zi_eq_t, zi_eq_f, nI_leI, nI_ltI, nI_eq, z_in, pk_mul, zu_same, zu_rw, zu_ix, zi_ne0, zi_sub, zi_m1, Nat.add_sub_cancel, Nat.reduceMul, Nat.reduceSub]
  generalize zu K21 (b + 7) 21 (lN (hsL (chL 119 ++ chL 104 ++ chL 105 ++ chL 99 ++ chL 104 ++ chL 0 ++ chL 0))) = K22 at kk22 ⊢
  clear kk21
  refine zC.of0 (zX10_word (by unfold okC; omega) (by unfold okC; omega) (by unfold okC; omega) (by unfold okC; omega) (by unfold okC; omega) (by unfold okC; omega) (by unfold okC; omega) _) (by omega) (by omega) (by omega) ?_
  rintro _ _ ⟨rfl, rfl⟩
  have kk23 := kk22.st (v := lN (hsL (chL 116 ++ chL 111 ++ chL 108 ++ chL 100 ++ chL 0 ++ chL 0 ++ chL 0))) rfl
  refine sX10_init_921 _ _ _ _ _ ?_
  simp (disch := omega) only [oAld, oCV, oLast, hM.1, hM.t9, hM.n9, List.getElem?_cons_zero, List.getElem?_cons_succ, List.set_cons_zero, List.set_cons_succ, List.drop_succ_cons, List.drop_zero, List.take_succ_cons, List.take_zero, List.length_cons, List.length_nil, List.reverse_cons, List.reverse_nil, List.nil_append, List.cons_append, Option.toList_some, Option.toList_none, va_rf_s, true_and, and_true, true_implies, false_implies, not_true_eq_false, not_false_eq_true, Nat.reduceAdd, Nat.reduceLeDiff, Nat.le_add_left, Nat.zero_le, Nat.le_refl, znew, true_or, or_true, b01_t, b01_f, b01_ok, bool_ft, vp_b01, vp_b0, vp_b1, b01_eq0, b01_eq1, implies_true, nI_add, nI_clamp, zi_in, zi_le_t, zi_le_f, zi_lt_t, zi_lt_f, zi_eq_t, zi_eq_f, nI_leI, nI_ltI, nI_eq, z_in, pk_mul, zu_same, zu_rw, zu_ix, zi_ne0, zi_sub, zi_m1, Nat.add_sub_cancel, Nat.reduceMul, Nat.reduceSub]
  generalize zu K22 (b + 7) 22 (lN (hsL (chL 116 ++ chL 111 ++ chL 108 ++ chL 100 ++ chL 0 ++ chL 0 ++ chL 0))) = K23 at kk23 ⊢
  clear kk22
  have hT : mT b S3 0 0 0 0 0 := by
    refine ⟨⟨by rw [hf23.f rfl, hb]; rfl, by omega⟩, ⟨?_, by omega⟩, ⟨?_, by omega⟩, ⟨?_, by omega⟩, ⟨?_, by omega⟩⟩
    · rw [hs3 10 (by omega) (by omega) 0 (by decide) (by decide)]; exact hp2.1 10 (by decide)
    · rw [hs3 11 (by omega) (by omega) 0 (by decide) (by decide)]; exact hp2.1 11 (by decide)
    · rw [hs3 15 (by omega) (by omega) 0 (by decide) (by decide)]; exact hp2.1 15 (by decide)
    · rw [hs3 19 (by omega) (by omega) 0 (by decide) (by decide)]; exact hp2.1 19 (by decide)
  have hz37 : ∀ j, 48 ≤ j → S3 (b + 37) j = nI 0 := fun j _ => by rw [hf23.at (o := 37) rfl rfl, hz 37 (by omega) (by omega)]; rfl
  refine zC.of0 (zX10_begins hM hT hz37) (by omega) (by omega) (by omega) ?_
  rintro _ _ ⟨rfl, S4, rfl, hf4, hr4, -, -⟩
  have hrow : S4 (b + 37) = rZ x0 := by
    rw [hr4]
    funext j
    have a1 : ¬ j < 0 := by omega
    have a2 : ¬ (36 ≤ j ∧ j < 36 + 0) := by omega
    have c1 : (xY x0).length = 0 := rfl
    have c2 : (xW x0).length = 0 := rfl
    have c3 : (xC x0).length = 0 := rfl
    simp only [begF, rZ, c1, c2, c3, if_neg a1, if_neg a2, if_true]
  have hZ4 : mZ b S4 := by
    refine ⟨fun j hj => by rw [hf4.at (o := 36) rfl rfl, hf23.at (o := 36) rfl rfl, hz 36 (by omega) (by omega)]; rfl, fun j hj => ?_⟩
    rw [hrow]
    show (if j < 0 then _ else if 36 ≤ j ∧ j < 36 + 0 then _ else if j = 46 then _ else nI 0) = nI 0
    rw [if_neg (by omega), if_neg (by omega), if_neg (by omega)]
  refine sX10_init_926 _ _ _ _ _ ?_
  simp (disch := omega) only [oAld, oCV, hM.1, List.getElem?_cons_zero, List.getElem?_cons_succ, List.set_cons_zero, List.set_cons_succ, List.drop_succ_cons, List.drop_zero, List.take_succ_cons, List.take_zero, List.length_cons, List.length_nil, List.reverse_cons, List.reverse_nil, List.nil_append, List.cons_append, Option.toList_some, Option.toList_none, va_rf_s, true_and, and_true, true_implies, false_implies, not_true_eq_false, not_false_eq_true, Nat.reduceAdd, Nat.reduceLeDiff, Nat.le_add_left, Nat.zero_le, Nat.le_refl, znew, true_or, or_true, b01_t, b01_f, b01_ok, bool_ft, vp_b01, vp_b0, vp_b1, b01_eq0, b01_eq1, implies_true, nI_add, nI_clamp, zi_in, zi_le_t, zi_le_f, zi_lt_t, zi_lt_f, zi_eq_t, zi_eq_f, nI_leI, nI_ltI, nI_eq, z_in, pk_mul, zu_same, zu_rw, zu_ix, zi_ne0, zi_sub, zi_m1, Nat.add_sub_cancel, Nat.reduceMul, Nat.reduceSub]
  refine zC.of0 (zX10_keepsRow hM hZ4) (by omega) (by omega) (by omega) ?_
  rintro _ _ ⟨rfl, S5, rfl, hf5, hr5⟩
  refine sX10_init_930 _ _ _ _ _ ?_
  simp (disch := omega) only [oRV, List.getElem?_cons_zero, List.getElem?_cons_succ, List.set_cons_zero, List.set_cons_succ, List.drop_succ_cons, List.drop_zero, List.take_succ_cons, List.take_zero, List.length_cons, List.length_nil, List.reverse_cons, List.reverse_nil, List.nil_append, List.cons_append, Option.toList_some, Option.toList_none, va_rf_s, true_and, and_true, true_implies, false_implies, not_true_eq_false, not_false_eq_true, Nat.reduceAdd, Nat.reduceLeDiff, Nat.le_add_left, Nat.zero_le, Nat.le_refl, znew, true_or, or_true, b01_t, b01_f, b01_ok, bool_ft, vp_b01, vp_b0, vp_b1, b01_eq0, b01_eq1, implies_true, nI_add, nI_clamp, zi_in, zi_le_t, zi_le_f, zi_lt_t, zi_lt_f, zi_eq_t, zi_eq_f, nI_leI, nI_ltI, nI_eq, z_in, pk_mul, zu_same, zu_rw, zu_ix, zi_ne0, zi_sub, zi_m1, Nat.add_sub_cancel, Nat.reduceMul, Nat.reduceSub]
  have hfa : zfr [10, 11, 15, 19, 21, 22, 23, 24, 25, 36, 37] [55, 56] b S S5 := (hf23.tr hf4 rfl rfl rfl rfl (D2 := [10, 11, 15, 19, 21, 22, 23, 24, 25, 37]) (F2 := [55, 56])).tr hf5 rfl rfl rfl rfl
  have hf35 : zfr [36, 37] [55, 56] b S3 S5 := hf4.tr hf5 rfl rfl rfl rfl
  have hX5 : mXs b S5 0 (tZ x0) := by
    refine mXs.fr (S := S3) ⟨hT, fun s hs => absurd hs (by simp [tZ, x0, xS, tns]), fun k hk => ⟨0, ⟨?_, ?_⟩, fun h => absurd rfl h, by show 0 + 0 ≤ 130 * 0 + 130; omega, trivial⟩, fun y hy => absurd hy (by simp [tZ, x0, xY, tny]), fun s hs => absurd hs (by simp [tZ, x0, xS, tns]), ?_, ?_⟩ hf35 rfl rfl
    · rw [hs3 24 (by omega) (by omega) _ (by show 4 * 0 ≤ _; omega) (by show _ < 4 * 0 + 4; omega)]; exact (hp2.2 k hk).1
    · rw [hs3 25 (by omega) (by omega) _ (by show 4 * 0 ≤ _; omega) (by show _ < 4 * 0 + 4; omega)]; exact (hp2.2 k hk).2
    · rw [hs3 22 (by omega) (by omega) 0 (by decide) (by decide)]; exact hp2.1 22 (by decide)
    · rw [hs3 23 (by omega) (by omega) 0 (by decide) (by decide)]; exact hp2.1 23 (by decide)
  refine ⟨hVQ S5 K23 (fun a ha => ⟨hfa.1 a (by omega) (fun o ho => by simp at ho; omega), kk23.2 a (by omega)⟩) hX5 ⟨fun j hj => ?_, fun j hj => ?_⟩ (by rw [hr5, hrow]) (fun j hj => kk23.1 j hj) ⟨by rw [hfa.f rfl, hb]; rfl, by rw [hfa.f rfl, hb]; rfl, by rw [hfa.f rfl, hb]; rfl, by rw [hfa.f rfl, hb]; rfl⟩ (fun s hs => by rw [hfa.at (o := 49) rfl rfl, hz 49 (by omega) (by omega)]; rfl), by omega, by omega⟩
  · rw [hr5]; exact hZ4.2 j hj
  · rw [hf5.at (o := 37) rfl rfl]; exact hZ4.2 j hj
/-- the constructor -/
theorem zX10_init (hz : z = b + 1) (hb : zt h b = 30) (hS0 : S b = fun _ => 0) :
    zM l E 2 YX10_init [.ref b] (z, h, S, L) 50 12465 (fun r X => r = none ∧ ∃ h' S' L', X = (b + 51, h', S', L') ∧ isM h' b ∧ (∀ a, a < b → h' a = h a ∧ S' a = S a ∧ L' a = L a) ∧ mXs b S' 0 (tZ x0) ∧ mZ b S' ∧ S' (b + 36) = rZ x0 ∧ mKey b L' ∧ (S' b 2 = nI 0 ∧ S' b 17 = -1 ∧ S' b 60 = nI 0 ∧ S' b 66 = nI 0) ∧ ∀ s, s < 3 → S' (b + 49) s = nI 0) (fun _ _ => False) := by
  refine zM.go rfl rfl (Nat.le_of_ble_eq_true rfl) (ls := [some (.ref b)]) rfl ?_
  intro V hVl hVE hVd hVc hVs hVQ hVX
  refine sX10_init_0 (by omega) _ _ _ _ _ ?_
  refine ob_step rfl ?_
  have f0 : fz b 10 (z, h, S, L) (z, h, S, L) (fun _ => 0) [] := ⟨by rw [hz]; rfl, hb, fun i hi => absurd hi (by simp), fun a _ => ⟨rfl, rfl, rfl⟩, fun a h1 h2 => absurd h2 (by show ¬ a < z; omega), hS0⟩
  refine fa_step rfl f0 (by omega) (by omega) (by omega) ?_
  have f1 := nf_fz (f := 1) (t := 1) (len := 2000) f0 (by decide)
  generalize nf (z, h, S, L) b 1 1 2000 = X1 at f1 ⊢
  refine fa_step rfl f1 (by omega) (by omega) (by omega) ?_
  have f2 := nf_fz (f := 3) (t := 1) (len := 2000) f1 (by decide)
  generalize nf X1 b 3 1 2000 = X2 at f2 ⊢
  clear f1
  refine fa_step rfl f2 (by omega) (by omega) (by omega) ?_
  have f3 := nf_fz (f := 5) (t := 0) (len := 403) f2 (by decide)
  generalize nf X2 b 5 0 403 = X3 at f3 ⊢
  clear f2
  refine fa_step rfl f3 (by omega) (by omega) (by omega) ?_
  have f4 := nf_fz (f := 6) (t := 0) (len := 403) f3 (by decide)
  generalize nf X3 b 6 0 403 = X4 at f4 ⊢
  clear f3
  refine fa_step rfl f4 (by omega) (by omega) (by omega) ?_
  have f5 := nf_fz (f := 7) (t := 0) (len := 403) f4 (by decide)
  generalize nf X4 b 7 0 403 = X5 at f5 ⊢
  clear f4
  refine fa_step rfl f5 (by omega) (by omega) (by omega) ?_
  have f6 := nf_fz (f := 8) (t := 4) (len := 403) f5 (by decide)
  generalize nf X5 b 8 4 403 = X6 at f6 ⊢
  clear f5
  refine fa_step rfl f6 (by omega) (by omega) (by omega) ?_
  have f7 := nf_fz (f := 9) (t := 4) (len := 23) f6 (by decide)
  generalize nf X6 b 9 4 23 = X7 at f7 ⊢
  clear f6
  refine fi_step rfl f7 trivial ?_
  have f8 := fi_fz (f := 17) (v := -1) f7
  generalize (X7.1, X7.2.1, zu X7.2.2.1 b 17 (-1), X7.2.2.2) = X8 at f8 ⊢
  clear f7
  refine fa_step rfl f8 (by omega) (by omega) (by omega) ?_
  have f9 := nf_fz (f := 21) (t := 4) (len := 18) f8 (by decide)
  generalize nf X8 b 21 4 18 = X9 at f9 ⊢
  clear f8
  refine fa_step rfl f9 (by omega) (by omega) (by omega) ?_
  have f10 := nf_fz (f := 22) (t := 0) (len := 18) f9 (by decide)
  generalize nf X9 b 22 0 18 = X10 at f10 ⊢
  clear f9
  refine fa_step rfl f10 (by omega) (by omega) (by omega) ?_
  have f11 := nf_fz (f := 23) (t := 0) (len := 2) f10 (by decide)
  generalize nf X10 b 23 0 2 = X11 at f11 ⊢
  clear f10
  refine fa_step rfl f11 (by omega) (by omega) (by omega) ?_
  have f12 := nf_fz (f := 24) (t := 0) (len := 2) f11 (by decide)
  generalize nf X11 b 24 0 2 = X12 at f12 ⊢
  clear f11
  refine fa_step rfl f12 (by omega) (by omega) (by omega) ?_
  have f13 := nf_fz (f := 25) (t := 0) (len := 20) f12 (by decide)
  generalize nf X12 b 25 0 20 = X13 at f13 ⊢
  clear f12
  refine fa_step rfl f13 (by omega) (by omega) (by omega) ?_
  have f14 := nf_fz (f := 26) (t := 0) (len := 20) f13 (by decide)
  generalize nf X13 b 26 0 20 = X14 at f14 ⊢
  clear f13
  refine fa_step rfl f14 (by omega) (by omega) (by omega) ?_
  have f15 := nf_fz (f := 27) (t := 0) (len := 20) f14 (by decide)
  generalize nf X14 b 27 0 20 = X15 at f15 ⊢
  clear f14
  refine fa_step rfl f15 (by omega) (by omega) (by omega) ?_
  have f16 := nf_fz (f := 28) (t := 0) (len := 2) f15 (by decide)
  generalize nf X15 b 28 0 2 = X16 at f16 ⊢
  clear f15
  refine fa_step rfl f16 (by omega) (by omega) (by omega) ?_
  have f17 := nf_fz (f := 29) (t := 0) (len := 12) f16 (by decide)
  generalize nf X16 b 29 0 12 = X17 at f17 ⊢
  clear f16
  refine fa_step rfl f17 (by omega) (by omega) (by omega) ?_
  have f18 := nf_fz (f := 30) (t := 0) (len := 12) f17 (by decide)
  generalize nf X17 b 30 0 12 = X18 at f18 ⊢
  clear f17
  refine fa_step rfl f18 (by omega) (by omega) (by omega) ?_
  have f19 := nf_fz (f := 31) (t := 0) (len := 12) f18 (by decide)
  generalize nf X18 b 31 0 12 = X19 at f19 ⊢
  clear f18
  refine fa_step rfl f19 (by omega) (by omega) (by omega) ?_
  have f20 := nf_fz (f := 32) (t := 0) (len := 2) f19 (by decide)
  generalize nf X19 b 32 0 2 = X20 at f20 ⊢
  clear f19
  refine fa_step rfl f20 (by omega) (by omega) (by omega) ?_
  have f21 := nf_fz (f := 33) (t := 0) (len := 10) f20 (by decide)
  generalize nf X20 b 33 0 10 = X21 at f21 ⊢
  clear f20
  refine fa_step rfl f21 (by omega) (by omega) (by omega) ?_
  have f22 := nf_fz (f := 34) (t := 0) (len := 2) f21 (by decide)
  generalize nf X21 b 34 0 2 = X22 at f22 ⊢
  clear f21
  refine fa_step rfl f22 (by omega) (by omega) (by omega) ?_
  have f23 := nf_fz (f := 35) (t := 0) (len := 2) f22 (by decide)
  generalize nf X22 b 35 0 2 = X23 at f23 ⊢
  clear f22
  refine fa_step rfl f23 (by omega) (by omega) (by omega) ?_
  have f24 := nf_fz (f := 36) (t := 0) (len := 2) f23 (by decide)
  generalize nf X23 b 36 0 2 = X24 at f24 ⊢
  clear f23
  refine fa_step rfl f24 (by omega) (by omega) (by omega) ?_
  have f25 := nf_fz (f := 37) (t := 0) (len := 8) f24 (by decide)
  generalize nf X24 b 37 0 8 = X25 at f25 ⊢
  clear f24
  refine fa_step rfl f25 (by omega) (by omega) (by omega) ?_
  have f26 := nf_fz (f := 38) (t := 0) (len := 8) f25 (by decide)
  generalize nf X25 b 38 0 8 = X26 at f26 ⊢
  clear f25
  refine fa_step rfl f26 (by omega) (by omega) (by omega) ?_
  have f27 := nf_fz (f := 40) (t := 2) (len := 260) f26 (by decide)
  generalize nf X26 b 40 2 260 = X27 at f27 ⊢
  clear f26
  refine fa_step rfl f27 (by omega) (by omega) (by omega) ?_
  have f28 := nf_fz (f := 41) (t := 0) (len := 260) f27 (by decide)
  generalize nf X27 b 41 0 260 = X28 at f28 ⊢
  clear f27
  refine fa_step rfl f28 (by omega) (by omega) (by omega) ?_
  have f29 := nf_fz (f := 42) (t := 0) (len := 260) f28 (by decide)
  generalize nf X28 b 42 0 260 = X29 at f29 ⊢
  clear f28
  refine fa_step rfl f29 (by omega) (by omega) (by omega) ?_
  have f30 := nf_fz (f := 43) (t := 0) (len := 260) f29 (by decide)
  generalize nf X29 b 43 0 260 = X30 at f30 ⊢
  clear f29
  refine fa_step rfl f30 (by omega) (by omega) (by omega) ?_
  have f31 := nf_fz (f := 44) (t := 0) (len := 260) f30 (by decide)
  generalize nf X30 b 44 0 260 = X31 at f31 ⊢
  clear f30
  refine fa_step rfl f31 (by omega) (by omega) (by omega) ?_
  have f32 := nf_fz (f := 46) (t := 0) (len := 840) f31 (by decide)
  generalize nf X31 b 46 0 840 = X32 at f32 ⊢
  clear f31
  refine fa_step rfl f32 (by omega) (by omega) (by omega) ?_
  have f33 := nf_fz (f := 47) (t := 0) (len := 840) f32 (by decide)
  generalize nf X32 b 47 0 840 = X33 at f33 ⊢
  clear f32
  refine fa_step rfl f33 (by omega) (by omega) (by omega) ?_
  have f34 := nf_fz (f := 48) (t := 0) (len := 64) f33 (by decide)
  generalize nf X33 b 48 0 64 = X34 at f34 ⊢
  clear f33
  refine fa_step rfl f34 (by omega) (by omega) (by omega) ?_
  have f35 := nf_fz (f := 50) (t := 0) (len := 9) f34 (by decide)
  generalize nf X34 b 50 0 9 = X35 at f35 ⊢
  clear f34
  refine fa_step rfl f35 (by omega) (by omega) (by omega) ?_
  have f36 := nf_fz (f := 51) (t := 0) (len := 400) f35 (by decide)
  generalize nf X35 b 51 0 400 = X36 at f36 ⊢
  clear f35
  refine fa_step rfl f36 (by omega) (by omega) (by omega) ?_
  have f37 := nf_fz (f := 53) (t := 0) (len := 48) f36 (by decide)
  generalize nf X36 b 53 0 48 = X37 at f37 ⊢
  clear f36
  refine fa_step rfl f37 (by omega) (by omega) (by omega) ?_
  have f38 := nf_fz (f := 54) (t := 0) (len := 48) f37 (by decide)
  generalize nf X37 b 54 0 48 = X38 at f38 ⊢
  clear f37
  refine fa_step rfl f38 (by omega) (by omega) (by omega) ?_
  have f39 := nf_fz (f := 57) (t := 0) (len := 6) f38 (by decide)
  generalize nf X38 b 57 0 6 = X39 at f39 ⊢
  clear f38
  refine fa_step rfl f39 (by omega) (by omega) (by omega) ?_
  have f40 := nf_fz (f := 58) (t := 2) (len := 6) f39 (by decide)
  generalize nf X39 b 58 2 6 = X40 at f40 ⊢
  clear f39
  refine fa_step rfl f40 (by omega) (by omega) (by omega) ?_
  have f41 := nf_fz (f := 59) (t := 0) (len := 12) f40 (by decide)
  generalize nf X40 b 59 0 12 = X41 at f41 ⊢
  clear f40
  refine fa_step rfl f41 (by omega) (by omega) (by omega) ?_
  have f42 := nf_fz (f := 61) (t := 0) (len := 1920) f41 (by decide)
  generalize nf X41 b 61 0 1920 = X42 at f42 ⊢
  clear f41
  refine fa_step rfl f42 (by omega) (by omega) (by omega) ?_
  have f43 := nf_fz (f := 62) (t := 0) (len := 6) f42 (by decide)
  generalize nf X42 b 62 0 6 = X43 at f43 ⊢
  clear f42
  refine fa_step rfl f43 (by omega) (by omega) (by omega) ?_
  have f44 := nf_fz (f := 63) (t := 0) (len := 7) f43 (by decide)
  generalize nf X43 b 63 0 7 = X44 at f44 ⊢
  clear f43
  refine fa_step rfl f44 (by omega) (by omega) (by omega) ?_
  have f45 := nf_fz (f := 64) (t := 0) (len := 896) f44 (by decide)
  generalize nf X44 b 64 0 896 = X45 at f45 ⊢
  clear f44
  refine fa_step rfl f45 (by omega) (by omega) (by omega) ?_
  have f46 := nf_fz (f := 65) (t := 0) (len := 49) f45 (by decide)
  generalize nf X45 b 65 0 49 = X46 at f46 ⊢
  clear f45
  refine fa_step rfl f46 (by omega) (by omega) (by omega) ?_
  have f47 := nf_fz (f := 67) (t := 0) (len := 20) f46 (by decide)
  generalize nf X46 b 67 0 20 = X47 at f47 ⊢
  clear f46
  refine fa_step rfl f47 (by omega) (by omega) (by omega) ?_
  have f48 := nf_fz (f := 68) (t := 0) (len := 20) f47 (by decide)
  generalize nf X47 b 68 0 20 = X48 at f48 ⊢
  clear f47
  refine fa_step rfl f48 (by omega) (by omega) (by omega) ?_
  have f49 := nf_fz (f := 69) (t := 2) (len := 20) f48 (by decide)
  generalize nf X48 b 69 2 20 = X49 at f49 ⊢
  clear f48
  refine fa_step rfl f49 (by omega) (by omega) (by omega) ?_
  have f50 := nf_fz (f := 70) (t := 2) (len := 3) f49 (by decide)
  generalize nf X49 b 70 2 3 = X50 at f50 ⊢
  clear f49
  refine fa_step rfl f50 (by omega) (by omega) (by omega) ?_
  have f51 := nf_fz (f := 71) (t := 0) (len := 144) f50 (by decide)
  generalize nf X50 b 71 0 144 = X51 at f51 ⊢
  clear f50
  obtain ⟨z1, h1, S1, L1⟩ := X51
  obtain ⟨g1, g2, g3, g4, g5, g6⟩ := f51
  have hM : isM h1 b := by
    refine ⟨g2, fun q hq => ?_, fun q hq => ?_⟩
    · have hd : mOff.all (fun q => decide (1 ≤ q.2 ∧ q.2 ≤ 50) && (lAr.getD (q.2 - 1) (0, 0, 0)).1 == q.1) = true := by decide +kernel
      have h1' := List.all_eq_true.mp hd q hq
      simp only [Bool.and_eq_true, decide_eq_true_eq, beq_iff_eq] at h1'
      have := (g3 (q.2 - 1) (by show q.2 - 1 < 50; omega)).1
      rw [show b + 1 + (q.2 - 1) = b + q.2 by omega] at this
      rw [← h1'.2]; exact this
    · have hd : mArr.all (fun q => decide (1 ≤ q.1 ∧ q.1 ≤ 50) && ((lAr.getD (q.1 - 1) (0, 0, 0)).2.1 == q.2.1 && (lAr.getD (q.1 - 1) (0, 0, 0)).2.2 == q.2.2)) = true := by decide +kernel
      have h1' := List.all_eq_true.mp hd q hq
      simp only [Bool.and_eq_true, decide_eq_true_eq, beq_iff_eq] at h1'
      have := (g3 (q.1 - 1) (by show q.1 - 1 < 50; omega)).2
      rw [show b + 1 + (q.1 - 1) = b + q.1 by omega] at this
      rw [← h1'.2.1, ← h1'.2.2]; exact this
  have gz : z1 = b + 51 := g1
  subst gz
  simp (disch := omega) only [List.getElem?_cons_zero, List.getElem?_cons_succ, List.set_cons_zero, List.set_cons_succ, List.drop_succ_cons, List.drop_zero, List.take_succ_cons, List.take_zero, List.length_cons, List.length_nil, List.reverse_cons, List.reverse_nil, List.nil_append, List.cons_append, Option.toList_some, Option.toList_none, va_rf_s, true_and, and_true, true_implies, false_implies, not_true_eq_false, not_false_eq_true, Nat.reduceAdd, Nat.reduceLeDiff, Nat.le_add_left, Nat.zero_le, Nat.le_refl, znew, true_or, or_true, b01_t, b01_f, b01_ok, bool_ft, vp_b01, vp_b0, vp_b1, b01_eq0, b01_eq1, implies_true, nI_add, nI_clamp, zi_in, zi_le_t, zi_le_f, zi_lt_t, zi_lt_f, zi_eq_t, zi_eq_f, nI_leI, nI_ltI, nI_eq, z_in, pk_mul, zu_same, zu_rw, zu_ix, zi_ne0, zi_sub, zi_m1, Nat.add_sub_cancel, Nat.reduceMul, Nat.reduceSub, oAld, oPush, oCV, hM.1]
  refine x10_initB hVl hVE hVd hVc hVs hM (fun o h1 h2 => (g5 (b + o) (by omega) (by show b + o < b + 51; omega)).1) g6 ?_
  intro S' L' hold q1 q2 q3 q4 q5 q6
  exact hVQ _ _ ⟨rfl, h1, S', L', rfl, hM, fun a ha => ⟨(g4 a ha).1, ((hold a ha).1).trans (g4 a ha).2.1, ((hold a ha).2).trans (g4 a ha).2.2⟩, q1, q2, q3, q4, q5, q6⟩
end NO
