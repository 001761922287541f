/-! reading: sums, the walk -/
def cdW (ops : List Nat) : zCd := ops.map (fun w => (opN w, nI 0))
theorem po_app {s : Bool} {W : List Nat} : ∀ {ps : List Nat}, (∀ w ∈ ps, stopB s w = false) → poR s (ps ++ W) = poR s W ∧ poC s (ps ++ W) = cdW ps ++ poC s W
  | [], _ => ⟨rfl, rfl⟩
  | w :: r, h => by
    have h1 := h w (List.mem_cons_self ..)
    obtain ⟨e1, e2⟩ := po_app (s := s) (W := W) (ps := r) (fun x hx => h x (List.mem_cons_of_mem _ hx))
    have hn : ¬ stopB s w = true := by rw [h1]; decide
    refine ⟨?_, ?_⟩
    · rw [List.cons_append, poR, if_neg hn, e1]
    · rw [List.cons_append, poC, if_neg hn, e2]; rfl
theorem poC_nil {s : Bool} : ∀ {W : List Nat}, poR s W = W → poC s W = []
  | [], _ => rfl
  | w :: r, h => by
    rw [poR] at h
    rw [poC]
    split at h
    · rename_i hs; rw [if_pos hs]
    · have := poR_len s r; rw [h, List.length_cons] at this; omega
theorem poR_tt : ∀ {W : List Nat}, poR false W = W → poR true W = W
  | [], _ => rfl
  | w :: r, h => by
    rw [poR] at h ⊢
    split at h
    · rename_i hs
      have h6 : w = 6 := by simpa [stopB] using hs
      rw [if_pos (by simp [stopB, h6])]
    · have := poR_len false r; rw [h, List.length_cons] at this; omega
theorem opC_app : ∀ {a b : List Nat}, opC (a ++ b) = opC a + opC b
  | [], b => by simp [opC]
  | w :: a, b => by
    rw [List.cons_append, opC, opC, opC_app]; split <;> omega
def isOp (w : Nat) : Prop := w = 8 ∨ w = 9 ∨ w = 10 ∨ w = 15
theorem pUn_ok {A : List zTk} {q q1 : zCu} {cl : zCd} (h : pUn A q = .ok (cl, q1)) : cl.length = 1 ∧ q1 = (q.1 + 1, q.2) ∧ ¬ q.1 = 400 := by
  have key : ∀ (x : zCd), x.length = 1 → pB (pGo A q) (fun q' => .ok (x, q')) = .ok (cl, q1) → cl.length = 1 ∧ q1 = (q.1 + 1, q.2) ∧ ¬ q.1 = 400 := by
    intro x hx he
    by_cases h4 : q.1 = 400
    · rw [pGo, if_pos h4] at he; cases he
    · rw [pGo, if_neg h4] at he; cases he; exact ⟨hx, rfl, h4⟩
  unfold pUn at h
  split at h
  · exact key _ rfl h
  · split at h
    · exact key _ rfl h
    · cases h
theorem rdU_ne {A : List zTk} {l : Nat} {sub : zRd} {q : zCu} (h : ¬ tkK A q.1 = 6) : rdU A l sub q = pUn A q := by
  unfold rdU pUn
  split
  · rfl
  · split
    · rfl
    · first | rfl | rw [if_neg h]
theorem rdW_ne {A : List zTk} {l : Nat} {q : zCu} (h : ¬ tkK A q.1 = 6) : rdW A l q = pUn A q := by
  cases l <;> exact rdU_ne h
theorem pGo_ok {A : List zTk} {q q1 : zCu} (h : pGo A q = .ok q1) : q1 = (q.1 + 1, q.2) ∧ ¬ q.1 = 400 := by
  unfold pGo at h
  split at h
  · cases h
  · rename_i h4; cases h; exact ⟨rfl, h4⟩
theorem cdF.wd {b c d c' d' : Nat} {S S' : Nat → Nat → Int32} (h : cdF b S S' c d) (h1 : c' ≤ c) (h2 : d ≤ d') : cdF b S S' c' d' := fun j hj => h j (by omega)
theorem cdF.tt {b c d : Nat} {S S' S'' : Nat → Nat → Int32} (h : cdF b S S' c d) (h' : cdF b S' S'' c d) : cdF b S S'' c d := fun j hj => ⟨(h' j hj).1.trans (h j hj).1, (h' j hj).2.trans (h j hj).2⟩
theorem zfr.cd {D F : List Nat} {b c d : Nat} {S S' : Nat → Nat → Int32} (h : zfr D F b S S') (h1 : D.all (fun x => !(x == 31)) = true) (h2 : D.all (fun x => !(x == 32)) = true) : cdF b S S' c d := fun j _ => ⟨by rw [h.at h1 rfl], by rw [h.at h2 rfl]⟩
/-- an expression's frame -/
def exF (b : Nat) (S0 S : Nat → Nat → Int32) (c0 sd : Nat) : Prop := zfr [31, 32, 33] [11, 12, 13, 14, 45, 49] b S0 S ∧ cdF b S0 S c0 (420 * sd + 420)
theorem exF.go {b c0 sd c d : Nat} {S0 S S' : Nat → Nat → Int32} {D F : List Nat} (h : exF b S0 S c0 sd) (hf : zfr D F b S S') (hD : D.all (fun x => [31, 32, 33].contains x) = true) (hF : F.all (fun x => [11, 12, 13, 14, 45, 49].contains x) = true) (hc : cdF b S S' c d) (h1 : c0 ≤ c) (h2 : d ≤ 420 * sd + 420) : exF b S0 S' c0 sd := ⟨h.1.tr hf rfl rfl hD hF, h.2.tt (hc.wd h1 h2)⟩
/-- an expression's state -/
def exS (b : Nat) (S : Nat → Nat → Int32) (L : Nat → Nat → Int64) (A : List zTk) (c0 sd o : Nat) (W : List Nat) (C : zCd) (q : zCu) : Prop := mC b S L A (.ok q) ∧ S b 12 = nI o ∧ (S b 49 = nI W.length ∧ wAt (S (b + 33)) W ∧ ∀ w ∈ W, w < 100) ∧ (S b 45 = nI (c0 + C.length) ∧ codeAt (S (b + 31)) (S (b + 32)) c0 C) ∧ c0 + C.length + opC W ≤ 420 * sd + q.1
def exE (V : zV) (b z : Nat) (h : Nat → Option zSh) (S0 : Nat → Nat → Int32) (L : Nat → Nat → Int64) (A : List zTk) (c0 sd : Nat) (res : zPR (zCd × zCu)) : Prop := ∀ e, res = .error e → ∀ S', exF b S0 S' c0 sd → mC b S' L A (.error e) → (∃ d, S' b 45 = nI d ∧ c0 ≤ d ∧ d ≤ 420 * sd + 420) → V.2.2.2.2.2.1 none (z, h, S', L)
abbrev exL (b : Nat) : List (Option Value) := [some (.ref b), some (.int (nI 0)), some (.int (nI 1))]
section MY
variable {l : Launch} {E : zE} {V : zV} {b z : Nat} {h : Nat → Option zSh} {S S0 : Nat → Nat → Int32} {L : Nat → Nat → Int64} {A : List zTk} {c0 sd : Nat}
/-- behind a fault: the loop's head -/
theorem ex_e23 (hVl : V.1 = l) (hVE : V.2.1 = E) (hVd : V.2.2.1 = 3) (hM : isM h b) (hA : tkW A) (hsd : sd < 2) {e : zFt} (hF : exF b S0 S c0 sd) (hC : mC b S L A (.error e)) {d : Nat} (h45 : S b 45 = nI d) (hd1 : c0 ≤ d) (hd2 : d ≤ 420 * sd + 410)
    (hQ : ∀ S', exF b S0 S' c0 sd → mC b S' L A (.error e) → (∃ d, S' b 45 = nI d ∧ c0 ≤ d ∧ d ≤ 420 * sd + 420) → V.2.2.2.2.2.1 none (z, h, S', L)) :
    zW V YX10_expression 23 (exL b) [] (z, h, S, L) 0 0 := by
  refine sX10_expression_23 _ _ _ _ _ ?_
  simp (disch := omega) only [oAld, oCV, oPush, hM.1, List.getElem?_cons_zero, List.getElem?_cons_succ, List.set_cons_zero, List.set_cons_succ, List.drop_succ_cons, List.drop_zero, List.take_succ_cons, List.take_zero, List.length_cons, List.length_nil, List.reverse_cons, List.reverse_nil, List.nil_append, List.cons_append, Option.toList_some, Option.toList_none, va_rf_s, true_and, and_true, true_implies, false_implies, not_true_eq_false, not_false_eq_true, Nat.reduceAdd, Nat.reduceLeDiff, Nat.le_add_left, Nat.zero_le, Nat.le_refl, znew, true_or, or_true, b01_t, b01_f, b01_ok, bool_ft, vp_b01, vp_b0, vp_b1, b01_eq0, b01_eq1, implies_true, nI_add, nI_clamp, zi_in, zi_le_t, zi_le_f, zi_lt_t, zi_lt_f, zi_eq_t, zi_eq_f, nI_leI, nI_ltI, nI_eq, z_in, pk_mul, zu_same, zu_rw, zu_ix, zi_ne0, zi_sub, zi_m1, Nat.add_sub_cancel, Nat.reduceMul, Nat.reduceSub]
  refine zC.of0 (zX10_is hM hA hC (by omega)) (by omega) (Nat.zero_le _) (Nat.zero_le _) ?_
  rintro _ _ ⟨rfl, rfl⟩
  refine sX10_expression_29 _ _ _ _ _ ?_
  simp (disch := omega) only [oAld, oCV, oGI, oIf, oIfc, oPush, hM.1, isB, List.getElem?_cons_zero, List.getElem?_cons_succ, List.set_cons_zero, List.set_cons_succ, List.drop_succ_cons, List.drop_zero, List.take_succ_cons, List.take_zero, List.length_cons, List.length_nil, List.reverse_cons, List.reverse_nil, List.nil_append, List.cons_append, Option.toList_some, Option.toList_none, va_rf_s, true_and, and_true, true_implies, false_implies, not_true_eq_false, not_false_eq_true, Nat.reduceAdd, Nat.reduceLeDiff, Nat.le_add_left, Nat.zero_le, Nat.le_refl, znew, true_or, or_true, b01_t, b01_f, b01_ok, bool_ft, vp_b01, vp_b0, vp_b1, b01_eq0, b01_eq1, implies_true, nI_add, nI_clamp, zi_in, zi_le_t, zi_le_f, zi_lt_t, zi_lt_f, zi_eq_t, zi_eq_f, nI_leI, nI_ltI, nI_eq, z_in, pk_mul, zu_same, zu_rw, zu_ix, zi_ne0, zi_sub, zi_m1, Nat.add_sub_cancel, Nat.reduceMul, Nat.reduceSub]
  refine zC.of0 (zX10_unit hM hA hC h45 (by omega)) (by omega) (Nat.zero_le _) (Nat.zero_le _) ?_
  rintro _ _ ⟨rfl, S1, d1, rfl, hf1, hC1, hcd, ⟨h45', hd3, hd4⟩, -⟩
  obtain ⟨n, h13, hn, hn5⟩ := mC.bad (e := e) hC1
  refine sX10_expression_88 _ _ _ _ _ ?_
  simp (disch := omega) only [oAld, oGI, oIf, oRV, hM.1, h13, List.getElem?_cons_zero, List.getElem?_cons_succ, List.set_cons_zero, List.set_cons_succ, List.drop_succ_cons, List.drop_zero, List.take_succ_cons, List.take_zero, List.length_cons, List.length_nil, List.reverse_cons, List.reverse_nil, List.nil_append, List.cons_append, Option.toList_some, Option.toList_none, va_rf_s, true_and, and_true, true_implies, false_implies, not_true_eq_false, not_false_eq_true, Nat.reduceAdd, Nat.reduceLeDiff, Nat.le_add_left, Nat.zero_le, Nat.le_refl, znew, true_or, or_true, b01_t, b01_f, b01_ok, bool_ft, vp_b01, vp_b0, vp_b1, b01_eq0, b01_eq1, implies_true, nI_add, nI_clamp, zi_in, zi_le_t, zi_le_f, zi_lt_t, zi_lt_f, zi_eq_t, zi_eq_f, nI_leI, nI_ltI, nI_eq, z_in, pk_mul, zu_same, zu_rw, zu_ix, zi_ne0, zi_sub, zi_m1, Nat.add_sub_cancel, Nat.reduceMul, Nat.reduceSub]
  exact hQ S1 (hF.go hf1 rfl rfl hcd hd1 (by omega)) hC1 ⟨d1, h45', by omega, by omega⟩
/-- the end -/
theorem ex_204 (hVl : V.1 = l) (hVE : V.2.1 = E) (hVd : V.2.2.1 = 3) (hM : isM h b) (hsd : sd < 2) (x2 : Option Value) {st : zPR zCu} (hF : exF b S0 S c0 sd) (hC : mC b S L A st) {W : List Nat} {d : Nat} (h45 : S b 45 = nI d) (hd1 : c0 ≤ d) (hd2 : d + opC W ≤ 420 * sd + 410) (h49 : S b 49 = nI W.length) (hW : wAt (S (b + 33)) W) (hw : ∀ w ∈ W, w < 100) (hl : W.length < 64)
    (hQ : ∀ S', exF b S0 S' c0 sd → mC b S' L A st → zfr [31, 32] [45, 49] b S S' → S' b 45 = nI (d + (poC false W).length) → codeAt (S' (b + 31)) (S' (b + 32)) d (poC false W) → cdF b S S' d (d + (poC false W).length) → V.2.2.2.2.2.1 none (z, h, S', L)) :
    zW V YX10_expression 204 [some (.ref b), some (.int (nI 0)), x2] [] (z, h, S, L) 0 0 := by
  have hpl := poC_len false W
  refine sX10_expression_204 _ _ _ _ _ ?_
  simp (disch := omega) only [oAld, oCV, oPush, hM.1, List.getElem?_cons_zero, List.getElem?_cons_succ, List.set_cons_zero, List.set_cons_succ, List.drop_succ_cons, List.drop_zero, List.take_succ_cons, List.take_zero, List.length_cons, List.length_nil, List.reverse_cons, List.reverse_nil, List.nil_append, List.cons_append, Option.toList_some, Option.toList_none, va_rf_s, true_and, and_true, true_implies, false_implies, not_true_eq_false, not_false_eq_true, Nat.reduceAdd, Nat.reduceLeDiff, Nat.le_add_left, Nat.zero_le, Nat.le_refl, znew, true_or, or_true, b01_t, b01_f, b01_ok, bool_ft, vp_b01, vp_b0, vp_b1, b01_eq0, b01_eq1, implies_true, nI_add, nI_clamp, zi_in, zi_le_t, zi_le_f, zi_lt_t, zi_lt_f, zi_eq_t, zi_eq_f, nI_leI, nI_ltI, nI_eq, z_in, pk_mul, zu_same, zu_rw, zu_ix, zi_ne0, zi_sub, zi_m1, Nat.add_sub_cancel, Nat.reduceMul, Nat.reduceSub]
  have e0 : nI 0 = b01 false := rfl
  rw [e0]
  refine zC.of0 (zX10_comesOutM hM false hw h49 hW hl h45 (by omega)) (by omega) (Nat.zero_le _) (Nat.zero_le _) ?_
  rintro _ _ ⟨rfl, S1, rfl, hf1, h49', h45', hca, hcd⟩
  refine sX10_expression_209 _ _ _ _ _ ?_
  simp (disch := omega) only [oRV, List.getElem?_cons_zero, List.getElem?_cons_succ, List.set_cons_zero, List.set_cons_succ, List.drop_succ_cons, List.drop_zero, List.take_succ_cons, List.take_zero, List.length_cons, List.length_nil, List.reverse_cons, List.reverse_nil, List.nil_append, List.cons_append, Option.toList_some, Option.toList_none, va_rf_s, true_and, and_true, true_implies, false_implies, not_true_eq_false, not_false_eq_true, Nat.reduceAdd, Nat.reduceLeDiff, Nat.le_add_left, Nat.zero_le, Nat.le_refl, znew, true_or, or_true, b01_t, b01_f, b01_ok, bool_ft, vp_b01, vp_b0, vp_b1, b01_eq0, b01_eq1, implies_true, nI_add, nI_clamp, zi_in, zi_le_t, zi_le_f, zi_lt_t, zi_lt_f, zi_eq_t, zi_eq_f, nI_leI, nI_ltI, nI_eq, z_in, pk_mul, zu_same, zu_rw, zu_ix, zi_ne0, zi_sub, zi_m1, Nat.add_sub_cancel, Nat.reduceMul, Nat.reduceSub]
  exact hQ S1 (hF.go hf1 rfl rfl hcd hd1 (by omega)) (hC.frL hf1 rfl rfl (fun _ _ => rfl)) hf1 h45' hca hcd
/-- no sign that goes on -/
theorem ex_none (hVl : V.1 = l) (hVE : V.2.1 = E) (hVd : V.2.2.1 = 3) (hM : isM h b) (hA : tkW A) {st : zPR zCu} (hC : mC b S L A st) {o : Nat} (h12 : S b 12 = nI o) (ho : o ≤ 7) (h7 : isB A 7 st = false ∨ o = 0) (h8 : isB A 8 st = false) (h9 : isB A 9 st = false) (h10 : isB A 10 st = false) (h15 : isB A 15 st = false)
    (hn : zW V YX10_expression 186 (exL b) [.int (nI 0)] (z, h, S, L) 0 0) :
    zW V YX10_expression 96 (exL b) [] (z, h, S, L) 0 0 := by
  have t1 : zC V YX10_is [.ref b, .int (nI 8)] (z, h, S, L) 0 0 (fun v X' k' n' => zW V YX10_expression 151 (exL b) (v.toList ++ []) X' k' n') (zOut V (exL b)) := by
    refine zC.of0 (zX10_is hM hA hC (by omega)) (by omega) (Nat.zero_le _) (Nat.zero_le _) ?_
    rintro _ _ ⟨rfl, rfl⟩
    refine sX10_expression_151 _ _ _ _ _ ?_
    simp (disch := omega) only [oAld, oCV, oIf, oPush, hM.1, h8, List.getElem?_cons_zero, List.getElem?_cons_succ, List.set_cons_zero, List.set_cons_succ, List.drop_succ_cons, List.drop_zero, List.take_succ_cons, List.take_zero, List.length_cons, List.length_nil, List.reverse_cons, List.reverse_nil, List.nil_append, List.cons_append, Option.toList_some, Option.toList_none, va_rf_s, true_and, and_true, true_implies, false_implies, not_true_eq_false, not_false_eq_true, Nat.reduceAdd, Nat.reduceLeDiff, Nat.le_add_left, Nat.zero_le, Nat.le_refl, znew, true_or, or_true, b01_t, b01_f, b01_ok, bool_ft, vp_b01, vp_b0, vp_b1, b01_eq0, b01_eq1, implies_true, nI_add, nI_clamp, zi_in, zi_le_t, zi_le_f, zi_lt_t, zi_lt_f, zi_eq_t, zi_eq_f, nI_leI, nI_ltI, nI_eq, z_in, pk_mul, zu_same, zu_rw, zu_ix, zi_ne0, zi_sub, zi_m1, Nat.add_sub_cancel, Nat.reduceMul, Nat.reduceSub]
    refine zC.of0 (zX10_is hM hA hC (by omega)) (by omega) (Nat.zero_le _) (Nat.zero_le _) ?_
    rintro _ _ ⟨rfl, rfl⟩
    refine sX10_expression_160 _ _ _ _ _ ?_
    simp (disch := omega) only [oAld, oCV, oIf, oPush, hM.1, h9, List.getElem?_cons_zero, List.getElem?_cons_succ, List.set_cons_zero, List.set_cons_succ, List.drop_succ_cons, List.drop_zero, List.take_succ_cons, List.take_zero, List.length_cons, List.length_nil, List.reverse_cons, List.reverse_nil, List.nil_append, List.cons_append, Option.toList_some, Option.toList_none, va_rf_s, true_and, and_true, true_implies, false_implies, not_true_eq_false, not_false_eq_true, Nat.reduceAdd, Nat.reduceLeDiff, Nat.le_add_left, Nat.zero_le, Nat.le_refl, znew, true_or, or_true, b01_t, b01_f, b01_ok, bool_ft, vp_b01, vp_b0, vp_b1, b01_eq0, b01_eq1, implies_true, nI_add, nI_clamp, zi_in, zi_le_t, zi_le_f, zi_lt_t, zi_lt_f, zi_eq_t, zi_eq_f, nI_leI, nI_ltI, nI_eq, z_in, pk_mul, zu_same, zu_rw, zu_ix, zi_ne0, zi_sub, zi_m1, Nat.add_sub_cancel, Nat.reduceMul, Nat.reduceSub]
    refine zC.of0 (zX10_is hM hA hC (by omega)) (by omega) (Nat.zero_le _) (Nat.zero_le _) ?_
    rintro _ _ ⟨rfl, rfl⟩
    refine sX10_expression_169 _ _ _ _ _ ?_
    simp (disch := omega) only [oAld, oCV, oIf, oPush, hM.1, h10, List.getElem?_cons_zero, List.getElem?_cons_succ, List.set_cons_zero, List.set_cons_succ, List.drop_succ_cons, List.drop_zero, List.take_succ_cons, List.take_zero, List.length_cons, List.length_nil, List.reverse_cons, List.reverse_nil, List.nil_append, List.cons_append, Option.toList_some, Option.toList_none, va_rf_s, true_and, and_true, true_implies, false_implies, not_true_eq_false, not_false_eq_true, Nat.reduceAdd, Nat.reduceLeDiff, Nat.le_add_left, Nat.zero_le, Nat.le_refl, znew, true_or, or_true, b01_t, b01_f, b01_ok, bool_ft, vp_b01, vp_b0, vp_b1, b01_eq0, b01_eq1, implies_true, nI_add, nI_clamp, zi_in, zi_le_t, zi_le_f, zi_lt_t, zi_lt_f, zi_eq_t, zi_eq_f, nI_leI, nI_ltI, nI_eq, z_in, pk_mul, zu_same, zu_rw, zu_ix, zi_ne0, zi_sub, zi_m1, Nat.add_sub_cancel, Nat.reduceMul, Nat.reduceSub]
    refine zC.of0 (zX10_is hM hA hC (by omega)) (by omega) (Nat.zero_le _) (Nat.zero_le _) ?_
    rintro _ _ ⟨rfl, rfl⟩
    refine sX10_expression_178 _ _ _ _ _ ?_
    simp (disch := omega) only [oIf, oPush, h15, List.getElem?_cons_zero, List.getElem?_cons_succ, List.set_cons_zero, List.set_cons_succ, List.drop_succ_cons, List.drop_zero, List.take_succ_cons, List.take_zero, List.length_cons, List.length_nil, List.reverse_cons, List.reverse_nil, List.nil_append, List.cons_append, Option.toList_some, Option.toList_none, va_rf_s, true_and, and_true, true_implies, false_implies, not_true_eq_false, not_false_eq_true, Nat.reduceAdd, Nat.reduceLeDiff, Nat.le_add_left, Nat.zero_le, Nat.le_refl, znew, true_or, or_true, b01_t, b01_f, b01_ok, bool_ft, vp_b01, vp_b0, vp_b1, b01_eq0, b01_eq1, implies_true, nI_add, nI_clamp, zi_in, zi_le_t, zi_le_f, zi_lt_t, zi_lt_f, zi_eq_t, zi_eq_f, nI_leI, nI_ltI, nI_eq, z_in, pk_mul, zu_same, zu_rw, zu_ix, zi_ne0, zi_sub, zi_m1, Nat.add_sub_cancel, Nat.reduceMul, Nat.reduceSub]
    exact hn
  refine sX10_expression_96 _ _ _ _ _ ?_
  simp (disch := omega) only [oAld, oCV, oPush, hM.1, List.getElem?_cons_zero, List.getElem?_cons_succ, List.set_cons_zero, List.set_cons_succ, List.drop_succ_cons, List.drop_zero, List.take_succ_cons, List.take_zero, List.length_cons, List.length_nil, List.reverse_cons, List.reverse_nil, List.nil_append, List.cons_append, Option.toList_some, Option.toList_none, va_rf_s, true_and, and_true, true_implies, false_implies, not_true_eq_false, not_false_eq_true, Nat.reduceAdd, Nat.reduceLeDiff, Nat.le_add_left, Nat.zero_le, Nat.le_refl, znew, true_or, or_true, b01_t, b01_f, b01_ok, bool_ft, vp_b01, vp_b0, vp_b1, b01_eq0, b01_eq1, implies_true, nI_add, nI_clamp, zi_in, zi_le_t, zi_le_f, zi_lt_t, zi_lt_f, zi_eq_t, zi_eq_f, nI_leI, nI_ltI, nI_eq, z_in, pk_mul, zu_same, zu_rw, zu_ix, zi_ne0, zi_sub, zi_m1, Nat.add_sub_cancel, Nat.reduceMul, Nat.reduceSub]
  refine zC.of0 (zX10_is hM hA hC (by omega)) (by omega) (Nat.zero_le _) (Nat.zero_le _) ?_
  rintro _ _ ⟨rfl, rfl⟩
  rcases h7 with h7 | rfl
  · refine sX10_expression_102 _ _ _ _ _ ?_
    simp (disch := omega) only [oAld, oCV, oGI, oIf, oIfc, oIld, oPush, hM.1, h7, List.getElem?_cons_zero, List.getElem?_cons_succ, List.set_cons_zero, List.set_cons_succ, List.drop_succ_cons, List.drop_zero, List.take_succ_cons, List.take_zero, List.length_cons, List.length_nil, List.reverse_cons, List.reverse_nil, List.nil_append, List.cons_append, Option.toList_some, Option.toList_none, va_rf_s, true_and, and_true, true_implies, false_implies, not_true_eq_false, not_false_eq_true, Nat.reduceAdd, Nat.reduceLeDiff, Nat.le_add_left, Nat.zero_le, Nat.le_refl, znew, true_or, or_true, b01_t, b01_f, b01_ok, bool_ft, vp_b01, vp_b0, vp_b1, b01_eq0, b01_eq1, implies_true, nI_add, nI_clamp, zi_in, zi_le_t, zi_le_f, zi_lt_t, zi_lt_f, zi_eq_t, zi_eq_f, nI_leI, nI_ltI, nI_eq, z_in, pk_mul, zu_same, zu_rw, zu_ix, zi_ne0, zi_sub, zi_m1, Nat.add_sub_cancel, Nat.reduceMul, Nat.reduceSub]
    exact t1
  · cases h7 : isB A 7 st with
    | false =>
      refine sX10_expression_102 _ _ _ _ _ ?_
      simp (disch := omega) only [oAld, oCV, oGI, oIf, oIfc, oIld, oPush, hM.1, h7, List.getElem?_cons_zero, List.getElem?_cons_succ, List.set_cons_zero, List.set_cons_succ, List.drop_succ_cons, List.drop_zero, List.take_succ_cons, List.take_zero, List.length_cons, List.length_nil, List.reverse_cons, List.reverse_nil, List.nil_append, List.cons_append, Option.toList_some, Option.toList_none, va_rf_s, true_and, and_true, true_implies, false_implies, not_true_eq_false, not_false_eq_true, Nat.reduceAdd, Nat.reduceLeDiff, Nat.le_add_left, Nat.zero_le, Nat.le_refl, znew, true_or, or_true, b01_t, b01_f, b01_ok, bool_ft, vp_b01, vp_b0, vp_b1, b01_eq0, b01_eq1, implies_true, nI_add, nI_clamp, zi_in, zi_le_t, zi_le_f, zi_lt_t, zi_lt_f, zi_eq_t, zi_eq_f, nI_leI, nI_ltI, nI_eq, z_in, pk_mul, zu_same, zu_rw, zu_ix, zi_ne0, zi_sub, zi_m1, Nat.add_sub_cancel, Nat.reduceMul, Nat.reduceSub]
      exact t1
    | true =>
      refine sX10_expression_102 _ _ _ _ _ ?_
      simp (disch := omega) only [oAld, oCV, oGI, oIf, oIfc, oIld, oPush, hM.1, h7, h12, List.getElem?_cons_zero, List.getElem?_cons_succ, List.set_cons_zero, List.set_cons_succ, List.drop_succ_cons, List.drop_zero, List.take_succ_cons, List.take_zero, List.length_cons, List.length_nil, List.reverse_cons, List.reverse_nil, List.nil_append, List.cons_append, Option.toList_some, Option.toList_none, va_rf_s, true_and, and_true, true_implies, false_implies, not_true_eq_false, not_false_eq_true, Nat.reduceAdd, Nat.reduceLeDiff, Nat.le_add_left, Nat.zero_le, Nat.le_refl, znew, true_or, or_true, b01_t, b01_f, b01_ok, bool_ft, vp_b01, vp_b0, vp_b1, b01_eq0, b01_eq1, implies_true, nI_add, nI_clamp, zi_in, zi_le_t, zi_le_f, zi_lt_t, zi_lt_f, zi_eq_t, zi_eq_f, nI_leI, nI_ltI, nI_eq, z_in, pk_mul, zu_same, zu_rw, zu_ix, zi_ne0, zi_sub, zi_m1, Nat.add_sub_cancel, Nat.reduceMul, Nat.reduceSub]
      exact t1
/-- behind a fault: the loop's middle -/
theorem ex_e96 (hVl : V.1 = l) (hVE : V.2.1 = E) (hVd : V.2.2.1 = 3) (hM : isM h b) (hA : tkW A) (hsd : sd < 2) {e : zFt} (hF : exF b S0 S c0 sd) (hC : mC b S L A (.error e)) {W : List Nat} {o d : Nat} (h12 : S b 12 = nI o) (ho : o ≤ 7) (h45 : S b 45 = nI d) (hd1 : c0 ≤ d) (hd2 : d + opC W ≤ 420 * sd + 410) (h49 : S b 49 = nI W.length) (hW : wAt (S (b + 33)) W) (hw : ∀ w ∈ W, w < 100) (hl : W.length < 64)
    (hQ : ∀ S', exF b S0 S' c0 sd → mC b S' L A (.error e) → (∃ d, S' b 45 = nI d ∧ c0 ≤ d ∧ d ≤ 420 * sd + 420) → V.2.2.2.2.2.1 none (z, h, S', L)) :
    zW V YX10_expression 96 (exL b) [] (z, h, S, L) 0 0 := by
  have hpl := poC_len false W
  refine ex_none hVl hVE hVd hM hA hC h12 ho (Or.inl rfl) rfl rfl rfl rfl ?_
  have t : ∀ S1, zfr [] [13, 14] b S S1 → mC b S1 L A (.error e) → zW V YX10_expression 204 [some (.ref b), some (.int (nI 0)), some (.int (nI 0))] [] (z, h, S1, L) 0 0 := by
    intro S1 hf1 hC1
    refine ex_204 hVl hVE hVd hM hsd _ (hF.go hf1 rfl rfl (hf1.cd rfl rfl (c := c0) (d := c0)) (Nat.le_refl _) (by omega)) hC1 (by rw [hf1.f rfl]; exact h45) hd1 hd2 (by rw [hf1.f rfl]; exact h49) (by rw [hf1.at (o := 33) rfl rfl]; exact hW) hw hl ?_
    intro S2 hF2 hC2 _ h45' _ _
    exact hQ S2 hF2 hC2 ⟨_, h45', by omega, by omega⟩
  by_cases h0 : o = 0
  · refine sX10_expression_186 _ _ _ _ _ ?_
    simp (disch := omega) only [oAld, oCV, oGI, oIf, oIfc, oIld, oIst, oPush, hM.1, h12, List.getElem?_cons_zero, List.getElem?_cons_succ, List.set_cons_zero, List.set_cons_succ, List.drop_succ_cons, List.drop_zero, List.take_succ_cons, List.take_zero, List.length_cons, List.length_nil, List.reverse_cons, List.reverse_nil, List.nil_append, List.cons_append, Option.toList_some, Option.toList_none, va_rf_s, true_and, and_true, true_implies, false_implies, not_true_eq_false, not_false_eq_true, Nat.reduceAdd, Nat.reduceLeDiff, Nat.le_add_left, Nat.zero_le, Nat.le_refl, znew, true_or, or_true, b01_t, b01_f, b01_ok, bool_ft, vp_b01, vp_b0, vp_b1, b01_eq0, b01_eq1, implies_true, nI_add, nI_clamp, zi_in, zi_le_t, zi_le_f, zi_lt_t, zi_lt_f, zi_eq_t, zi_eq_f, nI_leI, nI_ltI, nI_eq, z_in, pk_mul, zu_same, zu_rw, zu_ix, zi_ne0, zi_sub, zi_m1, Nat.add_sub_cancel, Nat.reduceMul, Nat.reduceSub]
    exact t S zfr.rf hC
  · refine sX10_expression_186 _ _ _ _ _ ?_
    simp (disch := omega) only [oAld, oCV, oGI, oIf, oIfc, oIld, oIst, oPush, hM.1, h12, List.getElem?_cons_zero, List.getElem?_cons_succ, List.set_cons_zero, List.set_cons_succ, List.drop_succ_cons, List.drop_zero, List.take_succ_cons, List.take_zero, List.length_cons, List.length_nil, List.reverse_cons, List.reverse_nil, List.nil_append, List.cons_append, Option.toList_some, Option.toList_none, va_rf_s, true_and, and_true, true_implies, false_implies, not_true_eq_false, not_false_eq_true, Nat.reduceAdd, Nat.reduceLeDiff, Nat.le_add_left, Nat.zero_le, Nat.le_refl, znew, true_or, or_true, b01_t, b01_f, b01_ok, bool_ft, vp_b01, vp_b0, vp_b1, b01_eq0, b01_eq1, implies_true, nI_add, nI_clamp, zi_in, zi_le_t, zi_le_f, zi_lt_t, zi_lt_f, zi_eq_t, zi_eq_f, nI_leI, nI_ltI, nI_eq, z_in, pk_mul, zu_same, zu_rw, zu_ix, zi_ne0, zi_sub, zi_m1, Nat.add_sub_cancel, Nat.reduceMul, Nat.reduceSub]
    refine zC.of0 (zX10_fail hM hC (by omega) (by omega)) (by omega) (Nat.zero_le _) (Nat.zero_le _) ?_
    rintro _ _ ⟨rfl, S1, rfl, hf1, hC1⟩
    exact t S1 hf1 hC1
/-- a sign that joins -/
theorem ex_opr (hVl : V.1 = l) (hVE : V.2.1 = E) (hVd : V.2.2.1 = 3) (hM : isM h b) (hA : tkW A) (hsd : sd < 2) {o : Nat} {W : List Nat} {C : zCd} {q : zCu} (hF : exF b S0 S c0 sd) (hS : exS b S L A c0 sd o W C q) (hl : W.length < 60) {s : Bool} (hk : isOp (tkK A q.1)) (hs : s = decide (tkK A q.1 = 10 ∨ tkK A q.1 = 15))
    (hE : ∀ e, pGo A q = .error e → ∀ S', exF b S0 S' c0 sd → mC b S' L A (.error e) → (∃ d, S' b 45 = nI d ∧ c0 ≤ d ∧ d ≤ 420 * sd + 420) → V.2.2.2.2.2.1 none (z, h, S', L))
    (hn : ∀ S' q1, pGo A q = .ok q1 → exF b S0 S' c0 sd → exS b S' L A c0 sd o (tkK A q.1 :: poR s W) (C ++ poC s W) q1 → zW V YX10_expression 23 (exL b) [] (z, h, S', L) 0 0) :
    zW V YX10_expression 96 (exL b) [] (z, h, S, L) 0 0 := by
  obtain ⟨hC, h12, ⟨h49, hW, hw⟩, ⟨h45, hca⟩, hb⟩ := id hS
  obtain ⟨-, h13, h11, h4, hal, -⟩ := id hC
  have hpl := poC_len s W
  have hrl := poR_len s W
  have e3 := (hC.tok hal h4).1
  generalize hkk : tkK A q.1 = k at *
  have hk100 : k < 100 := by rw [← hkk]; exact (hA.2.2 q.1).1
  have i_ : ∀ j, isB A j (.ok q) = decide (k = j) := fun j => by rw [isB, hkk]
  have t237 : ∀ S1, zfr [31, 32] [45, 49] b S S1 → S1 b 49 = nI (poR s W).length → S1 b 45 = nI (c0 + C.length + (poC s W).length) → codeAt (S1 (b + 31)) (S1 (b + 32)) (c0 + C.length) (poC s W) → cdF b S S1 (c0 + C.length) (c0 + C.length + (poC s W).length) → zW V YX10_expression 237 (exL b) [] (z, h, S1, L) 0 0 := by
    intro S1 hf1 h49' h45' hca' hcd
    have e3' : S1 (b + 3) q.1 = nI k := by rw [hf1.at (o := 3) rfl rfl]; exact e3
    have h11' : S1 b 11 = nI q.1 := by rw [hf1.f rfl]; exact h11
    have hF1 := hF.go hf1 rfl rfl hcd (by omega) (by omega)
    have hC1 : mC b S1 L A (.ok q) := hC.frL hf1 rfl rfl (fun _ _ => rfl)
    refine sX10_expression_237 _ _ _ _ _ ?_
    simp (disch := omega) only [oAld, oAld1, oAst1, oBin, oCV, oDup, oGI, oGR, oPI, oPush, hM.1, hM.r48, hM.t48, hM.n48, hM.r5, hM.t5, hM.n5, h49', h11', e3', List.getElem?_cons_zero, List.getElem?_cons_succ, List.set_cons_zero, List.set_cons_succ, List.drop_succ_cons, List.drop_zero, List.take_succ_cons, List.take_zero, List.length_cons, List.length_nil, List.reverse_cons, List.reverse_nil, List.nil_append, List.cons_append, Option.toList_some, Option.toList_none, va_rf_s, true_and, and_true, true_implies, false_implies, not_true_eq_false, not_false_eq_true, Nat.reduceAdd, Nat.reduceLeDiff, Nat.le_add_left, Nat.zero_le, Nat.le_refl, znew, true_or, or_true, b01_t, b01_f, b01_ok, bool_ft, vp_b01, vp_b0, vp_b1, b01_eq0, b01_eq1, implies_true, nI_add, nI_clamp, zi_in, zi_le_t, zi_le_f, zi_lt_t, zi_lt_f, zi_eq_t, zi_eq_f, nI_leI, nI_ltI, nI_eq, z_in, pk_mul, zu_same, zu_rw, zu_ix, zi_ne0, zi_sub, zi_m1, Nat.add_sub_cancel, Nat.reduceMul, Nat.reduceSub]
    have hf2 : zfr [33] [49] b S1 (zu (zu S1 (b + 33) (poR s W).length (nI k)) b 49 (nI ((poR s W).length + 1))) := (zfr.rf.row (by decide) (by decide)).fld (by decide)
    generalize hS2 : zu (zu S1 (b + 33) (poR s W).length (nI k)) b 49 (nI ((poR s W).length + 1)) = S2 at hf2 ⊢
    have hF2 := hF1.go hf2 rfl rfl (hf2.cd rfl rfl (c := c0) (d := c0)) (Nat.le_refl _) (by omega)
    have hC2 : mC b S2 L A (.ok q) := hC1.frL hf2 rfl rfl (fun _ _ => rfl)
    have h49'' : S2 b 49 = nI (k :: poR s W).length := by rw [← hS2]; simp (disch := omega) only [List.getElem?_cons_zero, List.getElem?_cons_succ, List.set_cons_zero, List.set_cons_succ, List.drop_succ_cons, List.drop_zero, List.take_succ_cons, List.take_zero, List.length_cons, List.length_nil, List.reverse_cons, List.reverse_nil, List.nil_append, List.cons_append, Option.toList_some, Option.toList_none, va_rf_s, true_and, and_true, true_implies, false_implies, not_true_eq_false, not_false_eq_true, Nat.reduceAdd, Nat.reduceLeDiff, Nat.le_add_left, Nat.zero_le, Nat.le_refl, znew, true_or, or_true, b01_t, b01_f, b01_ok, bool_ft, vp_b01, vp_b0, vp_b1, b01_eq0, b01_eq1, implies_true, nI_add, nI_clamp, zi_in, zi_le_t, zi_le_f, zi_lt_t, zi_lt_f, zi_eq_t, zi_eq_f, nI_leI, nI_ltI, nI_eq, z_in, pk_mul, zu_same, zu_rw, zu_ix, zi_ne0, zi_sub, zi_m1, Nat.add_sub_cancel, Nat.reduceMul, Nat.reduceSub, ]
    have hW2 : wAt (S2 (b + 33)) (k :: poR s W) := by
      refine ⟨by rw [← hS2]; simp (disch := omega) only [List.getElem?_cons_zero, List.getElem?_cons_succ, List.set_cons_zero, List.set_cons_succ, List.drop_succ_cons, List.drop_zero, List.take_succ_cons, List.take_zero, List.length_cons, List.length_nil, List.reverse_cons, List.reverse_nil, List.nil_append, List.cons_append, Option.toList_some, Option.toList_none, va_rf_s, true_and, and_true, true_implies, false_implies, not_true_eq_false, not_false_eq_true, Nat.reduceAdd, Nat.reduceLeDiff, Nat.le_add_left, Nat.zero_le, Nat.le_refl, znew, true_or, or_true, b01_t, b01_f, b01_ok, bool_ft, vp_b01, vp_b0, vp_b1, b01_eq0, b01_eq1, implies_true, nI_add, nI_clamp, zi_in, zi_le_t, zi_le_f, zi_lt_t, zi_lt_f, zi_eq_t, zi_eq_f, nI_leI, nI_ltI, nI_eq, z_in, pk_mul, zu_same, zu_rw, zu_ix, zi_ne0, zi_sub, zi_m1, Nat.add_sub_cancel, Nat.reduceMul, Nat.reduceSub, ], ((hW.po s).keep (P' := S1 (b + 33)) (fun j _ => by rw [hf1.at (o := 33) rfl rfl])).keep (fun j hj => ?_)⟩
      rw [← hS2]; simp (disch := omega) only [List.getElem?_cons_zero, List.getElem?_cons_succ, List.set_cons_zero, List.set_cons_succ, List.drop_succ_cons, List.drop_zero, List.take_succ_cons, List.take_zero, List.length_cons, List.length_nil, List.reverse_cons, List.reverse_nil, List.nil_append, List.cons_append, Option.toList_some, Option.toList_none, va_rf_s, true_and, and_true, true_implies, false_implies, not_true_eq_false, not_false_eq_true, Nat.reduceAdd, Nat.reduceLeDiff, Nat.le_add_left, Nat.zero_le, Nat.le_refl, znew, true_or, or_true, b01_t, b01_f, b01_ok, bool_ft, vp_b01, vp_b0, vp_b1, b01_eq0, b01_eq1, implies_true, nI_add, nI_clamp, zi_in, zi_le_t, zi_le_f, zi_lt_t, zi_lt_f, zi_eq_t, zi_eq_f, nI_leI, nI_ltI, nI_eq, z_in, pk_mul, zu_same, zu_rw, zu_ix, zi_ne0, zi_sub, zi_m1, Nat.add_sub_cancel, Nat.reduceMul, Nat.reduceSub, ]
    have hwm : ∀ w ∈ k :: poR s W, w < 100 := by
      intro w hw2
      rcases List.mem_cons.mp hw2 with rfl | hw2
      · exact hk100
      · have hsub : ∀ (W : List Nat) w, w ∈ poR s W → w ∈ W := by
          intro W
          induction W with
          | nil => intro w h; exact h
          | cons x r ih => intro w h; rw [poR] at h; split at h
                           · exact h
                           · exact List.mem_cons_of_mem _ (ih w h)
        exact hw w (hsub W w hw2)
    refine zC.of0 (zX10_goesOn hM hA hC2 (fun q' e => by cases e; rw [hkk]; rcases hk with q | q | q | q <;> omega)) (by omega) (Nat.zero_le _) (Nat.zero_le _) ?_
    rintro _ _ ⟨rfl, S3, rfl, hf3, hC3⟩
    have hF3 := hF2.go hf3 rfl rfl (hf3.cd rfl rfl (c := c0) (d := c0)) (Nat.le_refl _) (by omega)
    have h45'' : S3 b 45 = nI (c0 + C.length + (poC s W).length) := by rw [hf3.f rfl, hf2.f rfl]; exact h45'
    rw [pB_ok] at hC3
    refine sX10_expression_269 _ _ _ _ _ ?_
    simp (disch := omega) only [oNop, List.getElem?_cons_zero, List.getElem?_cons_succ, List.set_cons_zero, List.set_cons_succ, List.drop_succ_cons, List.drop_zero, List.take_succ_cons, List.take_zero, List.length_cons, List.length_nil, List.reverse_cons, List.reverse_nil, List.nil_append, List.cons_append, Option.toList_some, Option.toList_none, va_rf_s, true_and, and_true, true_implies, false_implies, not_true_eq_false, not_false_eq_true, Nat.reduceAdd, Nat.reduceLeDiff, Nat.le_add_left, Nat.zero_le, Nat.le_refl, znew, true_or, or_true, b01_t, b01_f, b01_ok, bool_ft, vp_b01, vp_b0, vp_b1, b01_eq0, b01_eq1, implies_true, nI_add, nI_clamp, zi_in, zi_le_t, zi_le_f, zi_lt_t, zi_lt_f, zi_eq_t, zi_eq_f, nI_leI, nI_ltI, nI_eq, z_in, pk_mul, zu_same, zu_rw, zu_ix, zi_ne0, zi_sub, zi_m1, Nat.add_sub_cancel, Nat.reduceMul, Nat.reduceSub]
    cases hg : pGo A q with
    | error e =>
      rw [hg] at hC3
      obtain ⟨n, h13', hn', hn5⟩ := hC3.bad
      refine sX10_expression_12 _ _ _ _ _ ?_
      simp (disch := omega) only [oAld, oGI, oIf, oIld, oRV, hM.1, h13', List.getElem?_cons_zero, List.getElem?_cons_succ, List.set_cons_zero, List.set_cons_succ, List.drop_succ_cons, List.drop_zero, List.take_succ_cons, List.take_zero, List.length_cons, List.length_nil, List.reverse_cons, List.reverse_nil, List.nil_append, List.cons_append, Option.toList_some, Option.toList_none, va_rf_s, true_and, and_true, true_implies, false_implies, not_true_eq_false, not_false_eq_true, Nat.reduceAdd, Nat.reduceLeDiff, Nat.le_add_left, Nat.zero_le, Nat.le_refl, znew, true_or, or_true, b01_t, b01_f, b01_ok, bool_ft, vp_b01, vp_b0, vp_b1, b01_eq0, b01_eq1, implies_true, nI_add, nI_clamp, zi_in, zi_le_t, zi_le_f, zi_lt_t, zi_lt_f, zi_eq_t, zi_eq_f, nI_leI, nI_ltI, nI_eq, z_in, pk_mul, zu_same, zu_rw, zu_ix, zi_ne0, zi_sub, zi_m1, Nat.add_sub_cancel, Nat.reduceMul, Nat.reduceSub]
      exact hE e hg S3 hF3 hC3 ⟨_, h45'', by omega, by omega⟩
    | ok q1 =>
      rw [hg] at hC3
      have h13' := hC3.good
      have hq1 := (pGo_ok hg).1
      refine sX10_expression_12 _ _ _ _ _ ?_
      simp (disch := omega) only [oAld, oGI, oIf, oIld, oRV, hM.1, h13', List.getElem?_cons_zero, List.getElem?_cons_succ, List.set_cons_zero, List.set_cons_succ, List.drop_succ_cons, List.drop_zero, List.take_succ_cons, List.take_zero, List.length_cons, List.length_nil, List.reverse_cons, List.reverse_nil, List.nil_append, List.cons_append, Option.toList_some, Option.toList_none, va_rf_s, true_and, and_true, true_implies, false_implies, not_true_eq_false, not_false_eq_true, Nat.reduceAdd, Nat.reduceLeDiff, Nat.le_add_left, Nat.zero_le, Nat.le_refl, znew, true_or, or_true, b01_t, b01_f, b01_ok, bool_ft, vp_b01, vp_b0, vp_b1, b01_eq0, b01_eq1, implies_true, nI_add, nI_clamp, zi_in, zi_le_t, zi_le_f, zi_lt_t, zi_lt_f, zi_eq_t, zi_eq_f, nI_leI, nI_ltI, nI_eq, z_in, pk_mul, zu_same, zu_rw, zu_ix, zi_ne0, zi_sub, zi_m1, Nat.add_sub_cancel, Nat.reduceMul, Nat.reduceSub]
      refine hn S3 q1 hg hF3 ⟨hC3, by rw [hf3.f rfl, hf2.f rfl, hf1.f rfl]; exact h12, ⟨by rw [hf3.f rfl]; exact h49'', by rw [hf3.at (o := 33) rfl rfl]; exact hW2, hwm⟩, ⟨?_, ?_⟩, ?_⟩
      · rw [h45'', List.length_append]; congr 1; omega
      · rw [hf3.at (o := 31) rfl rfl, hf3.at (o := 32) rfl rfl, hf2.at (o := 31) rfl rfl, hf2.at (o := 32) rfl rfl]
        exact codeAt_app (codeAt_keep hca (fun j _ hj => hcd j (by omega))) hca'
      · have hk6 : ¬ k = 6 := by rcases hk with q | q | q | q <;> omega
        rw [List.length_append, opC, if_neg hk6, hq1]
        show _ ≤ 420 * sd + (q.1 + 1)
        omega
  have tout : ∀ x2, zC V YX10_comesOut [.ref b, .int (b01 s)] (z, h, S, L) 0 0 (fun v X' k' n' => zW V YX10_expression 237 (exL b) (v.toList ++ []) X' k' n') (zOut V x2) := by
    intro x2
    refine zC.of0 (zX10_comesOutM hM s hw h49 hW (by omega) h45 (by omega)) (by omega) (Nat.zero_le _) (Nat.zero_le _) ?_
    rintro _ _ ⟨rfl, S1, rfl, hf1, h49', h45', hca', hcd⟩
    exact t237 S1 hf1 h49' h45' hca' hcd
  have t186 : zW V YX10_expression 181 (exL b) [] (z, h, S, L) 0 0 := by
    refine sX10_expression_181 _ _ _ _ _ ?_
    simp (disch := omega) only [oNop, oPush, List.getElem?_cons_zero, List.getElem?_cons_succ, List.set_cons_zero, List.set_cons_succ, List.drop_succ_cons, List.drop_zero, List.take_succ_cons, List.take_zero, List.length_cons, List.length_nil, List.reverse_cons, List.reverse_nil, List.nil_append, List.cons_append, Option.toList_some, Option.toList_none, va_rf_s, true_and, and_true, true_implies, false_implies, not_true_eq_false, not_false_eq_true, Nat.reduceAdd, Nat.reduceLeDiff, Nat.le_add_left, Nat.zero_le, Nat.le_refl, znew, true_or, or_true, b01_t, b01_f, b01_ok, bool_ft, vp_b01, vp_b0, vp_b1, b01_eq0, b01_eq1, implies_true, nI_add, nI_clamp, zi_in, zi_le_t, zi_le_f, zi_lt_t, zi_lt_f, zi_eq_t, zi_eq_f, nI_leI, nI_ltI, nI_eq, z_in, pk_mul, zu_same, zu_rw, zu_ix, zi_ne0, zi_sub, zi_m1, Nat.add_sub_cancel, Nat.reduceMul, Nat.reduceSub]
    refine sX10_expression_186 _ _ _ _ _ ?_
    simp (disch := omega) only [oAld, oCV, oGI, oIf, oIfc, oIld, oIst, oPush, hM.1, List.getElem?_cons_zero, List.getElem?_cons_succ, List.set_cons_zero, List.set_cons_succ, List.drop_succ_cons, List.drop_zero, List.take_succ_cons, List.take_zero, List.length_cons, List.length_nil, List.reverse_cons, List.reverse_nil, List.nil_append, List.cons_append, Option.toList_some, Option.toList_none, va_rf_s, true_and, and_true, true_implies, false_implies, not_true_eq_false, not_false_eq_true, Nat.reduceAdd, Nat.reduceLeDiff, Nat.le_add_left, Nat.zero_le, Nat.le_refl, znew, true_or, or_true, b01_t, b01_f, b01_ok, bool_ft, vp_b01, vp_b0, vp_b1, b01_eq0, b01_eq1, implies_true, nI_add, nI_clamp, zi_in, zi_le_t, zi_le_f, zi_lt_t, zi_lt_f, zi_eq_t, zi_eq_f, nI_leI, nI_ltI, nI_eq, z_in, pk_mul, zu_same, zu_rw, zu_ix, zi_ne0, zi_sub, zi_m1, Nat.add_sub_cancel, Nat.reduceMul, Nat.reduceSub]
    refine zC.of0 (zX10_is hM hA hC (by omega)) (by omega) (Nat.zero_le _) (Nat.zero_le _) ?_
    rintro _ _ ⟨rfl, rfl⟩
    by_cases h10 : k = 10
    · have eb : isB A 10 (.ok q) = true := by rw [i_]; exact decide_eq_true h10
      have es : s = true := by rw [hs]; exact decide_eq_true (Or.inl h10)
      rw [es] at tout
      refine sX10_expression_217 _ _ _ _ _ ?_
      simp (disch := omega) only [oAld, oCV, oIf, oNop, oPush, hM.1, eb, List.getElem?_cons_zero, List.getElem?_cons_succ, List.set_cons_zero, List.set_cons_succ, List.drop_succ_cons, List.drop_zero, List.take_succ_cons, List.take_zero, List.length_cons, List.length_nil, List.reverse_cons, List.reverse_nil, List.nil_append, List.cons_append, Option.toList_some, Option.toList_none, va_rf_s, true_and, and_true, true_implies, false_implies, not_true_eq_false, not_false_eq_true, Nat.reduceAdd, Nat.reduceLeDiff, Nat.le_add_left, Nat.zero_le, Nat.le_refl, znew, true_or, or_true, b01_t, b01_f, b01_ok, bool_ft, vp_b01, vp_b0, vp_b1, b01_eq0, b01_eq1, implies_true, nI_add, nI_clamp, zi_in, zi_le_t, zi_le_f, zi_lt_t, zi_lt_f, zi_eq_t, zi_eq_f, nI_leI, nI_ltI, nI_eq, z_in, pk_mul, zu_same, zu_rw, zu_ix, zi_ne0, zi_sub, zi_m1, Nat.add_sub_cancel, Nat.reduceMul, Nat.reduceSub]
      exact tout _
    · have eb : isB A 10 (.ok q) = false := by rw [i_]; exact decide_eq_false h10
      refine sX10_expression_217 _ _ _ _ _ ?_
      simp (disch := omega) only [oAld, oCV, oIf, oNop, oPush, hM.1, eb, List.getElem?_cons_zero, List.getElem?_cons_succ, List.set_cons_zero, List.set_cons_succ, List.drop_succ_cons, List.drop_zero, List.take_succ_cons, List.take_zero, List.length_cons, List.length_nil, List.reverse_cons, List.reverse_nil, List.nil_append, List.cons_append, Option.toList_some, Option.toList_none, va_rf_s, true_and, and_true, true_implies, false_implies, not_true_eq_false, not_false_eq_true, Nat.reduceAdd, Nat.reduceLeDiff, Nat.le_add_left, Nat.zero_le, Nat.le_refl, znew, true_or, or_true, b01_t, b01_f, b01_ok, bool_ft, vp_b01, vp_b0, vp_b1, b01_eq0, b01_eq1, implies_true, nI_add, nI_clamp, zi_in, zi_le_t, zi_le_f, zi_lt_t, zi_lt_f, zi_eq_t, zi_eq_f, nI_leI, nI_ltI, nI_eq, z_in, pk_mul, zu_same, zu_rw, zu_ix, zi_ne0, zi_sub, zi_m1, Nat.add_sub_cancel, Nat.reduceMul, Nat.reduceSub]
      refine zC.of0 (zX10_is hM hA hC (by omega)) (by omega) (Nat.zero_le _) (Nat.zero_le _) ?_
      rintro _ _ ⟨rfl, rfl⟩
      by_cases h15 : k = 15
      · have eb : isB A 15 (.ok q) = true := by rw [i_]; exact decide_eq_true h15
        have es : s = true := by rw [hs]; exact decide_eq_true (Or.inr h15)
        rw [es] at tout
        refine sX10_expression_226 _ _ _ _ _ ?_
        simp (disch := omega) only [oCV, oIf, oNop, oPush, hM.1, eb, List.getElem?_cons_zero, List.getElem?_cons_succ, List.set_cons_zero, List.set_cons_succ, List.drop_succ_cons, List.drop_zero, List.take_succ_cons, List.take_zero, List.length_cons, List.length_nil, List.reverse_cons, List.reverse_nil, List.nil_append, List.cons_append, Option.toList_some, Option.toList_none, va_rf_s, true_and, and_true, true_implies, false_implies, not_true_eq_false, not_false_eq_true, Nat.reduceAdd, Nat.reduceLeDiff, Nat.le_add_left, Nat.zero_le, Nat.le_refl, znew, true_or, or_true, b01_t, b01_f, b01_ok, bool_ft, vp_b01, vp_b0, vp_b1, b01_eq0, b01_eq1, implies_true, nI_add, nI_clamp, zi_in, zi_le_t, zi_le_f, zi_lt_t, zi_lt_f, zi_eq_t, zi_eq_f, nI_leI, nI_ltI, nI_eq, z_in, pk_mul, zu_same, zu_rw, zu_ix, zi_ne0, zi_sub, zi_m1, Nat.add_sub_cancel, Nat.reduceMul, Nat.reduceSub]
        exact tout _
      · have eb : isB A 15 (.ok q) = false := by rw [i_]; exact decide_eq_false h15
        have es : s = false := by rw [hs]; exact decide_eq_false (by omega)
        rw [es] at tout
        refine sX10_expression_226 _ _ _ _ _ ?_
        simp (disch := omega) only [oCV, oIf, oNop, oPush, hM.1, eb, List.getElem?_cons_zero, List.getElem?_cons_succ, List.set_cons_zero, List.set_cons_succ, List.drop_succ_cons, List.drop_zero, List.take_succ_cons, List.take_zero, List.length_cons, List.length_nil, List.reverse_cons, List.reverse_nil, List.nil_append, List.cons_append, Option.toList_some, Option.toList_none, va_rf_s, true_and, and_true, true_implies, false_implies, not_true_eq_false, not_false_eq_true, Nat.reduceAdd, Nat.reduceLeDiff, Nat.le_add_left, Nat.zero_le, Nat.le_refl, znew, true_or, or_true, b01_t, b01_f, b01_ok, bool_ft, vp_b01, vp_b0, vp_b1, b01_eq0, b01_eq1, implies_true, nI_add, nI_clamp, zi_in, zi_le_t, zi_le_f, zi_lt_t, zi_lt_f, zi_eq_t, zi_eq_f, nI_leI, nI_ltI, nI_eq, z_in, pk_mul, zu_same, zu_rw, zu_ix, zi_ne0, zi_sub, zi_m1, Nat.add_sub_cancel, Nat.reduceMul, Nat.reduceSub]
        exact tout _
  have e7 : isB A 7 (.ok q) = false := by rw [i_]; exact decide_eq_false (by rcases hk with q | q | q | q <;> omega)
  refine sX10_expression_96 _ _ _ _ _ ?_
  simp (disch := omega) only [oAld, oCV, oPush, hM.1, List.getElem?_cons_zero, List.getElem?_cons_succ, List.set_cons_zero, List.set_cons_succ, List.drop_succ_cons, List.drop_zero, List.take_succ_cons, List.take_zero, List.length_cons, List.length_nil, List.reverse_cons, List.reverse_nil, List.nil_append, List.cons_append, Option.toList_some, Option.toList_none, va_rf_s, true_and, and_true, true_implies, false_implies, not_true_eq_false, not_false_eq_true, Nat.reduceAdd, Nat.reduceLeDiff, Nat.le_add_left, Nat.zero_le, Nat.le_refl, znew, true_or, or_true, b01_t, b01_f, b01_ok, bool_ft, vp_b01, vp_b0, vp_b1, b01_eq0, b01_eq1, implies_true, nI_add, nI_clamp, zi_in, zi_le_t, zi_le_f, zi_lt_t, zi_lt_f, zi_eq_t, zi_eq_f, nI_leI, nI_ltI, nI_eq, z_in, pk_mul, zu_same, zu_rw, zu_ix, zi_ne0, zi_sub, zi_m1, Nat.add_sub_cancel, Nat.reduceMul, Nat.reduceSub]
  refine zC.of0 (zX10_is hM hA hC (by omega)) (by omega) (Nat.zero_le _) (Nat.zero_le _) ?_
  rintro _ _ ⟨rfl, rfl⟩
  refine sX10_expression_102 _ _ _ _ _ ?_
  simp (disch := omega) only [oAld, oCV, oGI, oIf, oIfc, oIld, oPush, hM.1, e7, List.getElem?_cons_zero, List.getElem?_cons_succ, List.set_cons_zero, List.set_cons_succ, List.drop_succ_cons, List.drop_zero, List.take_succ_cons, List.take_zero, List.length_cons, List.length_nil, List.reverse_cons, List.reverse_nil, List.nil_append, List.cons_append, Option.toList_some, Option.toList_none, va_rf_s, true_and, and_true, true_implies, false_implies, not_true_eq_false, not_false_eq_true, Nat.reduceAdd, Nat.reduceLeDiff, Nat.le_add_left, Nat.zero_le, Nat.le_refl, znew, true_or, or_true, b01_t, b01_f, b01_ok, bool_ft, vp_b01, vp_b0, vp_b1, b01_eq0, b01_eq1, implies_true, nI_add, nI_clamp, zi_in, zi_le_t, zi_le_f, zi_lt_t, zi_lt_f, zi_eq_t, zi_eq_f, nI_leI, nI_ltI, nI_eq, z_in, pk_mul, zu_same, zu_rw, zu_ix, zi_ne0, zi_sub, zi_m1, Nat.add_sub_cancel, Nat.reduceMul, Nat.reduceSub]
  refine zC.of0 (zX10_is hM hA hC (by omega)) (by omega) (Nat.zero_le _) (Nat.zero_le _) ?_
  rintro _ _ ⟨rfl, rfl⟩
  by_cases h8 : k = 8
  · have eb : isB A 8 (.ok q) = true := by rw [i_]; exact decide_eq_true h8
    refine sX10_expression_151 _ _ _ _ _ ?_
    simp (disch := omega) only [oAld, oCV, oIf, oPush, hM.1, eb, List.getElem?_cons_zero, List.getElem?_cons_succ, List.set_cons_zero, List.set_cons_succ, List.drop_succ_cons, List.drop_zero, List.take_succ_cons, List.take_zero, List.length_cons, List.length_nil, List.reverse_cons, List.reverse_nil, List.nil_append, List.cons_append, Option.toList_some, Option.toList_none, va_rf_s, true_and, and_true, true_implies, false_implies, not_true_eq_false, not_false_eq_true, Nat.reduceAdd, Nat.reduceLeDiff, Nat.le_add_left, Nat.zero_le, Nat.le_refl, znew, true_or, or_true, b01_t, b01_f, b01_ok, bool_ft, vp_b01, vp_b0, vp_b1, b01_eq0, b01_eq1, implies_true, nI_add, nI_clamp, zi_in, zi_le_t, zi_le_f, zi_lt_t, zi_lt_f, zi_eq_t, zi_eq_f, nI_leI, nI_ltI, nI_eq, z_in, pk_mul, zu_same, zu_rw, zu_ix, zi_ne0, zi_sub, zi_m1, Nat.add_sub_cancel, Nat.reduceMul, Nat.reduceSub]
    exact t186
  · have eb : isB A 8 (.ok q) = false := by rw [i_]; exact decide_eq_false h8
    refine sX10_expression_151 _ _ _ _ _ ?_
    simp (disch := omega) only [oAld, oCV, oIf, oPush, hM.1, eb, List.getElem?_cons_zero, List.getElem?_cons_succ, List.set_cons_zero, List.set_cons_succ, List.drop_succ_cons, List.drop_zero, List.take_succ_cons, List.take_zero, List.length_cons, List.length_nil, List.reverse_cons, List.reverse_nil, List.nil_append, List.cons_append, Option.toList_some, Option.toList_none, va_rf_s, true_and, and_true, true_implies, false_implies, not_true_eq_false, not_false_eq_true, Nat.reduceAdd, Nat.reduceLeDiff, Nat.le_add_left, Nat.zero_le, Nat.le_refl, znew, true_or, or_true, b01_t, b01_f, b01_ok, bool_ft, vp_b01, vp_b0, vp_b1, b01_eq0, b01_eq1, implies_true, nI_add, nI_clamp, zi_in, zi_le_t, zi_le_f, zi_lt_t, zi_lt_f, zi_eq_t, zi_eq_f, nI_leI, nI_ltI, nI_eq, z_in, pk_mul, zu_same, zu_rw, zu_ix, zi_ne0, zi_sub, zi_m1, Nat.add_sub_cancel, Nat.reduceMul, Nat.reduceSub]
    refine zC.of0 (zX10_is hM hA hC (by omega)) (by omega) (Nat.zero_le _) (Nat.zero_le _) ?_
    rintro _ _ ⟨rfl, rfl⟩
    by_cases h9 : k = 9
    · have eb : isB A 9 (.ok q) = true := by rw [i_]; exact decide_eq_true h9
      refine sX10_expression_160 _ _ _ _ _ ?_
      simp (disch := omega) only [oAld, oCV, oIf, oPush, hM.1, eb, List.getElem?_cons_zero, List.getElem?_cons_succ, List.set_cons_zero, List.set_cons_succ, List.drop_succ_cons, List.drop_zero, List.take_succ_cons, List.take_zero, List.length_cons, List.length_nil, List.reverse_cons, List.reverse_nil, List.nil_append, List.cons_append, Option.toList_some, Option.toList_none, va_rf_s, true_and, and_true, true_implies, false_implies, not_true_eq_false, not_false_eq_true, Nat.reduceAdd, Nat.reduceLeDiff, Nat.le_add_left, Nat.zero_le, Nat.le_refl, znew, true_or, or_true, b01_t, b01_f, b01_ok, bool_ft, vp_b01, vp_b0, vp_b1, b01_eq0, b01_eq1, implies_true, nI_add, nI_clamp, zi_in, zi_le_t, zi_le_f, zi_lt_t, zi_lt_f, zi_eq_t, zi_eq_f, nI_leI, nI_ltI, nI_eq, z_in, pk_mul, zu_same, zu_rw, zu_ix, zi_ne0, zi_sub, zi_m1, Nat.add_sub_cancel, Nat.reduceMul, Nat.reduceSub]
      exact t186
    · have eb : isB A 9 (.ok q) = false := by rw [i_]; exact decide_eq_false h9
      refine sX10_expression_160 _ _ _ _ _ ?_
      simp (disch := omega) only [oAld, oCV, oIf, oPush, hM.1, eb, List.getElem?_cons_zero, List.getElem?_cons_succ, List.set_cons_zero, List.set_cons_succ, List.drop_succ_cons, List.drop_zero, List.take_succ_cons, List.take_zero, List.length_cons, List.length_nil, List.reverse_cons, List.reverse_nil, List.nil_append, List.cons_append, Option.toList_some, Option.toList_none, va_rf_s, true_and, and_true, true_implies, false_implies, not_true_eq_false, not_false_eq_true, Nat.reduceAdd, Nat.reduceLeDiff, Nat.le_add_left, Nat.zero_le, Nat.le_refl, znew, true_or, or_true, b01_t, b01_f, b01_ok, bool_ft, vp_b01, vp_b0, vp_b1, b01_eq0, b01_eq1, implies_true, nI_add, nI_clamp, zi_in, zi_le_t, zi_le_f, zi_lt_t, zi_lt_f, zi_eq_t, zi_eq_f, nI_leI, nI_ltI, nI_eq, z_in, pk_mul, zu_same, zu_rw, zu_ix, zi_ne0, zi_sub, zi_m1, Nat.add_sub_cancel, Nat.reduceMul, Nat.reduceSub]
      refine zC.of0 (zX10_is hM hA hC (by omega)) (by omega) (Nat.zero_le _) (Nat.zero_le _) ?_
      rintro _ _ ⟨rfl, rfl⟩
      by_cases h10 : k = 10
      · have eb : isB A 10 (.ok q) = true := by rw [i_]; exact decide_eq_true h10
        refine sX10_expression_169 _ _ _ _ _ ?_
        simp (disch := omega) only [oAld, oCV, oIf, oPush, hM.1, eb, List.getElem?_cons_zero, List.getElem?_cons_succ, List.set_cons_zero, List.set_cons_succ, List.drop_succ_cons, List.drop_zero, List.take_succ_cons, List.take_zero, List.length_cons, List.length_nil, List.reverse_cons, List.reverse_nil, List.nil_append, List.cons_append, Option.toList_some, Option.toList_none, va_rf_s, true_and, and_true, true_implies, false_implies, not_true_eq_false, not_false_eq_true, Nat.reduceAdd, Nat.reduceLeDiff, Nat.le_add_left, Nat.zero_le, Nat.le_refl, znew, true_or, or_true, b01_t, b01_f, b01_ok, bool_ft, vp_b01, vp_b0, vp_b1, b01_eq0, b01_eq1, implies_true, nI_add, nI_clamp, zi_in, zi_le_t, zi_le_f, zi_lt_t, zi_lt_f, zi_eq_t, zi_eq_f, nI_leI, nI_ltI, nI_eq, z_in, pk_mul, zu_same, zu_rw, zu_ix, zi_ne0, zi_sub, zi_m1, Nat.add_sub_cancel, Nat.reduceMul, Nat.reduceSub]
        exact t186
      · have eb : isB A 10 (.ok q) = false := by rw [i_]; exact decide_eq_false h10
        refine sX10_expression_169 _ _ _ _ _ ?_
        simp (disch := omega) only [oAld, oCV, oIf, oPush, hM.1, eb, List.getElem?_cons_zero, List.getElem?_cons_succ, List.set_cons_zero, List.set_cons_succ, List.drop_succ_cons, List.drop_zero, List.take_succ_cons, List.take_zero, List.length_cons, List.length_nil, List.reverse_cons, List.reverse_nil, List.nil_append, List.cons_append, Option.toList_some, Option.toList_none, va_rf_s, true_and, and_true, true_implies, false_implies, not_true_eq_false, not_false_eq_true, Nat.reduceAdd, Nat.reduceLeDiff, Nat.le_add_left, Nat.zero_le, Nat.le_refl, znew, true_or, or_true, b01_t, b01_f, b01_ok, bool_ft, vp_b01, vp_b0, vp_b1, b01_eq0, b01_eq1, implies_true, nI_add, nI_clamp, zi_in, zi_le_t, zi_le_f, zi_lt_t, zi_lt_f, zi_eq_t, zi_eq_f, nI_leI, nI_ltI, nI_eq, z_in, pk_mul, zu_same, zu_rw, zu_ix, zi_ne0, zi_sub, zi_m1, Nat.add_sub_cancel, Nat.reduceMul, Nat.reduceSub]
        refine zC.of0 (zX10_is hM hA hC (by omega)) (by omega) (Nat.zero_le _) (Nat.zero_le _) ?_
        rintro _ _ ⟨rfl, rfl⟩
        have eb : isB A 15 (.ok q) = true := by rw [i_]; exact decide_eq_true (by rcases hk with q | q | q | q <;> omega)
        refine sX10_expression_178 _ _ _ _ _ ?_
        simp (disch := omega) only [oIf, oPush, eb, List.getElem?_cons_zero, List.getElem?_cons_succ, List.set_cons_zero, List.set_cons_succ, List.drop_succ_cons, List.drop_zero, List.take_succ_cons, List.take_zero, List.length_cons, List.length_nil, List.reverse_cons, List.reverse_nil, List.nil_append, List.cons_append, Option.toList_some, Option.toList_none, va_rf_s, true_and, and_true, true_implies, false_implies, not_true_eq_false, not_false_eq_true, Nat.reduceAdd, Nat.reduceLeDiff, Nat.le_add_left, Nat.zero_le, Nat.le_refl, znew, true_or, or_true, b01_t, b01_f, b01_ok, bool_ft, vp_b01, vp_b0, vp_b1, b01_eq0, b01_eq1, implies_true, nI_add, nI_clamp, zi_in, zi_le_t, zi_le_f, zi_lt_t, zi_lt_f, zi_eq_t, zi_eq_f, nI_leI, nI_ltI, nI_eq, z_in, pk_mul, zu_same, zu_rw, zu_ix, zi_ne0, zi_sub, zi_m1, Nat.add_sub_cancel, Nat.reduceMul, Nat.reduceSub]
        exact t186
end MY
