/-! the model's methods, E: a word, an hour -/
section Spec2
variable (ag te : Nat → Int32) (lw : Nat → List zBr3) (R : Nat → Int32)
/-- a word is said -/
def saysF (y w : Nat) : Nat → Int32 := fun j =>
  if j = 24 + y then R 47 else if j = 18 + y then R (18 + y) + nI 1 else if j = 41 + w then R (41 + w) + nI 1 else if j = 36 + w then withinF (R (36 + w) - wearsF ag te lw R y w) (nI 0) (nI 99) else if j = 6 + y then withinF (R (6 + y) + glowsF ag te lw R y w) (nI 0) (nI 999) else R j
def draftyF (lots still : Int32) (nc : Nat) (dr : Int32) : Int32 := if still = nI 0 ∧ 0 < nc ∧ lotF lots (nI 4 * R 47) (nI 100) < dr then lotF lots (nI 4 * R 47 + nI 1) (nI nc) else -1
def coolNowF (y : Nat) : Int32 := if R (12 + y) = nI 0 then coolsF ag te lw R y else nI 0
def glowNextF (dy : Int32) (y : Nat) : Int32 := if leavesF ag te lw R y = true then nI 0 else if R y = dy then withinF (R (6 + y) - coolNowF ag te lw R y) (nI 0) (nI 999) / nI 2 else withinF (R (6 + y) - coolNowF ag te lw R y) (nI 0) (nI 999)
/-- the row when m of the young ones have been seen -/
def hourK (dy : Int32) (m : Nat) : Nat → Int32 := fun j =>
  if 6 ≤ j ∧ j < 6 + m then glowNextF ag te lw R dy (j - 6) else if 12 ≤ j ∧ j < 12 + m then (if leavesF ag te lw R (j - 12) = true then nI 1 else R j) else R j
def hourF (lots still : Int32) (nc ny : Nat) (dr : Int32) : Nat → Int32 := fun j => if j = 47 then R 47 + nI 1 else hourK ag te lw R (draftyF R lots still nc dr) ny j
end Spec2
section ME
variable {l : Launch} {E : zE} {b z : Nat} {h : Nat → Option zSh} {S : Nat → Nat → Int32} {L : Nat → Nat → Int64} {lv nc ns ny nw : Nat} {lw : Nat → List zBr3} {ag te : Nat → Int32}
theorem zX10_says (hM : isM h b) (hT : mT b S lv nc ns ny nw) (hL : mL b S lv lw) (hA : mA b S lv ny ag te) {y w : Nat} (hy : y < ny) (hw : w < 5) :
    zM l E 3 YX10_says [.ref b, .int (nI y), .int (nI w)] (z, h, S, L) 0 0 (fun r X => r = none ∧ ∃ S', X = (z, h, S', L) ∧ zfr [34, 35, 37] [52] b S S' ∧ S' (b + 37) = saysF ag te lw (S (b + 37)) y w) (fun _ _ => False) := by
  have hny6 : ny ≤ 6 := hT.2.2.2.1.2
  refine zM.go rfl rfl (Nat.le_of_ble_eq_true rfl) (ls := [some (.ref b), some (.int (nI y)), some (.int (nI w)), none, none]) rfl ?_
  intro V hVl hVE hVd hVc hVs hVQ hVX
  refine sX10_says_0 _ _ _ _ _ ?_
  simp (disch := omega) only [oAld, oCV, oIld, hM.1, List.getElem?_cons_zero, List.getElem?_cons_succ, List.set_cons_zero, List.set_cons_succ, List.drop_succ_cons, List.drop_zero, List.take_succ_cons, List.take_zero, List.length_cons, List.length_nil, List.reverse_cons, List.reverse_nil, List.nil_append, List.cons_append, Option.toList_some, Option.toList_none, va_rf_s, true_and, and_true, true_implies, false_implies, not_true_eq_false, not_false_eq_true, Nat.reduceAdd, Nat.reduceLeDiff, Nat.le_add_left, Nat.zero_le, Nat.le_refl, znew, true_or, or_true, b01_t, b01_f, b01_ok, bool_ft, vp_b01, vp_b0, vp_b1, b01_eq0, b01_eq1, implies_true, nI_add, nI_clamp, zi_in, zi_le_t, zi_le_f, zi_lt_t, zi_lt_f, zi_eq_t, zi_eq_f, nI_leI, nI_ltI, nI_eq, z_in, pk_mul, zu_same, zu_rw, zu_ix, zi_ne0, zi_sub, zi_m1, Nat.add_sub_cancel, Nat.reduceMul, Nat.reduceSub]
  refine zC.of0 (zX10_glowsOf hM hT hL hA hy hw) (by omega) (Nat.zero_le _) (Nat.zero_le _) ?_
  rintro _ _ ⟨S1, rfl, hf1, rfl⟩
  refine sX10_says_6 _ _ _ _ _ ?_
  simp (disch := omega) only [oAld, oCV, oIld, oIst, hM.1, List.getElem?_cons_zero, List.getElem?_cons_succ, List.set_cons_zero, List.set_cons_succ, List.drop_succ_cons, List.drop_zero, List.take_succ_cons, List.take_zero, List.length_cons, List.length_nil, List.reverse_cons, List.reverse_nil, List.nil_append, List.cons_append, Option.toList_some, Option.toList_none, va_rf_s, true_and, and_true, true_implies, false_implies, not_true_eq_false, not_false_eq_true, Nat.reduceAdd, Nat.reduceLeDiff, Nat.le_add_left, Nat.zero_le, Nat.le_refl, znew, true_or, or_true, b01_t, b01_f, b01_ok, bool_ft, vp_b01, vp_b0, vp_b1, b01_eq0, b01_eq1, implies_true, nI_add, nI_clamp, zi_in, zi_le_t, zi_le_f, zi_lt_t, zi_lt_f, zi_eq_t, zi_eq_f, nI_leI, nI_ltI, nI_eq, z_in, pk_mul, zu_same, zu_rw, zu_ix, zi_ne0, zi_sub, zi_m1, Nat.add_sub_cancel, Nat.reduceMul, Nat.reduceSub]
  refine zC.of0 (zX10_wearsOf hM (hT.fr hf1 rfl rfl) (hL.fr hf1 rfl) (hA.fr hf1 rfl rfl) hy hw) (by omega) (Nat.zero_le _) (Nat.zero_le _) ?_
  rintro _ _ ⟨S2, rfl, hf2, rfl⟩
  have hf : zfr [34, 35] [52] b S S2 := hf1.tr hf2 rfl rfl rfl rfl
  have e37 := hf.at (o := 37) rfl rfl
  refine sX10_says_13 _ _ _ _ _ ?_
  simp (disch := omega) only [oAld, oAld1, oBin, oCS, oGR, oIld, oIst, oPush, hM.1, hM.r54, hM.t54, hM.n54, e37, List.getElem?_cons_zero, List.getElem?_cons_succ, List.set_cons_zero, List.set_cons_succ, List.drop_succ_cons, List.drop_zero, List.take_succ_cons, List.take_zero, List.length_cons, List.length_nil, List.reverse_cons, List.reverse_nil, List.nil_append, List.cons_append, Option.toList_some, Option.toList_none, va_rf_s, true_and, and_true, true_implies, false_implies, not_true_eq_false, not_false_eq_true, Nat.reduceAdd, Nat.reduceLeDiff, Nat.le_add_left, Nat.zero_le, Nat.le_refl, znew, true_or, or_true, b01_t, b01_f, b01_ok, bool_ft, vp_b01, vp_b0, vp_b1, b01_eq0, b01_eq1, implies_true, nI_add, nI_clamp, zi_in, zi_le_t, zi_le_f, zi_lt_t, zi_lt_f, zi_eq_t, zi_eq_f, nI_leI, nI_ltI, nI_eq, z_in, pk_mul, zu_same, zu_rw, zu_ix, zi_ne0, zi_sub, zi_m1, Nat.add_sub_cancel, Nat.reduceMul, Nat.reduceSub]
  refine zC.of0 (zX10_within _ _ _ _) (by omega) (Nat.zero_le _) (Nat.zero_le _) ?_
  rintro _ _ ⟨rfl, rfl⟩
  refine sX10_says_41 _ _ _ _ _ ?_
  simp (disch := omega) only [oAld, oAld1, oAst1, oBin, oCS, oGR, oIld, oPush, hM.1, hM.r54, hM.t54, hM.n54, e37, List.getElem?_cons_zero, List.getElem?_cons_succ, List.set_cons_zero, List.set_cons_succ, List.drop_succ_cons, List.drop_zero, List.take_succ_cons, List.take_zero, List.length_cons, List.length_nil, List.reverse_cons, List.reverse_nil, List.nil_append, List.cons_append, Option.toList_some, Option.toList_none, va_rf_s, true_and, and_true, true_implies, false_implies, not_true_eq_false, not_false_eq_true, Nat.reduceAdd, Nat.reduceLeDiff, Nat.le_add_left, Nat.zero_le, Nat.le_refl, znew, true_or, or_true, b01_t, b01_f, b01_ok, bool_ft, vp_b01, vp_b0, vp_b1, b01_eq0, b01_eq1, implies_true, nI_add, nI_clamp, zi_in, zi_le_t, zi_le_f, zi_lt_t, zi_lt_f, zi_eq_t, zi_eq_f, nI_leI, nI_ltI, nI_eq, z_in, pk_mul, zu_same, zu_rw, zu_ix, zi_ne0, zi_sub, zi_m1, Nat.add_sub_cancel, Nat.reduceMul, Nat.reduceSub]
  refine zC.of0 (zX10_within _ _ _ _) (by omega) (Nat.zero_le _) (Nat.zero_le _) ?_
  rintro _ _ ⟨rfl, rfl⟩
  refine sX10_says_68 _ _ _ _ _ ?_
  simp (disch := omega) only [oAld, oAld1, oAst1, oBin, oDup2, oGR, oIld, oPush, oRV, hM.1, hM.r54, hM.t54, hM.n54, e37, List.getElem?_cons_zero, List.getElem?_cons_succ, List.set_cons_zero, List.set_cons_succ, List.drop_succ_cons, List.drop_zero, List.take_succ_cons, List.take_zero, List.length_cons, List.length_nil, List.reverse_cons, List.reverse_nil, List.nil_append, List.cons_append, Option.toList_some, Option.toList_none, va_rf_s, true_and, and_true, true_implies, false_implies, not_true_eq_false, not_false_eq_true, Nat.reduceAdd, Nat.reduceLeDiff, Nat.le_add_left, Nat.zero_le, Nat.le_refl, znew, true_or, or_true, b01_t, b01_f, b01_ok, bool_ft, vp_b01, vp_b0, vp_b1, b01_eq0, b01_eq1, implies_true, nI_add, nI_clamp, zi_in, zi_le_t, zi_le_f, zi_lt_t, zi_lt_f, zi_eq_t, zi_eq_f, nI_leI, nI_ltI, nI_eq, z_in, pk_mul, zu_same, zu_rw, zu_ix, zi_ne0, zi_sub, zi_m1, Nat.add_sub_cancel, Nat.reduceMul, Nat.reduceSub]
  refine hVQ _ _ ⟨rfl, _, rfl, ?_, ?_⟩
  · have h0 : zfr [34, 35, 37] [52] b S S2 := hf.tr zfr.rf rfl rfl (D' := []) (F' := []) rfl rfl
    exact ((((h0.row (by decide) (by decide)).row (by decide) (by decide)).row (by decide) (by decide)).row (by decide) (by decide)).row (by decide) (by decide)
  · funext j
    unfold saysF
    rw [hf1.at (o := 37) rfl rfl]
    by_cases h1 : j = 24 + y
    · subst h1; simp (disch := omega) only [List.getElem?_cons_zero, List.getElem?_cons_succ, List.set_cons_zero, List.set_cons_succ, List.drop_succ_cons, List.drop_zero, List.take_succ_cons, List.take_zero, List.length_cons, List.length_nil, List.reverse_cons, List.reverse_nil, List.nil_append, List.cons_append, Option.toList_some, Option.toList_none, va_rf_s, true_and, and_true, true_implies, false_implies, not_true_eq_false, not_false_eq_true, Nat.reduceAdd, Nat.reduceLeDiff, Nat.le_add_left, Nat.zero_le, Nat.le_refl, znew, true_or, or_true, b01_t, b01_f, b01_ok, bool_ft, vp_b01, vp_b0, vp_b1, b01_eq0, b01_eq1, implies_true, nI_add, nI_clamp, zi_in, zi_le_t, zi_le_f, zi_lt_t, zi_lt_f, zi_eq_t, zi_eq_f, nI_leI, nI_ltI, nI_eq, z_in, pk_mul, zu_same, zu_rw, zu_ix, zi_ne0, zi_sub, zi_m1, Nat.add_sub_cancel, Nat.reduceMul, Nat.reduceSub, if_true]
    rw [if_neg h1]
    by_cases h2 : j = 18 + y
    · subst h2; simp (disch := omega) only [List.getElem?_cons_zero, List.getElem?_cons_succ, List.set_cons_zero, List.set_cons_succ, List.drop_succ_cons, List.drop_zero, List.take_succ_cons, List.take_zero, List.length_cons, List.length_nil, List.reverse_cons, List.reverse_nil, List.nil_append, List.cons_append, Option.toList_some, Option.toList_none, va_rf_s, true_and, and_true, true_implies, false_implies, not_true_eq_false, not_false_eq_true, Nat.reduceAdd, Nat.reduceLeDiff, Nat.le_add_left, Nat.zero_le, Nat.le_refl, znew, true_or, or_true, b01_t, b01_f, b01_ok, bool_ft, vp_b01, vp_b0, vp_b1, b01_eq0, b01_eq1, implies_true, nI_add, nI_clamp, zi_in, zi_le_t, zi_le_f, zi_lt_t, zi_lt_f, zi_eq_t, zi_eq_f, nI_leI, nI_ltI, nI_eq, z_in, pk_mul, zu_same, zu_rw, zu_ix, zi_ne0, zi_sub, zi_m1, Nat.add_sub_cancel, Nat.reduceMul, Nat.reduceSub, if_true]
    rw [if_neg h2]
    by_cases h3 : j = 41 + w
    · subst h3; simp (disch := omega) only [List.getElem?_cons_zero, List.getElem?_cons_succ, List.set_cons_zero, List.set_cons_succ, List.drop_succ_cons, List.drop_zero, List.take_succ_cons, List.take_zero, List.length_cons, List.length_nil, List.reverse_cons, List.reverse_nil, List.nil_append, List.cons_append, Option.toList_some, Option.toList_none, va_rf_s, true_and, and_true, true_implies, false_implies, not_true_eq_false, not_false_eq_true, Nat.reduceAdd, Nat.reduceLeDiff, Nat.le_add_left, Nat.zero_le, Nat.le_refl, znew, true_or, or_true, b01_t, b01_f, b01_ok, bool_ft, vp_b01, vp_b0, vp_b1, b01_eq0, b01_eq1, implies_true, nI_add, nI_clamp, zi_in, zi_le_t, zi_le_f, zi_lt_t, zi_lt_f, zi_eq_t, zi_eq_f, nI_leI, nI_ltI, nI_eq, z_in, pk_mul, zu_same, zu_rw, zu_ix, zi_ne0, zi_sub, zi_m1, Nat.add_sub_cancel, Nat.reduceMul, Nat.reduceSub, if_true]
    rw [if_neg h3]
    by_cases h4 : j = 36 + w
    · subst h4; simp (disch := omega) only [List.getElem?_cons_zero, List.getElem?_cons_succ, List.set_cons_zero, List.set_cons_succ, List.drop_succ_cons, List.drop_zero, List.take_succ_cons, List.take_zero, List.length_cons, List.length_nil, List.reverse_cons, List.reverse_nil, List.nil_append, List.cons_append, Option.toList_some, Option.toList_none, va_rf_s, true_and, and_true, true_implies, false_implies, not_true_eq_false, not_false_eq_true, Nat.reduceAdd, Nat.reduceLeDiff, Nat.le_add_left, Nat.zero_le, Nat.le_refl, znew, true_or, or_true, b01_t, b01_f, b01_ok, bool_ft, vp_b01, vp_b0, vp_b1, b01_eq0, b01_eq1, implies_true, nI_add, nI_clamp, zi_in, zi_le_t, zi_le_f, zi_lt_t, zi_lt_f, zi_eq_t, zi_eq_f, nI_leI, nI_ltI, nI_eq, z_in, pk_mul, zu_same, zu_rw, zu_ix, zi_ne0, zi_sub, zi_m1, Nat.add_sub_cancel, Nat.reduceMul, Nat.reduceSub, if_true]
    rw [if_neg h4]
    by_cases h5 : j = 6 + y
    · subst h5; simp (disch := omega) only [List.getElem?_cons_zero, List.getElem?_cons_succ, List.set_cons_zero, List.set_cons_succ, List.drop_succ_cons, List.drop_zero, List.take_succ_cons, List.take_zero, List.length_cons, List.length_nil, List.reverse_cons, List.reverse_nil, List.nil_append, List.cons_append, Option.toList_some, Option.toList_none, va_rf_s, true_and, and_true, true_implies, false_implies, not_true_eq_false, not_false_eq_true, Nat.reduceAdd, Nat.reduceLeDiff, Nat.le_add_left, Nat.zero_le, Nat.le_refl, znew, true_or, or_true, b01_t, b01_f, b01_ok, bool_ft, vp_b01, vp_b0, vp_b1, b01_eq0, b01_eq1, implies_true, nI_add, nI_clamp, zi_in, zi_le_t, zi_le_f, zi_lt_t, zi_lt_f, zi_eq_t, zi_eq_f, nI_leI, nI_ltI, nI_eq, z_in, pk_mul, zu_same, zu_rw, zu_ix, zi_ne0, zi_sub, zi_m1, Nat.add_sub_cancel, Nat.reduceMul, Nat.reduceSub, if_true]
    rw [if_neg h5]
    simp (disch := omega) only [List.getElem?_cons_zero, List.getElem?_cons_succ, List.set_cons_zero, List.set_cons_succ, List.drop_succ_cons, List.drop_zero, List.take_succ_cons, List.take_zero, List.length_cons, List.length_nil, List.reverse_cons, List.reverse_nil, List.nil_append, List.cons_append, Option.toList_some, Option.toList_none, va_rf_s, true_and, and_true, true_implies, false_implies, not_true_eq_false, not_false_eq_true, Nat.reduceAdd, Nat.reduceLeDiff, Nat.le_add_left, Nat.zero_le, Nat.le_refl, znew, true_or, or_true, b01_t, b01_f, b01_ok, bool_ft, vp_b01, vp_b0, vp_b1, b01_eq0, b01_eq1, implies_true, nI_add, nI_clamp, zi_in, zi_le_t, zi_le_f, zi_lt_t, zi_lt_f, zi_eq_t, zi_eq_f, nI_leI, nI_ltI, nI_eq, z_in, pk_mul, zu_same, zu_rw, zu_ix, zi_ne0, zi_sub, zi_m1, Nat.add_sub_cancel, Nat.reduceMul, Nat.reduceSub, e37]
theorem hourK_0 (ag te : Nat → Int32) (lw : Nat → List zBr3) (R : Nat → Int32) (dy : Int32) : hourK ag te lw R dy 0 = R := by
  funext j
  unfold hourK
  rw [if_neg (by omega), if_neg (by omega)]
theorem hourK_lo {ag te : Nat → Int32} {lw : Nat → List zBr3} {R : Nat → Int32} {dy : Int32} {m j : Nat} (h : j < 6 ∨ (6 + m ≤ j ∧ j < 12) ∨ 12 + m ≤ j) (hm : m ≤ 6) : hourK ag te lw R dy m j = R j := by
  unfold hourK
  rw [if_neg (by omega), if_neg (by omega)]
theorem hourK_succ {ag te : Nat → Int32} {lw : Nat → List zBr3} {R : Nat → Int32} {dy : Int32} {m : Nat} (hm : m < 6) (j : Nat) : hourK ag te lw R dy (m + 1) j = if j = 6 + m then glowNextF ag te lw R dy m else if j = 12 + m then (if leavesF ag te lw R m = true then nI 1 else R (12 + m)) else hourK ag te lw R dy m j := by
  unfold hourK
  by_cases h1 : j = 6 + m
  · subst h1
    rw [if_pos (by omega), if_pos rfl, show 6 + m - 6 = m by omega]
  · rw [if_neg h1]
    by_cases h2 : j = 12 + m
    · subst h2
      rw [if_neg (by omega), if_pos (by omega), if_pos rfl, show 12 + m - 12 = m by omega]
    · rw [if_neg h2]
      by_cases h3 : 6 ≤ j ∧ j < 6 + m
      · rw [if_pos (by omega), if_pos h3]
      · rw [if_neg (by omega), if_neg h3]
        by_cases h4 : 12 ≤ j ∧ j < 12 + m
        · rw [if_pos (by omega), if_pos h4]
        · rw [if_neg (by omega), if_neg h4]
theorem zX10_hour_e {V : zV} (hM : isM h b) {ag te R : Nat → Int32} {dy : Int32} {y : Nat} (hy : y < 6) {S' S1 : Nat → Nat → Int32}
    (hf : zfr [34, 35, 37, 38, 39] [52] b S S1) (hr : S' (b + 37) = hourK ag te lw R dy y) (c2 : S1 (b + 39) y = b01 (leavesF ag te lw R y))
    (h38 : S1 (b + 38) = S' (b + 38)) (h39 : S1 (b + 39) = S' (b + 39)) {g : Int32} (hg : g = if R y = dy then withinF (R (6 + y) - coolNowF ag te lw R y) (nI 0) (nI 999) / nI 2 else withinF (R (6 + y) - coolNowF ag te lw R y) (nI 0) (nI 999))
    (h37 : ∀ j, S1 (b + 37) j = if j = 6 + y then g else S' (b + 37) j)
    (fin : ∀ S'', zfr [34, 35, 37, 38, 39] [52] b S S'' → S'' (b + 37) = hourK ag te lw R dy (y + 1) → S'' (b + 38) = S' (b + 38) → S'' (b + 39) = S' (b + 39) → zW V YX10_hourGoes 116 [some (.ref b), some (.int dy), some (.int (nI (y + 1)))] [] (z, h, S'', L) 0 0) :
    zW V YX10_hourGoes 184 [some (.ref b), some (.int dy), some (.int (nI y))] [] (z, h, S1, L) 0 0 := by
  have r12 : S' (b + 37) (12 + y) = R (12 + y) := by rw [hr]; exact hourK_lo (by omega) (by omega)
  refine sX10_hourGoes_184 _ _ _ _ _ ?_
  simp (disch := omega) only [oAld, oAld1, oAst1, oBin, oGR, oIf, oIld, oInc, oNop, oPush, hM.1, hM.r58, hM.t58, hM.n58, hM.r54, hM.t54, hM.n54, c2, List.getElem?_cons_zero, List.getElem?_cons_succ, List.set_cons_zero, List.set_cons_succ, List.drop_succ_cons, List.drop_zero, List.take_succ_cons, List.take_zero, List.length_cons, List.length_nil, List.reverse_cons, List.reverse_nil, List.nil_append, List.cons_append, Option.toList_some, Option.toList_none, va_rf_s, true_and, and_true, true_implies, false_implies, not_true_eq_false, not_false_eq_true, Nat.reduceAdd, Nat.reduceLeDiff, Nat.le_add_left, Nat.zero_le, Nat.le_refl, znew, true_or, or_true, b01_t, b01_f, b01_ok, bool_ft, vp_b01, vp_b0, vp_b1, b01_eq0, b01_eq1, implies_true, nI_add, nI_clamp, zi_in, zi_le_t, zi_le_f, zi_lt_t, zi_lt_f, zi_eq_t, zi_eq_f, nI_leI, nI_ltI, nI_eq, z_in, pk_mul, zu_same, zu_rw, zu_ix, zi_ne0, zi_sub, zi_m1, Nat.add_sub_cancel, Nat.reduceMul, Nat.reduceSub]
  refine ⟨fun hlv0 => ?_, fun hlv0 => ?_⟩
  · refine fin S1 hf (funext fun j => ?_) h38 h39
    rw [hourK_succ hy, h37]
    by_cases h1 : j = 6 + y
    · rw [if_pos h1, if_pos h1, glowNextF, hlv0, hg]; simp
    · rw [if_neg h1, if_neg h1]
      by_cases h2 : j = 12 + y
      · rw [if_pos h2, hlv0, h2, r12]; simp
      · rw [if_neg h2, hr]
  · have hlv1 : leavesF ag te lw R y = true := by simpa using hlv0
    refine fin _ ((hf.row (by decide) (by decide)).row (by decide) (by decide)) (funext fun j => ?_) (by simp (disch := omega) only [List.getElem?_cons_zero, List.getElem?_cons_succ, List.set_cons_zero, List.set_cons_succ, List.drop_succ_cons, List.drop_zero, List.take_succ_cons, List.take_zero, List.length_cons, List.length_nil, List.reverse_cons, List.reverse_nil, List.nil_append, List.cons_append, Option.toList_some, Option.toList_none, va_rf_s, true_and, and_true, true_implies, false_implies, not_true_eq_false, not_false_eq_true, Nat.reduceAdd, Nat.reduceLeDiff, Nat.le_add_left, Nat.zero_le, Nat.le_refl, znew, true_or, or_true, b01_t, b01_f, b01_ok, bool_ft, vp_b01, vp_b0, vp_b1, b01_eq0, b01_eq1, implies_true, nI_add, nI_clamp, zi_in, zi_le_t, zi_le_f, zi_lt_t, zi_lt_f, zi_eq_t, zi_eq_f, nI_leI, nI_ltI, nI_eq, z_in, pk_mul, zu_same, zu_rw, zu_ix, zi_ne0, zi_sub, zi_m1, Nat.add_sub_cancel, Nat.reduceMul, Nat.reduceSub, h38]) (by simp (disch := omega) only [List.getElem?_cons_zero, List.getElem?_cons_succ, List.set_cons_zero, List.set_cons_succ, List.drop_succ_cons, List.drop_zero, List.take_succ_cons, List.take_zero, List.length_cons, List.length_nil, List.reverse_cons, List.reverse_nil, List.nil_append, List.cons_append, Option.toList_some, Option.toList_none, va_rf_s, true_and, and_true, true_implies, false_implies, not_true_eq_false, not_false_eq_true, Nat.reduceAdd, Nat.reduceLeDiff, Nat.le_add_left, Nat.zero_le, Nat.le_refl, znew, true_or, or_true, b01_t, b01_f, b01_ok, bool_ft, vp_b01, vp_b0, vp_b1, b01_eq0, b01_eq1, implies_true, nI_add, nI_clamp, zi_in, zi_le_t, zi_le_f, zi_lt_t, zi_lt_f, zi_eq_t, zi_eq_f, nI_leI, nI_ltI, nI_eq, z_in, pk_mul, zu_same, zu_rw, zu_ix, zi_ne0, zi_sub, zi_m1, Nat.add_sub_cancel, Nat.reduceMul, Nat.reduceSub, h39])
    rw [hourK_succ hy]
    by_cases h1 : j = 6 + y
    · subst h1
      rw [if_pos rfl, zu_same, glowNextF, hlv1]; simp
    · rw [if_neg h1, zu_ix _ _ h1]
      by_cases h2 : j = 12 + y
      · subst h2
        rw [if_pos rfl, zu_same, hlv1]; simp
      · rw [if_neg h2, zu_ix _ _ h2, h37, if_neg h1, hr]
theorem zX10_hour_2 {V : zV} (hM : isM h b) (hT : mT b S lv nc ns ny nw) (hVd : V.2.2.1 = 3) {ag te R : Nat → Int32} {dy : Int32}
    (hQ : ∀ S', zfr [34, 35, 37, 38, 39] [52] b S S' → S' (b + 37) = (fun j => if j = 47 then R 47 + nI 1 else hourK ag te lw R dy ny j) → V.2.2.2.2.2.1 none (z, h, S', L)) :
    ∀ y, y ≤ ny → ∀ S', zfr [34, 35, 37, 38, 39] [52] b S S' → S' (b + 37) = hourK ag te lw R dy y → (∀ j, j < ny → S' (b + 38) j = coolNowF ag te lw R j ∧ S' (b + 39) j = b01 (leavesF ag te lw R j)) → zW V YX10_hourGoes 116 [some (.ref b), some (.int dy), some (.int (nI y))] [] (z, h, S', L) 0 0 := by
  obtain ⟨⟨hl, hlv⟩, -, -, ⟨hny, hny6⟩, -⟩ := hT
  refine z_down ?_ (fun y hy ih => ?_)
  · intro S' hf hr hcl
    refine sX10_hourGoes_116 _ _ _ _ _ ?_
    simp (disch := omega) only [oAld, oAld1, oAst1, oBin, oCS, oDup2, oGI, oGR, oIfc, oIld, oPush, oRV, hM.1, hM.r28, hM.t28, hM.n28, hM.r54, hM.t54, hM.n54, hM.r57, hM.t57, hM.n57, hf.at (o := 15) rfl rfl, hf.f (j := 18) rfl, hl, hny, List.getElem?_cons_zero, List.getElem?_cons_succ, List.set_cons_zero, List.set_cons_succ, List.drop_succ_cons, List.drop_zero, List.take_succ_cons, List.take_zero, List.length_cons, List.length_nil, List.reverse_cons, List.reverse_nil, List.nil_append, List.cons_append, Option.toList_some, Option.toList_none, va_rf_s, true_and, and_true, true_implies, false_implies, not_true_eq_false, not_false_eq_true, Nat.reduceAdd, Nat.reduceLeDiff, Nat.le_add_left, Nat.zero_le, Nat.le_refl, znew, true_or, or_true, b01_t, b01_f, b01_ok, bool_ft, vp_b01, vp_b0, vp_b1, b01_eq0, b01_eq1, implies_true, nI_add, nI_clamp, zi_in, zi_le_t, zi_le_f, zi_lt_t, zi_lt_f, zi_eq_t, zi_eq_f, nI_leI, nI_ltI, nI_eq, z_in, pk_mul, zu_same, zu_rw, zu_ix, zi_ne0, zi_sub, zi_m1, Nat.add_sub_cancel, Nat.reduceMul, Nat.reduceSub]
    refine hQ _ (hf.row (by decide) (by decide)) (funext fun j => ?_)
    by_cases hj : j = 47
    · subst hj
      rw [if_pos rfl, zu_same, hr, hourK_lo (by omega) (by omega)]
    · rw [if_neg hj, zu_ix _ _ hj, hr]
  · intro S' hf hr hcl
    have c1 := (hcl y hy).1
    have c2 := (hcl y hy).2
    have r6 : S' (b + 37) (6 + y) = R (6 + y) := by rw [hr]; exact hourK_lo (by omega) (by omega)
    have r0 : S' (b + 37) y = R y := by rw [hr]; exact hourK_lo (by omega) (by omega)
    have fin : ∀ S'', zfr [34, 35, 37, 38, 39] [52] b S S'' → S'' (b + 37) = hourK ag te lw R dy (y + 1) → S'' (b + 38) = S' (b + 38) → S'' (b + 39) = S' (b + 39) → zW V YX10_hourGoes 116 [some (.ref b), some (.int dy), some (.int (nI (y + 1)))] [] (z, h, S'', L) 0 0 :=
      fun S'' hf2 hr2 h38 h39 => ih S'' hf2 hr2 (fun j hj => by rw [h38, h39]; exact hcl j hj)
    refine sX10_hourGoes_116 _ _ _ _ _ ?_
    simp (disch := omega) only [oAld, oAld1, oAst1, oBin, oCS, oDup2, oGI, oGR, oIfc, oIld, oPush, oRV, hM.1, hM.r28, hM.t28, hM.n28, hM.r54, hM.t54, hM.n54, hM.r57, hM.t57, hM.n57, hf.at (o := 15) rfl rfl, hf.f (j := 18) rfl, hl, hny, r6, c1, List.getElem?_cons_zero, List.getElem?_cons_succ, List.set_cons_zero, List.set_cons_succ, List.drop_succ_cons, List.drop_zero, List.take_succ_cons, List.take_zero, List.length_cons, List.length_nil, List.reverse_cons, List.reverse_nil, List.nil_append, List.cons_append, Option.toList_some, Option.toList_none, va_rf_s, true_and, and_true, true_implies, false_implies, not_true_eq_false, not_false_eq_true, Nat.reduceAdd, Nat.reduceLeDiff, Nat.le_add_left, Nat.zero_le, Nat.le_refl, znew, true_or, or_true, b01_t, b01_f, b01_ok, bool_ft, vp_b01, vp_b0, vp_b1, b01_eq0, b01_eq1, implies_true, nI_add, nI_clamp, zi_in, zi_le_t, zi_le_f, zi_lt_t, zi_lt_f, zi_eq_t, zi_eq_f, nI_leI, nI_ltI, nI_eq, z_in, pk_mul, zu_same, zu_rw, zu_ix, zi_ne0, zi_sub, zi_m1, Nat.add_sub_cancel, Nat.reduceMul, Nat.reduceSub]
    refine zC.of0 (zX10_within _ _ _ _) (by omega) (Nat.zero_le _) (Nat.zero_le _) ?_
    rintro _ _ ⟨rfl, rfl⟩
    refine sX10_hourGoes_160 _ _ _ _ _ ?_
    simp (disch := omega) only [oAld, oAld1, oAst1, oBin, oDiv, oDup2, oGR, oIfc, oIld, oPush, hM.1, hM.r54, hM.t54, hM.n54, r0, List.getElem?_cons_zero, List.getElem?_cons_succ, List.set_cons_zero, List.set_cons_succ, List.drop_succ_cons, List.drop_zero, List.take_succ_cons, List.take_zero, List.length_cons, List.length_nil, List.reverse_cons, List.reverse_nil, List.nil_append, List.cons_append, Option.toList_some, Option.toList_none, va_rf_s, true_and, and_true, true_implies, false_implies, not_true_eq_false, not_false_eq_true, Nat.reduceAdd, Nat.reduceLeDiff, Nat.le_add_left, Nat.zero_le, Nat.le_refl, znew, true_or, or_true, b01_t, b01_f, b01_ok, bool_ft, vp_b01, vp_b0, vp_b1, b01_eq0, b01_eq1, implies_true, nI_add, nI_clamp, zi_in, zi_le_t, zi_le_f, zi_lt_t, zi_lt_f, zi_eq_t, zi_eq_f, nI_leI, nI_ltI, nI_eq, z_in, pk_mul, zu_same, zu_rw, zu_ix, zi_ne0, zi_sub, zi_m1, Nat.add_sub_cancel, Nat.reduceMul, Nat.reduceSub]
    refine ⟨fun hd => ?_, fun hd => ?_⟩
    · refine zX10_hour_e hM (by omega) ((hf.row (by decide) (by decide)).row (by decide) (by decide)) hr (by simp (disch := omega) only [List.getElem?_cons_zero, List.getElem?_cons_succ, List.set_cons_zero, List.set_cons_succ, List.drop_succ_cons, List.drop_zero, List.take_succ_cons, List.take_zero, List.length_cons, List.length_nil, List.reverse_cons, List.reverse_nil, List.nil_append, List.cons_append, Option.toList_some, Option.toList_none, va_rf_s, true_and, and_true, true_implies, false_implies, not_true_eq_false, not_false_eq_true, Nat.reduceAdd, Nat.reduceLeDiff, Nat.le_add_left, Nat.zero_le, Nat.le_refl, znew, true_or, or_true, b01_t, b01_f, b01_ok, bool_ft, vp_b01, vp_b0, vp_b1, b01_eq0, b01_eq1, implies_true, nI_add, nI_clamp, zi_in, zi_le_t, zi_le_f, zi_lt_t, zi_lt_f, zi_eq_t, zi_eq_f, nI_leI, nI_ltI, nI_eq, z_in, pk_mul, zu_same, zu_rw, zu_ix, zi_ne0, zi_sub, zi_m1, Nat.add_sub_cancel, Nat.reduceMul, Nat.reduceSub, c2]) (by simp (disch := omega) only [List.getElem?_cons_zero, List.getElem?_cons_succ, List.set_cons_zero, List.set_cons_succ, List.drop_succ_cons, List.drop_zero, List.take_succ_cons, List.take_zero, List.length_cons, List.length_nil, List.reverse_cons, List.reverse_nil, List.nil_append, List.cons_append, Option.toList_some, Option.toList_none, va_rf_s, true_and, and_true, true_implies, false_implies, not_true_eq_false, not_false_eq_true, Nat.reduceAdd, Nat.reduceLeDiff, Nat.le_add_left, Nat.zero_le, Nat.le_refl, znew, true_or, or_true, b01_t, b01_f, b01_ok, bool_ft, vp_b01, vp_b0, vp_b1, b01_eq0, b01_eq1, implies_true, nI_add, nI_clamp, zi_in, zi_le_t, zi_le_f, zi_lt_t, zi_lt_f, zi_eq_t, zi_eq_f, nI_leI, nI_ltI, nI_eq, z_in, pk_mul, zu_same, zu_rw, zu_ix, zi_ne0, zi_sub, zi_m1, Nat.add_sub_cancel, Nat.reduceMul, Nat.reduceSub, ]) (by simp (disch := omega) only [List.getElem?_cons_zero, List.getElem?_cons_succ, List.set_cons_zero, List.set_cons_succ, List.drop_succ_cons, List.drop_zero, List.take_succ_cons, List.take_zero, List.length_cons, List.length_nil, List.reverse_cons, List.reverse_nil, List.nil_append, List.cons_append, Option.toList_some, Option.toList_none, va_rf_s, true_and, and_true, true_implies, false_implies, not_true_eq_false, not_false_eq_true, Nat.reduceAdd, Nat.reduceLeDiff, Nat.le_add_left, Nat.zero_le, Nat.le_refl, znew, true_or, or_true, b01_t, b01_f, b01_ok, bool_ft, vp_b01, vp_b0, vp_b1, b01_eq0, b01_eq1, implies_true, nI_add, nI_clamp, zi_in, zi_le_t, zi_le_f, zi_lt_t, zi_lt_f, zi_eq_t, zi_eq_f, nI_leI, nI_ltI, nI_eq, z_in, pk_mul, zu_same, zu_rw, zu_ix, zi_ne0, zi_sub, zi_m1, Nat.add_sub_cancel, Nat.reduceMul, Nat.reduceSub, ]) (g := withinF (R (6 + y) - coolNowF ag te lw R y) (nI 0) (nI 999) / nI 2) (by rw [if_pos hd]) (fun j => ?_) fin
      by_cases h1 : j = 6 + y
      · subst h1; rw [if_pos rfl, zu_same]
      · rw [if_neg h1, zu_ix _ _ h1, zu_ix _ _ h1]
    · refine zX10_hour_e hM (by omega) (hf.row (by decide) (by decide)) hr (by simp (disch := omega) only [List.getElem?_cons_zero, List.getElem?_cons_succ, List.set_cons_zero, List.set_cons_succ, List.drop_succ_cons, List.drop_zero, List.take_succ_cons, List.take_zero, List.length_cons, List.length_nil, List.reverse_cons, List.reverse_nil, List.nil_append, List.cons_append, Option.toList_some, Option.toList_none, va_rf_s, true_and, and_true, true_implies, false_implies, not_true_eq_false, not_false_eq_true, Nat.reduceAdd, Nat.reduceLeDiff, Nat.le_add_left, Nat.zero_le, Nat.le_refl, znew, true_or, or_true, b01_t, b01_f, b01_ok, bool_ft, vp_b01, vp_b0, vp_b1, b01_eq0, b01_eq1, implies_true, nI_add, nI_clamp, zi_in, zi_le_t, zi_le_f, zi_lt_t, zi_lt_f, zi_eq_t, zi_eq_f, nI_leI, nI_ltI, nI_eq, z_in, pk_mul, zu_same, zu_rw, zu_ix, zi_ne0, zi_sub, zi_m1, Nat.add_sub_cancel, Nat.reduceMul, Nat.reduceSub, c2]) (by simp (disch := omega) only [List.getElem?_cons_zero, List.getElem?_cons_succ, List.set_cons_zero, List.set_cons_succ, List.drop_succ_cons, List.drop_zero, List.take_succ_cons, List.take_zero, List.length_cons, List.length_nil, List.reverse_cons, List.reverse_nil, List.nil_append, List.cons_append, Option.toList_some, Option.toList_none, va_rf_s, true_and, and_true, true_implies, false_implies, not_true_eq_false, not_false_eq_true, Nat.reduceAdd, Nat.reduceLeDiff, Nat.le_add_left, Nat.zero_le, Nat.le_refl, znew, true_or, or_true, b01_t, b01_f, b01_ok, bool_ft, vp_b01, vp_b0, vp_b1, b01_eq0, b01_eq1, implies_true, nI_add, nI_clamp, zi_in, zi_le_t, zi_le_f, zi_lt_t, zi_lt_f, zi_eq_t, zi_eq_f, nI_leI, nI_ltI, nI_eq, z_in, pk_mul, zu_same, zu_rw, zu_ix, zi_ne0, zi_sub, zi_m1, Nat.add_sub_cancel, Nat.reduceMul, Nat.reduceSub, ]) (by simp (disch := omega) only [List.getElem?_cons_zero, List.getElem?_cons_succ, List.set_cons_zero, List.set_cons_succ, List.drop_succ_cons, List.drop_zero, List.take_succ_cons, List.take_zero, List.length_cons, List.length_nil, List.reverse_cons, List.reverse_nil, List.nil_append, List.cons_append, Option.toList_some, Option.toList_none, va_rf_s, true_and, and_true, true_implies, false_implies, not_true_eq_false, not_false_eq_true, Nat.reduceAdd, Nat.reduceLeDiff, Nat.le_add_left, Nat.zero_le, Nat.le_refl, znew, true_or, or_true, b01_t, b01_f, b01_ok, bool_ft, vp_b01, vp_b0, vp_b1, b01_eq0, b01_eq1, implies_true, nI_add, nI_clamp, zi_in, zi_le_t, zi_le_f, zi_lt_t, zi_lt_f, zi_eq_t, zi_eq_f, nI_leI, nI_ltI, nI_eq, z_in, pk_mul, zu_same, zu_rw, zu_ix, zi_ne0, zi_sub, zi_m1, Nat.add_sub_cancel, Nat.reduceMul, Nat.reduceSub, ]) (g := withinF (R (6 + y) - coolNowF ag te lw R y) (nI 0) (nI 999)) (by rw [if_neg hd]) (fun j => ?_) fin
      by_cases h1 : j = 6 + y
      · subst h1; rw [if_pos rfl, zu_same]
      · rw [if_neg h1, zu_ix _ _ h1]
theorem zX10_hour_1e {V : zV} (hM : isM h b) (hT : mT b S lv nc ns ny nw) (hL : mL b S lv lw) (hA : mA b S lv ny ag te) (hVd : V.2.2.1 = 3) {R : Nat → Int32} (hR : S (b + 37) = R) {y : Nat} (hy : y < ny) {S1 : Nat → Nat → Int32} (hf1 : zfr [34, 35, 38, 39] [52] b S S1)
    (fin : ∀ S'', zfr [34, 35, 38, 39] [52] b S S'' → S'' (b + 38) = S1 (b + 38) → (∀ j, S'' (b + 39) j = if j = y then b01 (leavesF ag te lw R y) else S1 (b + 39) j) → zW V YX10_hourGoes 2 [some (.ref b), some (.int (nI (y + 1))), none] [] (z, h, S'', L) 0 0) :
    zC V YX10_doesLeave [.ref b, .int (nI y)] (z, h, S1, L) 0 0 (fun v X' k' n' => zW V YX10_hourGoes 52 [some (.ref b), some (.int (nI y)), none] (v.toList ++ [.int (nI y), .ref (b + 39)]) X' k' n') (zOut V [some (.ref b), some (.int (nI y)), none]) := by
  have hny6 : ny ≤ 6 := hT.2.2.2.1.2
  refine zC.of0 (zX10_doesLeave hM (hT.fr hf1 rfl rfl) (hL.fr hf1 rfl) (hA.fr hf1 rfl rfl) hy) (by omega) (Nat.zero_le _) (Nat.zero_le _) ?_
  rintro _ _ ⟨S2, rfl, hf2, rfl⟩
  rw [hf1.at (o := 37) rfl rfl, hR]
  refine sX10_hourGoes_52 _ _ _ _ _ ?_
  simp (disch := omega) only [oAst1, oInc, oNop, hM.t58, hM.n58, List.getElem?_cons_zero, List.getElem?_cons_succ, List.set_cons_zero, List.set_cons_succ, List.drop_succ_cons, List.drop_zero, List.take_succ_cons, List.take_zero, List.length_cons, List.length_nil, List.reverse_cons, List.reverse_nil, List.nil_append, List.cons_append, Option.toList_some, Option.toList_none, va_rf_s, true_and, and_true, true_implies, false_implies, not_true_eq_false, not_false_eq_true, Nat.reduceAdd, Nat.reduceLeDiff, Nat.le_add_left, Nat.zero_le, Nat.le_refl, znew, true_or, or_true, b01_t, b01_f, b01_ok, bool_ft, vp_b01, vp_b0, vp_b1, b01_eq0, b01_eq1, implies_true, nI_add, nI_clamp, zi_in, zi_le_t, zi_le_f, zi_lt_t, zi_lt_f, zi_eq_t, zi_eq_f, nI_leI, nI_ltI, nI_eq, z_in, pk_mul, zu_same, zu_rw, zu_ix, zi_ne0, zi_sub, zi_m1, Nat.add_sub_cancel, Nat.reduceMul, Nat.reduceSub]
  refine fin _ ((hf1.tr hf2 rfl rfl rfl rfl).row (by decide) (by decide)) ?_ (fun j => ?_)
  · simp (disch := omega) only [List.getElem?_cons_zero, List.getElem?_cons_succ, List.set_cons_zero, List.set_cons_succ, List.drop_succ_cons, List.drop_zero, List.take_succ_cons, List.take_zero, List.length_cons, List.length_nil, List.reverse_cons, List.reverse_nil, List.nil_append, List.cons_append, Option.toList_some, Option.toList_none, va_rf_s, true_and, and_true, true_implies, false_implies, not_true_eq_false, not_false_eq_true, Nat.reduceAdd, Nat.reduceLeDiff, Nat.le_add_left, Nat.zero_le, Nat.le_refl, znew, true_or, or_true, b01_t, b01_f, b01_ok, bool_ft, vp_b01, vp_b0, vp_b1, b01_eq0, b01_eq1, implies_true, nI_add, nI_clamp, zi_in, zi_le_t, zi_le_f, zi_lt_t, zi_lt_f, zi_eq_t, zi_eq_f, nI_leI, nI_ltI, nI_eq, z_in, pk_mul, zu_same, zu_rw, zu_ix, zi_ne0, zi_sub, zi_m1, Nat.add_sub_cancel, Nat.reduceMul, Nat.reduceSub, ]
    exact hf2.at (o := 38) rfl rfl
  · by_cases hj : j = y
    · subst hj; rw [if_pos rfl, zu_same]
    · rw [if_neg hj, zu_ix _ _ hj, hf2.at (o := 39) rfl rfl]
theorem zX10_hour_1 {V : zV} (hM : isM h b) (hT : mT b S lv nc ns ny nw) (hL : mL b S lv lw) (hA : mA b S lv ny ag te) (hVd : V.2.2.1 = 3) {R : Nat → Int32} (hR : S (b + 37) = R)
    (hQ : ∀ S' dy, zfr [34, 35, 38, 39] [52] b S S' → dy = draftyF R (S b 55) (S b 56) nc (S (b + 22) lv) → (∀ j, j < ny → S' (b + 38) j = coolNowF ag te lw R j ∧ S' (b + 39) j = b01 (leavesF ag te lw R j)) → zW V YX10_hourGoes 116 [some (.ref b), some (.int dy), some (.int (nI 0))] [] (z, h, S', L) 0 0) :
    ∀ y, y ≤ ny → ∀ S', zfr [34, 35, 38, 39] [52] b S S' → (∀ j, j < y → S' (b + 38) j = coolNowF ag te lw R j ∧ S' (b + 39) j = b01 (leavesF ag te lw R j)) → zW V YX10_hourGoes 2 [some (.ref b), some (.int (nI y)), none] [] (z, h, S', L) 0 0 := by
  obtain ⟨⟨hl, hlv⟩, ⟨hnc, hnc7⟩, -, ⟨hny, hny6⟩, -⟩ := id hT
  refine z_down ?_ (fun y hy ih => ?_)
  · intro S' hf hcl
    have e37 := (hf.at (o := 37) rfl rfl).trans hR
    refine sX10_hourGoes_2 _ _ _ _ _ ?_
    simp (disch := omega) only [oAld, oAld1, oAst1, oBin, oCV, oGI, oGR, oIf, oIfc, oIld, oIst, oPush, hM.1, hM.r28, hM.t28, hM.n28, hM.r23, hM.t23, hM.n23, hM.r57, hM.t57, hM.n57, hM.r54, hM.t54, hM.n54, hM.r58, hM.t58, hM.n58, hf.at (o := 15) rfl rfl, hf.at (o := 10) rfl rfl, hf.f (j := 18) rfl, hf.f (j := 56) rfl, hl, hny, hnc, List.getElem?_cons_zero, List.getElem?_cons_succ, List.set_cons_zero, List.set_cons_succ, List.drop_succ_cons, List.drop_zero, List.take_succ_cons, List.take_zero, List.length_cons, List.length_nil, List.reverse_cons, List.reverse_nil, List.nil_append, List.cons_append, Option.toList_some, Option.toList_none, va_rf_s, true_and, and_true, true_implies, false_implies, not_true_eq_false, not_false_eq_true, Nat.reduceAdd, Nat.reduceLeDiff, Nat.le_add_left, Nat.zero_le, Nat.le_refl, znew, true_or, or_true, b01_t, b01_f, b01_ok, bool_ft, vp_b01, vp_b0, vp_b1, b01_eq0, b01_eq1, implies_true, nI_add, nI_clamp, zi_in, zi_le_t, zi_le_f, zi_lt_t, zi_lt_f, zi_eq_t, zi_eq_f, nI_leI, nI_ltI, nI_eq, z_in, pk_mul, zu_same, zu_rw, zu_ix, zi_ne0, zi_sub, zi_m1, Nat.add_sub_cancel, Nat.reduceMul, Nat.reduceSub]
    refine ⟨fun h56 => ⟨fun hn0 => hQ _ _ hf ?_ hcl, fun hn0 => ?_⟩, fun h56 => hQ _ _ hf ?_ hcl⟩
    · rw [draftyF, if_neg (by omega)]
    · refine zC.of0 (zX10_isDraught hM (hT.fr hf rfl rfl)) (by omega) (Nat.zero_le _) (Nat.zero_le _) ?_
      rintro _ _ ⟨dr, rfl, hdr, rfl⟩
      rw [hf.f (j := 55) rfl, hf.at (o := 22) rfl rfl, e37] at hdr
      refine sX10_hourGoes_82 _ _ _ _ _ ?_
      simp (disch := omega) only [oAld, oAld1, oBin, oCV, oGI, oGR, oIf, oIst, oPush, hM.1, hM.r54, hM.t54, hM.n54, hM.r23, hM.t23, hM.n23, hf.at (o := 10) rfl rfl, hf.f (j := 18) rfl, hl, hnc, e37, List.getElem?_cons_zero, List.getElem?_cons_succ, List.set_cons_zero, List.set_cons_succ, List.drop_succ_cons, List.drop_zero, List.take_succ_cons, List.take_zero, List.length_cons, List.length_nil, List.reverse_cons, List.reverse_nil, List.nil_append, List.cons_append, Option.toList_some, Option.toList_none, va_rf_s, true_and, and_true, true_implies, false_implies, not_true_eq_false, not_false_eq_true, Nat.reduceAdd, Nat.reduceLeDiff, Nat.le_add_left, Nat.zero_le, Nat.le_refl, znew, true_or, or_true, b01_t, b01_f, b01_ok, bool_ft, vp_b01, vp_b0, vp_b1, b01_eq0, b01_eq1, implies_true, nI_add, nI_clamp, zi_in, zi_le_t, zi_le_f, zi_lt_t, zi_lt_f, zi_eq_t, zi_eq_f, nI_leI, nI_ltI, nI_eq, z_in, pk_mul, zu_same, zu_rw, zu_ix, zi_ne0, zi_sub, zi_m1, Nat.add_sub_cancel, Nat.reduceMul, Nat.reduceSub]
      refine ⟨fun hd => hQ _ _ hf ?_ hcl, fun hd => ?_⟩
      · rw [draftyF, if_neg (fun q => by rw [hdr.mpr q.2.2] at hd; cases hd)]
      · refine zC.of0 (zX10_lotOf hM _ (by omega) (by omega)) (by omega) (Nat.zero_le _) (Nat.zero_le _) ?_
        rintro _ _ ⟨lo, rfl, hlo, rfl⟩
        refine sX10_hourGoes_109 _ _ _ _ _ ?_
        simp (disch := omega) only [oIst, oNop, oPush, List.getElem?_cons_zero, List.getElem?_cons_succ, List.set_cons_zero, List.set_cons_succ, List.drop_succ_cons, List.drop_zero, List.take_succ_cons, List.take_zero, List.length_cons, List.length_nil, List.reverse_cons, List.reverse_nil, List.nil_append, List.cons_append, Option.toList_some, Option.toList_none, va_rf_s, true_and, and_true, true_implies, false_implies, not_true_eq_false, not_false_eq_true, Nat.reduceAdd, Nat.reduceLeDiff, Nat.le_add_left, Nat.zero_le, Nat.le_refl, znew, true_or, or_true, b01_t, b01_f, b01_ok, bool_ft, vp_b01, vp_b0, vp_b1, b01_eq0, b01_eq1, implies_true, nI_add, nI_clamp, zi_in, zi_le_t, zi_le_f, zi_lt_t, zi_lt_f, zi_eq_t, zi_eq_f, nI_leI, nI_ltI, nI_eq, z_in, pk_mul, zu_same, zu_rw, zu_ix, zi_ne0, zi_sub, zi_m1, Nat.add_sub_cancel, Nat.reduceMul, Nat.reduceSub]
        have hd1 : dr = true := by simpa using hd
        rw [hf.f (j := 55) rfl] at hlo
        exact hQ _ _ hf (by rw [draftyF, if_pos ⟨h56, by omega, hdr.mp hd1⟩, hlo]) hcl
    · rw [draftyF, if_neg (fun q => h56 q.1)]
  · intro S' hf hcl
    have e37 := (hf.at (o := 37) rfl rfl).trans hR
    have fin : ∀ S1 : Nat → Nat → Int32, (∀ j, S1 (b + 38) j = if j = y then coolNowF ag te lw R y else S' (b + 38) j) → S1 (b + 39) = S' (b + 39) → ∀ S'' : Nat → Nat → Int32, zfr [34, 35, 38, 39] [52] b S S'' → S'' (b + 38) = S1 (b + 38) → (∀ j, S'' (b + 39) j = if j = y then b01 (leavesF ag te lw R y) else S1 (b + 39) j) → zW V YX10_hourGoes 2 [some (.ref b), some (.int (nI (y + 1))), none] [] (z, h, S'', L) 0 0 := by
      intro S1 h38 h39 S'' hf2 g38 g39
      refine ih S'' hf2 (fun j hj => ?_)
      rw [g38, h38, g39, h39]
      by_cases hjy : j = y
      · subst hjy; rw [if_pos rfl, if_pos rfl]; exact ⟨rfl, rfl⟩
      · rw [if_neg hjy, if_neg hjy]; exact hcl j (by omega)
    refine sX10_hourGoes_2 _ _ _ _ _ ?_
    simp (disch := omega) only [oAld, oAld1, oAst1, oBin, oCV, oGI, oGR, oIf, oIfc, oIld, oIst, oPush, hM.1, hM.r28, hM.t28, hM.n28, hM.r23, hM.t23, hM.n23, hM.r57, hM.t57, hM.n57, hM.r54, hM.t54, hM.n54, hM.r58, hM.t58, hM.n58, hf.at (o := 15) rfl rfl, hf.f (j := 18) rfl, hl, hny, e37, List.getElem?_cons_zero, List.getElem?_cons_succ, List.set_cons_zero, List.set_cons_succ, List.drop_succ_cons, List.drop_zero, List.take_succ_cons, List.take_zero, List.length_cons, List.length_nil, List.reverse_cons, List.reverse_nil, List.nil_append, List.cons_append, Option.toList_some, Option.toList_none, va_rf_s, true_and, and_true, true_implies, false_implies, not_true_eq_false, not_false_eq_true, Nat.reduceAdd, Nat.reduceLeDiff, Nat.le_add_left, Nat.zero_le, Nat.le_refl, znew, true_or, or_true, b01_t, b01_f, b01_ok, bool_ft, vp_b01, vp_b0, vp_b1, b01_eq0, b01_eq1, implies_true, nI_add, nI_clamp, zi_in, zi_le_t, zi_le_f, zi_lt_t, zi_lt_f, zi_eq_t, zi_eq_f, nI_leI, nI_ltI, nI_eq, z_in, pk_mul, zu_same, zu_rw, zu_ix, zi_ne0, zi_sub, zi_m1, Nat.add_sub_cancel, Nat.reduceMul, Nat.reduceSub]
    refine ⟨fun h12 => ?_, fun h12 => ?_⟩
    · refine zC.of0 (zX10_coolsOf hM (hT.fr hf rfl rfl) (hL.fr hf rfl) (hA.fr hf rfl rfl) hy) (by omega) (Nat.zero_le _) (Nat.zero_le _) ?_
      rintro _ _ ⟨S1, rfl, hf1, rfl⟩
      rw [e37]
      have hf1' : zfr [34, 35, 38, 39] [52] b S S1 := hf.tr hf1 rfl rfl rfl rfl
      refine sX10_hourGoes_37 _ _ _ _ _ ?_
      simp (disch := omega) only [oAld, oAst1, oCV, oGR, oIld, oNop, hM.1, hM.r58, hM.t58, hM.n58, hM.t57, hM.n57, List.getElem?_cons_zero, List.getElem?_cons_succ, List.set_cons_zero, List.set_cons_succ, List.drop_succ_cons, List.drop_zero, List.take_succ_cons, List.take_zero, List.length_cons, List.length_nil, List.reverse_cons, List.reverse_nil, List.nil_append, List.cons_append, Option.toList_some, Option.toList_none, va_rf_s, true_and, and_true, true_implies, false_implies, not_true_eq_false, not_false_eq_true, Nat.reduceAdd, Nat.reduceLeDiff, Nat.le_add_left, Nat.zero_le, Nat.le_refl, znew, true_or, or_true, b01_t, b01_f, b01_ok, bool_ft, vp_b01, vp_b0, vp_b1, b01_eq0, b01_eq1, implies_true, nI_add, nI_clamp, zi_in, zi_le_t, zi_le_f, zi_lt_t, zi_lt_f, zi_eq_t, zi_eq_f, nI_leI, nI_ltI, nI_eq, z_in, pk_mul, zu_same, zu_rw, zu_ix, zi_ne0, zi_sub, zi_m1, Nat.add_sub_cancel, Nat.reduceMul, Nat.reduceSub]
      refine zX10_hour_1e hM hT hL hA hVd hR hy (hf1'.row (by decide) (by decide)) (fin _ (fun j => ?_) ?_)
      · by_cases hj : j = y
        · subst hj; rw [if_pos rfl, zu_same, coolNowF, if_pos h12]
        · rw [if_neg hj, zu_ix _ _ hj, hf1.at (o := 38) rfl rfl]
      · simp (disch := omega) only [List.getElem?_cons_zero, List.getElem?_cons_succ, List.set_cons_zero, List.set_cons_succ, List.drop_succ_cons, List.drop_zero, List.take_succ_cons, List.take_zero, List.length_cons, List.length_nil, List.reverse_cons, List.reverse_nil, List.nil_append, List.cons_append, Option.toList_some, Option.toList_none, va_rf_s, true_and, and_true, true_implies, false_implies, not_true_eq_false, not_false_eq_true, Nat.reduceAdd, Nat.reduceLeDiff, Nat.le_add_left, Nat.zero_le, Nat.le_refl, znew, true_or, or_true, b01_t, b01_f, b01_ok, bool_ft, vp_b01, vp_b0, vp_b1, b01_eq0, b01_eq1, implies_true, nI_add, nI_clamp, zi_in, zi_le_t, zi_le_f, zi_lt_t, zi_lt_f, zi_eq_t, zi_eq_f, nI_leI, nI_ltI, nI_eq, z_in, pk_mul, zu_same, zu_rw, zu_ix, zi_ne0, zi_sub, zi_m1, Nat.add_sub_cancel, Nat.reduceMul, Nat.reduceSub, ]
        exact hf1.at (o := 39) rfl rfl
    · refine zX10_hour_1e hM hT hL hA hVd hR hy (hf.row (by decide) (by decide)) (fin _ (fun j => ?_) ?_)
      · by_cases hj : j = y
        · subst hj; rw [if_pos rfl, zu_same, coolNowF, if_neg h12]
        · rw [if_neg hj, zu_ix _ _ hj]
      · simp (disch := omega) only [List.getElem?_cons_zero, List.getElem?_cons_succ, List.set_cons_zero, List.set_cons_succ, List.drop_succ_cons, List.drop_zero, List.take_succ_cons, List.take_zero, List.length_cons, List.length_nil, List.reverse_cons, List.reverse_nil, List.nil_append, List.cons_append, Option.toList_some, Option.toList_none, va_rf_s, true_and, and_true, true_implies, false_implies, not_true_eq_false, not_false_eq_true, Nat.reduceAdd, Nat.reduceLeDiff, Nat.le_add_left, Nat.zero_le, Nat.le_refl, znew, true_or, or_true, b01_t, b01_f, b01_ok, bool_ft, vp_b01, vp_b0, vp_b1, b01_eq0, b01_eq1, implies_true, nI_add, nI_clamp, zi_in, zi_le_t, zi_le_f, zi_lt_t, zi_lt_f, zi_eq_t, zi_eq_f, nI_leI, nI_ltI, nI_eq, z_in, pk_mul, zu_same, zu_rw, zu_ix, zi_ne0, zi_sub, zi_m1, Nat.add_sub_cancel, Nat.reduceMul, Nat.reduceSub, ]
theorem zX10_hourGoes (hM : isM h b) (hT : mT b S lv nc ns ny nw) (hL : mL b S lv lw) (hA : mA b S lv ny ag te) :
    zM l E 3 YX10_hourGoes [.ref b] (z, h, S, L) 0 0 (fun r X => r = none ∧ ∃ S', X = (z, h, S', L) ∧ zfr [34, 35, 37, 38, 39] [52] b S S' ∧ S' (b + 37) = hourF ag te lw (S (b + 37)) (S b 55) (S b 56) nc ny (S (b + 22) lv)) (fun _ _ => False) := by
  refine zM.go rfl rfl (Nat.le_of_ble_eq_true rfl) (ls := [some (.ref b), none, none]) rfl ?_
  intro V hVl hVE hVd hVc hVs hVQ hVX
  refine sX10_hourGoes_0 _ _ _ _ _ ?_
  simp (disch := omega) only [oIst, oPush, List.getElem?_cons_zero, List.getElem?_cons_succ, List.set_cons_zero, List.set_cons_succ, List.drop_succ_cons, List.drop_zero, List.take_succ_cons, List.take_zero, List.length_cons, List.length_nil, List.reverse_cons, List.reverse_nil, List.nil_append, List.cons_append, Option.toList_some, Option.toList_none, va_rf_s, true_and, and_true, true_implies, false_implies, not_true_eq_false, not_false_eq_true, Nat.reduceAdd, Nat.reduceLeDiff, Nat.le_add_left, Nat.zero_le, Nat.le_refl, znew, true_or, or_true, b01_t, b01_f, b01_ok, bool_ft, vp_b01, vp_b0, vp_b1, b01_eq0, b01_eq1, implies_true, nI_add, nI_clamp, zi_in, zi_le_t, zi_le_f, zi_lt_t, zi_lt_f, zi_eq_t, zi_eq_f, nI_leI, nI_ltI, nI_eq, z_in, pk_mul, zu_same, zu_rw, zu_ix, zi_ne0, zi_sub, zi_m1, Nat.add_sub_cancel, Nat.reduceMul, Nat.reduceSub]
  refine zX10_hour_1 hM hT hL hA hVd rfl (fun S' dy hf hdy hcl => ?_) 0 (by omega) S zfr.rf (fun j hj => absurd hj (by omega))
  refine zX10_hour_2 hM hT hVd (ag := ag) (te := te) (R := S (b + 37)) (fun S'' h1 h2 => hVQ _ _ ⟨rfl, S'', rfl, h1, ?_⟩) 0 (by omega) S' (hf.tr zfr.rf rfl rfl (D' := []) (F' := []) rfl rfl) (by rw [hourK_0]; exact hf.at (o := 37) rfl rfl) hcl
  rw [h2, hdy]
  rfl
end ME
