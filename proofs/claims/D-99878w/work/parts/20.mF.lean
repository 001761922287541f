/-! the model's methods, F: hours in a row, light, streets -/
section Spec3
/-- n hours -/
def hoursF (ag te : Nat → Int32) (lw : Nat → List zBr3) (lots still : Int32) (nc ny : Nat) (dr : Int32) : Nat → (Nat → Int32) → (Nat → Int32)
  | 0, R => R
  | n + 1, R => hourF ag te lw (hoursF ag te lw lots still nc ny dr n R) lots still nc ny dr
def needF (lo l1 l2 : Int32) : Int32 := if nI 0 ≤ lo - l1 - l2 then lo - l1 - l2 else nI 0
def bitF (s : Nat) : Int32 := nI 1 <<< (nI s &&& 31)
/-- the set of those below n with p, as bits -/
def setF (p : Nat → Bool) : Nat → Int32
  | 0 => nI 0
  | n + 1 => if p n = true then setF p n ||| bitF n else setF p n
theorem setF_t {p : Nat → Bool} {n : Nat} (h : p n = true) : setF p (n + 1) = setF p n ||| bitF n := by rw [setF, if_pos h]
theorem setF_f {p : Nat → Bool} {n : Nat} (h : ¬ p n = true) : setF p (n + 1) = setF p n := by rw [setF, if_neg h]
def mS (b : Nat) (S : Nat → Nat → Int32) (lv nc ns : Nat) (one oth : Nat → Nat) : Prop := ∀ s, s < ns → (S (b + 12) (10 * lv + s) = nI (one s) ∧ one s < nc) ∧ (S (b + 13) (10 * lv + s) = nI (oth s) ∧ oth s < nc) ∧ one s ≠ oth s
theorem mS.fr {b lv nc ns : Nat} {S S' : Nat → Nat → Int32} {one oth : Nat → Nat} {D F : List Nat} (h : mS b S lv nc ns one oth) (hf : zfr D F b S S') (h1 : D.all (fun x => !(x == 12)) = true) (h2 : D.all (fun x => !(x == 13)) = true) : mS b S' lv nc ns one oth := by
  intro s hs
  rw [hf.at h1 rfl, hf.at h2 rfl]
  exact h s hs
end Spec3
theorem i_shl0 (x : Int32) : nI 0 <<< x = nI 0 := by
  show (0 : Int32) <<< x = 0
  first | exact Int32.zero_shiftLeft | simp
theorem i_or0 (x : Int32) : x ||| nI 0 = x := by
  show x ||| (0 : Int32) = x
  first | exact Int32.or_zero | simp
section MF
variable {l : Launch} {E : zE} {b z : Nat} {h : Nat → Option zSh} {S : Nat → Nat → Int32} {L : Nat → Nat → Int64} {lv nc ns ny nw : Nat} {lw : Nat → List zBr3} {one oth : Nat → Nat} {ag te : Nat → Int32}
theorem zX10_goes (hM : isM h b) (hT : mT b S lv nc ns ny nw) (hL : mL b S lv lw) (hA : mA b S lv ny ag te) {m : Nat} (hm : m ≤ 1000) :
    zM l E 4 YX10_goes [.ref b, .int (nI m)] (z, h, S, L) 0 0 (fun r X => r = none ∧ ∃ S', X = (z, h, S', L) ∧ zfr [34, 35, 37, 38, 39] [52] b S S' ∧ S' (b + 37) = hoursF ag te lw (S b 55) (S b 56) nc ny (S (b + 22) lv) m (S (b + 37))) (fun _ _ => False) := by
  refine zM.go rfl rfl (Nat.le_of_ble_eq_true rfl) (ls := [some (.ref b), some (.int (nI m)), none]) rfl ?_
  intro V hVl hVE hVd hVc hVs hVQ hVX
  have loop : ∀ y, y ≤ m → ∀ S', zfr [34, 35, 37, 38, 39] [52] b S S' → S' (b + 37) = hoursF ag te lw (S b 55) (S b 56) nc ny (S (b + 22) lv) y (S (b + 37)) → zW V YX10_goes 2 [some (.ref b), some (.int (nI m)), some (.int (nI y))] [] (z, h, S', L) 0 0 := by
    refine z_down ?_ (fun y hy ih => ?_)
    · intro S' hf hr
      refine sX10_goes_2 _ _ _ _ _ ?_
      simp (disch := omega) only [oAld, oCV, oIfc, oIld, oRV, hM.1, List.getElem?_cons_zero, List.getElem?_cons_succ, List.set_cons_zero, List.set_cons_succ, List.drop_succ_cons, List.drop_zero, List.take_succ_cons, List.take_zero, List.length_cons, List.length_nil, List.reverse_cons, List.reverse_nil, List.nil_append, List.cons_append, Option.toList_some, Option.toList_none, va_rf_s, true_and, and_true, true_implies, false_implies, not_true_eq_false, not_false_eq_true, Nat.reduceAdd, Nat.reduceLeDiff, Nat.le_add_left, Nat.zero_le, Nat.le_refl, znew, true_or, or_true, b01_t, b01_f, b01_ok, bool_ft, vp_b01, vp_b0, vp_b1, b01_eq0, b01_eq1, implies_true, nI_add, nI_clamp, zi_in, zi_le_t, zi_le_f, zi_lt_t, zi_lt_f, zi_eq_t, zi_eq_f, nI_leI, nI_ltI, nI_eq, z_in, pk_mul, zu_same, zu_rw, zu_ix, zi_ne0, zi_sub, zi_m1, Nat.add_sub_cancel, Nat.reduceMul, Nat.reduceSub]
      exact hVQ _ _ ⟨rfl, S', rfl, hf, hr⟩
    · intro S' hf hr
      refine sX10_goes_2 _ _ _ _ _ ?_
      simp (disch := omega) only [oAld, oCV, oIfc, oIld, oRV, hM.1, List.getElem?_cons_zero, List.getElem?_cons_succ, List.set_cons_zero, List.set_cons_succ, List.drop_succ_cons, List.drop_zero, List.take_succ_cons, List.take_zero, List.length_cons, List.length_nil, List.reverse_cons, List.reverse_nil, List.nil_append, List.cons_append, Option.toList_some, Option.toList_none, va_rf_s, true_and, and_true, true_implies, false_implies, not_true_eq_false, not_false_eq_true, Nat.reduceAdd, Nat.reduceLeDiff, Nat.le_add_left, Nat.zero_le, Nat.le_refl, znew, true_or, or_true, b01_t, b01_f, b01_ok, bool_ft, vp_b01, vp_b0, vp_b1, b01_eq0, b01_eq1, implies_true, nI_add, nI_clamp, zi_in, zi_le_t, zi_le_f, zi_lt_t, zi_lt_f, zi_eq_t, zi_eq_f, nI_leI, nI_ltI, nI_eq, z_in, pk_mul, zu_same, zu_rw, zu_ix, zi_ne0, zi_sub, zi_m1, Nat.add_sub_cancel, Nat.reduceMul, Nat.reduceSub]
      refine zC.of0 (zX10_hourGoes hM (hT.fr hf rfl rfl) (hL.fr hf rfl) (hA.fr hf rfl rfl)) (by omega) (Nat.zero_le _) (Nat.zero_le _) ?_
      rintro _ _ ⟨rfl, S1, rfl, hf1, hr1⟩
      refine sX10_goes_11 _ _ _ _ _ ?_
      simp (disch := omega) only [oInc, oNop, List.getElem?_cons_zero, List.getElem?_cons_succ, List.set_cons_zero, List.set_cons_succ, List.drop_succ_cons, List.drop_zero, List.take_succ_cons, List.take_zero, List.length_cons, List.length_nil, List.reverse_cons, List.reverse_nil, List.nil_append, List.cons_append, Option.toList_some, Option.toList_none, va_rf_s, true_and, and_true, true_implies, false_implies, not_true_eq_false, not_false_eq_true, Nat.reduceAdd, Nat.reduceLeDiff, Nat.le_add_left, Nat.zero_le, Nat.le_refl, znew, true_or, or_true, b01_t, b01_f, b01_ok, bool_ft, vp_b01, vp_b0, vp_b1, b01_eq0, b01_eq1, implies_true, nI_add, nI_clamp, zi_in, zi_le_t, zi_le_f, zi_lt_t, zi_lt_f, zi_eq_t, zi_eq_f, nI_leI, nI_ltI, nI_eq, z_in, pk_mul, zu_same, zu_rw, zu_ix, zi_ne0, zi_sub, zi_m1, Nat.add_sub_cancel, Nat.reduceMul, Nat.reduceSub]
      refine ih S1 (hf.tr hf1 rfl rfl rfl rfl) ?_
      rw [hr1, hoursF, ← hr, hf.at (o := 22) rfl rfl, hf.f (j := 55) rfl, hf.f (j := 56) rfl]
  refine sX10_goes_0 _ _ _ _ _ ?_
  simp (disch := omega) only [oIst, oPush, List.getElem?_cons_zero, List.getElem?_cons_succ, List.set_cons_zero, List.set_cons_succ, List.drop_succ_cons, List.drop_zero, List.take_succ_cons, List.take_zero, List.length_cons, List.length_nil, List.reverse_cons, List.reverse_nil, List.nil_append, List.cons_append, Option.toList_some, Option.toList_none, va_rf_s, true_and, and_true, true_implies, false_implies, not_true_eq_false, not_false_eq_true, Nat.reduceAdd, Nat.reduceLeDiff, Nat.le_add_left, Nat.zero_le, Nat.le_refl, znew, true_or, or_true, b01_t, b01_f, b01_ok, bool_ft, vp_b01, vp_b0, vp_b1, b01_eq0, b01_eq1, implies_true, nI_add, nI_clamp, zi_in, zi_le_t, zi_le_f, zi_lt_t, zi_lt_f, zi_eq_t, zi_eq_f, nI_leI, nI_ltI, nI_eq, z_in, pk_mul, zu_same, zu_rw, zu_ix, zi_ne0, zi_sub, zi_m1, Nat.add_sub_cancel, Nat.reduceMul, Nat.reduceSub]
  exact loop 0 (by omega) S zfr.rf rfl
theorem zX10_needsOf (hM : isM h b) (hT : mT b S lv nc ns ny nw) (hS : mS b S lv nc ns one oth) {s : Nat} (hs : s < ns) :
    zM l E 1 YX10_needsOf [.ref b, .int (nI s)] (z, h, S, L) 0 0 (fun r X => r = some (.int (needF (S (b + 14) (10 * lv + s)) (lightF ny (S (b + 37)) (nI (one s))) (lightF ny (S (b + 37)) (nI (oth s))))) ∧ X = (z, h, S, L)) (fun _ _ => False) := by
  obtain ⟨⟨hl, hlv⟩, -, ⟨hns, hns10⟩, -, -⟩ := id hT
  obtain ⟨⟨h1, h1'⟩, ⟨h2, h2'⟩, -⟩ := hS s hs
  refine zM.go rfl rfl (Nat.le_of_ble_eq_true rfl) (ls := [some (.ref b), some (.int (nI s)), none, none]) rfl ?_
  intro V hVl hVE hVd hVc hVs hVQ hVX
  refine sX10_needsOf_0 _ _ _ _ _ ?_
  simp (disch := omega) only [oAld, oAld1, oBin, oCV, oGI, oGR, oIld, oIst, oPush, hM.1, hM.r27, hM.t27, hM.n27, hM.r25, hM.t25, hM.n25, hl, h1, List.getElem?_cons_zero, List.getElem?_cons_succ, List.set_cons_zero, List.set_cons_succ, List.drop_succ_cons, List.drop_zero, List.take_succ_cons, List.take_zero, List.length_cons, List.length_nil, List.reverse_cons, List.reverse_nil, List.nil_append, List.cons_append, Option.toList_some, Option.toList_none, va_rf_s, true_and, and_true, true_implies, false_implies, not_true_eq_false, not_false_eq_true, Nat.reduceAdd, Nat.reduceLeDiff, Nat.le_add_left, Nat.zero_le, Nat.le_refl, znew, true_or, or_true, b01_t, b01_f, b01_ok, bool_ft, vp_b01, vp_b0, vp_b1, b01_eq0, b01_eq1, implies_true, nI_add, nI_clamp, zi_in, zi_le_t, zi_le_f, zi_lt_t, zi_lt_f, zi_eq_t, zi_eq_f, nI_leI, nI_ltI, nI_eq, z_in, pk_mul, zu_same, zu_rw, zu_ix, zi_ne0, zi_sub, zi_m1, Nat.add_sub_cancel, Nat.reduceMul, Nat.reduceSub]
  refine zC.of0 (zX10_lightAt hM hT _) (by omega) (Nat.zero_le _) (Nat.zero_le _) ?_
  rintro _ _ ⟨rfl, rfl⟩
  refine sX10_needsOf_26 _ _ _ _ _ ?_
  simp (disch := omega) only [oAld, oAld1, oBin, oCV, oGR, oIld, hM.1, hM.r26, hM.t26, hM.n26, h2, List.getElem?_cons_zero, List.getElem?_cons_succ, List.set_cons_zero, List.set_cons_succ, List.drop_succ_cons, List.drop_zero, List.take_succ_cons, List.take_zero, List.length_cons, List.length_nil, List.reverse_cons, List.reverse_nil, List.nil_append, List.cons_append, Option.toList_some, Option.toList_none, va_rf_s, true_and, and_true, true_implies, false_implies, not_true_eq_false, not_false_eq_true, Nat.reduceAdd, Nat.reduceLeDiff, Nat.le_add_left, Nat.zero_le, Nat.le_refl, znew, true_or, or_true, b01_t, b01_f, b01_ok, bool_ft, vp_b01, vp_b0, vp_b1, b01_eq0, b01_eq1, implies_true, nI_add, nI_clamp, zi_in, zi_le_t, zi_le_f, zi_lt_t, zi_lt_f, zi_eq_t, zi_eq_f, nI_leI, nI_ltI, nI_eq, z_in, pk_mul, zu_same, zu_rw, zu_ix, zi_ne0, zi_sub, zi_m1, Nat.add_sub_cancel, Nat.reduceMul, Nat.reduceSub]
  refine zC.of0 (zX10_lightAt hM hT _) (by omega) (Nat.zero_le _) (Nat.zero_le _) ?_
  rintro _ _ ⟨rfl, rfl⟩
  refine sX10_needsOf_37 _ _ _ _ _ ?_
  simp (disch := omega) only [oBin, oIf, oIld, oIst, oNop, oPush, oRI, List.getElem?_cons_zero, List.getElem?_cons_succ, List.set_cons_zero, List.set_cons_succ, List.drop_succ_cons, List.drop_zero, List.take_succ_cons, List.take_zero, List.length_cons, List.length_nil, List.reverse_cons, List.reverse_nil, List.nil_append, List.cons_append, Option.toList_some, Option.toList_none, va_rf_s, true_and, and_true, true_implies, false_implies, not_true_eq_false, not_false_eq_true, Nat.reduceAdd, Nat.reduceLeDiff, Nat.le_add_left, Nat.zero_le, Nat.le_refl, znew, true_or, or_true, b01_t, b01_f, b01_ok, bool_ft, vp_b01, vp_b0, vp_b1, b01_eq0, b01_eq1, implies_true, nI_add, nI_clamp, zi_in, zi_le_t, zi_le_f, zi_lt_t, zi_lt_f, zi_eq_t, zi_eq_f, nI_leI, nI_ltI, nI_eq, z_in, pk_mul, zu_same, zu_rw, zu_ix, zi_ne0, zi_sub, zi_m1, Nat.add_sub_cancel, Nat.reduceMul, Nat.reduceSub]
  refine ⟨fun hc => hVQ _ _ ⟨?_, rfl⟩, fun hc => hVQ _ _ ⟨?_, rfl⟩⟩
  · rw [needF, if_pos hc]
  · rw [needF, if_neg hc]
theorem zX10_outAt (hM : isM h b) (hT : mT b S lv nc ns ny nw) (c : Int32) :
    zM l E 0 YX10_outAt [.ref b, .int c] (z, h, S, L) 0 0 (fun r X => r = some (.int (setF (fun y => decide (S (b + 37) (12 + y) = nI 0) && decide (S (b + 37) y = c)) ny)) ∧ X = (z, h, S, L)) (fun _ _ => False) := by
  obtain ⟨⟨hl, hlv⟩, -, -, ⟨hny, hny6⟩, -⟩ := hT
  refine zM.go rfl rfl (Nat.le_of_ble_eq_true rfl) (ls := [some (.ref b), some (.int c), none, none]) rfl ?_
  intro V hVl hVE hVd hVc hVs hVQ hVX
  generalize hp : (fun y => decide (S (b + 37) (12 + y) = nI 0) && decide (S (b + 37) y = c)) = p at hVQ
  have loop : ∀ y, y ≤ ny → zW V YX10_outAt 4 [some (.ref b), some (.int c), some (.int (setF p y)), some (.int (nI y))] [] (z, h, S, L) 0 0 := by
    refine z_down ?_ (fun y hy ih => ?_)
    · refine sX10_outAt_4 _ _ _ _ _ ?_
      simp (disch := omega) only [oAld, oAld1, oBin, oGI, oGR, oIf, oIfc, oIld, oInc, oIst, oNop, oPush, oRI, hM.1, hM.r28, hM.t28, hM.n28, hM.r54, hM.t54, hM.n54, hl, hny, List.getElem?_cons_zero, List.getElem?_cons_succ, List.set_cons_zero, List.set_cons_succ, List.drop_succ_cons, List.drop_zero, List.take_succ_cons, List.take_zero, List.length_cons, List.length_nil, List.reverse_cons, List.reverse_nil, List.nil_append, List.cons_append, Option.toList_some, Option.toList_none, va_rf_s, true_and, and_true, true_implies, false_implies, not_true_eq_false, not_false_eq_true, Nat.reduceAdd, Nat.reduceLeDiff, Nat.le_add_left, Nat.zero_le, Nat.le_refl, znew, true_or, or_true, b01_t, b01_f, b01_ok, bool_ft, vp_b01, vp_b0, vp_b1, b01_eq0, b01_eq1, implies_true, nI_add, nI_clamp, zi_in, zi_le_t, zi_le_f, zi_lt_t, zi_lt_f, zi_eq_t, zi_eq_f, nI_leI, nI_ltI, nI_eq, z_in, pk_mul, zu_same, zu_rw, zu_ix, zi_ne0, zi_sub, zi_m1, Nat.add_sub_cancel, Nat.reduceMul, Nat.reduceSub]
      exact hVQ _ _ ⟨rfl, rfl⟩
    · have hpy : p y = (decide (S (b + 37) (12 + y) = nI 0) && decide (S (b + 37) y = c)) := by rw [← hp]
      refine sX10_outAt_4 _ _ _ _ _ ?_
      simp (disch := omega) only [oAld, oAld1, oBin, oGI, oGR, oIf, oIfc, oIld, oInc, oIst, oNop, oPush, oRI, hM.1, hM.r28, hM.t28, hM.n28, hM.r54, hM.t54, hM.n54, hl, hny, List.getElem?_cons_zero, List.getElem?_cons_succ, List.set_cons_zero, List.set_cons_succ, List.drop_succ_cons, List.drop_zero, List.take_succ_cons, List.take_zero, List.length_cons, List.length_nil, List.reverse_cons, List.reverse_nil, List.nil_append, List.cons_append, Option.toList_some, Option.toList_none, va_rf_s, true_and, and_true, true_implies, false_implies, not_true_eq_false, not_false_eq_true, Nat.reduceAdd, Nat.reduceLeDiff, Nat.le_add_left, Nat.zero_le, Nat.le_refl, znew, true_or, or_true, b01_t, b01_f, b01_ok, bool_ft, vp_b01, vp_b0, vp_b1, b01_eq0, b01_eq1, implies_true, nI_add, nI_clamp, zi_in, zi_le_t, zi_le_f, zi_lt_t, zi_lt_f, zi_eq_t, zi_eq_f, nI_leI, nI_ltI, nI_eq, z_in, pk_mul, zu_same, zu_rw, zu_ix, zi_ne0, zi_sub, zi_m1, Nat.add_sub_cancel, Nat.reduceMul, Nat.reduceSub]
      refine ⟨fun h1 => ⟨fun h2 => ?_, fun h2 => ?_⟩, fun h1 => ?_⟩
      · rw [setF_t (by rw [hpy]; simp [h1, h2])] at ih; exact ih
      · rw [setF_f (by rw [hpy]; simp [h1, h2])] at ih; exact ih
      · rw [setF_f (by rw [hpy]; simp [h1])] at ih; exact ih
  refine sX10_outAt_0 _ _ _ _ _ ?_
  simp (disch := omega) only [oIst, oPush, List.getElem?_cons_zero, List.getElem?_cons_succ, List.set_cons_zero, List.set_cons_succ, List.drop_succ_cons, List.drop_zero, List.take_succ_cons, List.take_zero, List.length_cons, List.length_nil, List.reverse_cons, List.reverse_nil, List.nil_append, List.cons_append, Option.toList_some, Option.toList_none, va_rf_s, true_and, and_true, true_implies, false_implies, not_true_eq_false, not_false_eq_true, Nat.reduceAdd, Nat.reduceLeDiff, Nat.le_add_left, Nat.zero_le, Nat.le_refl, znew, true_or, or_true, b01_t, b01_f, b01_ok, bool_ft, vp_b01, vp_b0, vp_b1, b01_eq0, b01_eq1, implies_true, nI_add, nI_clamp, zi_in, zi_le_t, zi_le_f, zi_lt_t, zi_lt_f, zi_eq_t, zi_eq_f, nI_leI, nI_ltI, nI_eq, z_in, pk_mul, zu_same, zu_rw, zu_ix, zi_ne0, zi_sub, zi_m1, Nat.add_sub_cancel, Nat.reduceMul, Nat.reduceSub]
  exact loop 0 (by omega)
theorem zX10_isEnd (hM : isM h b) (hT : mT b S lv nc ns ny nw) (hS : mS b S lv nc ns one oth) {s : Nat} (hs : s < ns) (c : Int32) :
    zM l E 0 YX10_isEnd [.ref b, .int (nI s), .int c] (z, h, S, L) 0 0 (fun r X => ∃ e : Bool, r = some (.int (b01 e)) ∧ (e = true ↔ nI (one s) = c ∨ nI (oth s) = c) ∧ X = (z, h, S, L)) (fun _ _ => False) := by
  obtain ⟨⟨hl, hlv⟩, -, ⟨hns, hns10⟩, -, -⟩ := id hT
  obtain ⟨⟨h1, h1'⟩, ⟨h2, h2'⟩, -⟩ := hS s hs
  refine zM.go rfl rfl (Nat.le_of_ble_eq_true rfl) (ls := [some (.ref b), some (.int (nI s)), some (.int c)]) rfl ?_
  intro V hVl hVE hVd hVc hVs hVQ hVX
  refine sX10_isEnd_0 _ _ _ _ _ ?_
  simp (disch := omega) only [oAld, oAld1, oBin, oGI, oGR, oIfc, oIld, oNop, oPush, oRZ, hM.1, hM.r25, hM.t25, hM.n25, hM.r26, hM.t26, hM.n26, hl, h1, h2, List.getElem?_cons_zero, List.getElem?_cons_succ, List.set_cons_zero, List.set_cons_succ, List.drop_succ_cons, List.drop_zero, List.take_succ_cons, List.take_zero, List.length_cons, List.length_nil, List.reverse_cons, List.reverse_nil, List.nil_append, List.cons_append, Option.toList_some, Option.toList_none, va_rf_s, true_and, and_true, true_implies, false_implies, not_true_eq_false, not_false_eq_true, Nat.reduceAdd, Nat.reduceLeDiff, Nat.le_add_left, Nat.zero_le, Nat.le_refl, znew, true_or, or_true, b01_t, b01_f, b01_ok, bool_ft, vp_b01, vp_b0, vp_b1, b01_eq0, b01_eq1, implies_true, nI_add, nI_clamp, zi_in, zi_le_t, zi_le_f, zi_lt_t, zi_lt_f, zi_eq_t, zi_eq_f, nI_leI, nI_ltI, nI_eq, z_in, pk_mul, zu_same, zu_rw, zu_ix, zi_ne0, zi_sub, zi_m1, Nat.add_sub_cancel, Nat.reduceMul, Nat.reduceSub]
  refine ⟨fun q1 => hVQ _ _ ⟨true, rfl, ⟨fun _ => Or.inl q1, fun _ => rfl⟩, rfl⟩, fun q1 => ⟨fun q2 => hVQ _ _ ⟨true, rfl, ⟨fun _ => Or.inr q2, fun _ => rfl⟩, rfl⟩, fun q2 => hVQ _ _ ⟨false, rfl, ⟨fun q => (by cases q), fun q => (q.elim q1 q2).elim⟩, rfl⟩⟩⟩
theorem zX10_otherEnd (hM : isM h b) (hT : mT b S lv nc ns ny nw) (hS : mS b S lv nc ns one oth) {s : Nat} (hs : s < ns) (c : Int32) :
    zM l E 0 YX10_otherEnd [.ref b, .int (nI s), .int c] (z, h, S, L) 0 0 (fun r X => r = some (.int (nI (one s + oth s) - c)) ∧ X = (z, h, S, L)) (fun _ _ => False) := by
  obtain ⟨⟨hl, hlv⟩, -, ⟨hns, hns10⟩, -, -⟩ := id hT
  obtain ⟨⟨h1, h1'⟩, ⟨h2, h2'⟩, -⟩ := hS s hs
  refine zM.go rfl rfl (Nat.le_of_ble_eq_true rfl) (ls := [some (.ref b), some (.int (nI s)), some (.int c)]) rfl ?_
  intro V hVl hVE hVd hVc hVs hVQ hVX
  refine sX10_otherEnd_0 _ _ _ _ _ ?_
  simp (disch := omega) only [oAld, oAld1, oBin, oGI, oGR, oIld, oPush, oRI, hM.1, hM.r25, hM.t25, hM.n25, hM.r26, hM.t26, hM.n26, hl, h1, h2, List.getElem?_cons_zero, List.getElem?_cons_succ, List.set_cons_zero, List.set_cons_succ, List.drop_succ_cons, List.drop_zero, List.take_succ_cons, List.take_zero, List.length_cons, List.length_nil, List.reverse_cons, List.reverse_nil, List.nil_append, List.cons_append, Option.toList_some, Option.toList_none, va_rf_s, true_and, and_true, true_implies, false_implies, not_true_eq_false, not_false_eq_true, Nat.reduceAdd, Nat.reduceLeDiff, Nat.le_add_left, Nat.zero_le, Nat.le_refl, znew, true_or, or_true, b01_t, b01_f, b01_ok, bool_ft, vp_b01, vp_b0, vp_b1, b01_eq0, b01_eq1, implies_true, nI_add, nI_clamp, zi_in, zi_le_t, zi_le_f, zi_lt_t, zi_lt_f, zi_eq_t, zi_eq_f, nI_leI, nI_ltI, nI_eq, z_in, pk_mul, zu_same, zu_rw, zu_ix, zi_ne0, zi_sub, zi_m1, Nat.add_sub_cancel, Nat.reduceMul, Nat.reduceSub]
  exact hVQ _ _ ⟨rfl, rfl⟩
theorem zX10_streetsAt (hM : isM h b) (hT : mT b S lv nc ns ny nw) (hS : mS b S lv nc ns one oth) {c : Nat} (hc : c < nc) :
    zM l E 1 YX10_streetsAt [.ref b, .int (nI c)] (z, h, S, L) 0 0 (fun r X => r = some (.int (setF (fun s => decide (one s = c) || decide (oth s = c)) ns)) ∧ X = (z, h, S, L)) (fun _ _ => False) := by
  obtain ⟨⟨hl, hlv⟩, ⟨hnc, hnc7⟩, ⟨hns, hns10⟩, -, -⟩ := id hT
  refine zM.go rfl rfl (Nat.le_of_ble_eq_true rfl) (ls := [some (.ref b), some (.int (nI c)), none, none]) rfl ?_
  intro V hVl hVE hVd hVc hVs hVQ hVX
  generalize hp : (fun s => decide (one s = c) || decide (oth s = c)) = p at hVQ
  have loop : ∀ y, y ≤ ns → zW V YX10_streetsAt 4 [some (.ref b), some (.int (nI c)), some (.int (setF p y)), some (.int (nI y))] [] (z, h, S, L) 0 0 := by
    refine z_down ?_ (fun y hy ih => ?_)
    · refine sX10_streetsAt_4 _ _ _ _ _ ?_
      simp (disch := omega) only [oAld, oAld1, oCV, oGI, oGR, oIfc, oIld, oRI, hM.1, hM.r24, hM.t24, hM.n24, hl, hns, List.getElem?_cons_zero, List.getElem?_cons_succ, List.set_cons_zero, List.set_cons_succ, List.drop_succ_cons, List.drop_zero, List.take_succ_cons, List.take_zero, List.length_cons, List.length_nil, List.reverse_cons, List.reverse_nil, List.nil_append, List.cons_append, Option.toList_some, Option.toList_none, va_rf_s, true_and, and_true, true_implies, false_implies, not_true_eq_false, not_false_eq_true, Nat.reduceAdd, Nat.reduceLeDiff, Nat.le_add_left, Nat.zero_le, Nat.le_refl, znew, true_or, or_true, b01_t, b01_f, b01_ok, bool_ft, vp_b01, vp_b0, vp_b1, b01_eq0, b01_eq1, implies_true, nI_add, nI_clamp, zi_in, zi_le_t, zi_le_f, zi_lt_t, zi_lt_f, zi_eq_t, zi_eq_f, nI_leI, nI_ltI, nI_eq, z_in, pk_mul, zu_same, zu_rw, zu_ix, zi_ne0, zi_sub, zi_m1, Nat.add_sub_cancel, Nat.reduceMul, Nat.reduceSub]
      exact hVQ _ _ ⟨rfl, rfl⟩
    · have hpy : p y = (decide (one y = c) || decide (oth y = c)) := by rw [← hp]
      obtain ⟨⟨-, h1'⟩, ⟨-, h2'⟩, -⟩ := hS y hy
      refine sX10_streetsAt_4 _ _ _ _ _ ?_
      simp (disch := omega) only [oAld, oAld1, oCV, oGI, oGR, oIfc, oIld, oRI, hM.1, hM.r24, hM.t24, hM.n24, hl, hns, List.getElem?_cons_zero, List.getElem?_cons_succ, List.set_cons_zero, List.set_cons_succ, List.drop_succ_cons, List.drop_zero, List.take_succ_cons, List.take_zero, List.length_cons, List.length_nil, List.reverse_cons, List.reverse_nil, List.nil_append, List.cons_append, Option.toList_some, Option.toList_none, va_rf_s, true_and, and_true, true_implies, false_implies, not_true_eq_false, not_false_eq_true, Nat.reduceAdd, Nat.reduceLeDiff, Nat.le_add_left, Nat.zero_le, Nat.le_refl, znew, true_or, or_true, b01_t, b01_f, b01_ok, bool_ft, vp_b01, vp_b0, vp_b1, b01_eq0, b01_eq1, implies_true, nI_add, nI_clamp, zi_in, zi_le_t, zi_le_f, zi_lt_t, zi_lt_f, zi_eq_t, zi_eq_f, nI_leI, nI_ltI, nI_eq, z_in, pk_mul, zu_same, zu_rw, zu_ix, zi_ne0, zi_sub, zi_m1, Nat.add_sub_cancel, Nat.reduceMul, Nat.reduceSub]
      refine zC.of0 (zX10_isEnd hM hT hS hy _) (by omega) (Nat.zero_le _) (Nat.zero_le _) ?_
      rintro _ _ ⟨e, rfl, he, rfl⟩
      rw [nI_eq (by omega) (by omega), nI_eq (by omega) (by omega)] at he
      refine sX10_streetsAt_23 _ _ _ _ _ ?_
      simp (disch := omega) only [oBin, oIf, oIld, oInc, oIst, oNop, oPush, List.getElem?_cons_zero, List.getElem?_cons_succ, List.set_cons_zero, List.set_cons_succ, List.drop_succ_cons, List.drop_zero, List.take_succ_cons, List.take_zero, List.length_cons, List.length_nil, List.reverse_cons, List.reverse_nil, List.nil_append, List.cons_append, Option.toList_some, Option.toList_none, va_rf_s, true_and, and_true, true_implies, false_implies, not_true_eq_false, not_false_eq_true, Nat.reduceAdd, Nat.reduceLeDiff, Nat.le_add_left, Nat.zero_le, Nat.le_refl, znew, true_or, or_true, b01_t, b01_f, b01_ok, bool_ft, vp_b01, vp_b0, vp_b1, b01_eq0, b01_eq1, implies_true, nI_add, nI_clamp, zi_in, zi_le_t, zi_le_f, zi_lt_t, zi_lt_f, zi_eq_t, zi_eq_f, nI_leI, nI_ltI, nI_eq, z_in, pk_mul, zu_same, zu_rw, zu_ix, zi_ne0, zi_sub, zi_m1, Nat.add_sub_cancel, Nat.reduceMul, Nat.reduceSub]
      refine ⟨fun h1 => ?_, fun h1 => ?_⟩
      · have hn : ¬ (one y = c ∨ oth y = c) := fun q => by rw [he.mpr q] at h1; cases h1
        rw [setF_f (by rw [hpy]; simp; omega)] at ih; exact ih
      · have hn : one y = c ∨ oth y = c := he.mp (by simpa using h1)
        rw [setF_t (by rw [hpy]; simpa using hn)] at ih; exact ih
  refine sX10_streetsAt_0 _ _ _ _ _ ?_
  simp (disch := omega) only [oIst, oPush, List.getElem?_cons_zero, List.getElem?_cons_succ, List.set_cons_zero, List.set_cons_succ, List.drop_succ_cons, List.drop_zero, List.take_succ_cons, List.take_zero, List.length_cons, List.length_nil, List.reverse_cons, List.reverse_nil, List.nil_append, List.cons_append, Option.toList_some, Option.toList_none, va_rf_s, true_and, and_true, true_implies, false_implies, not_true_eq_false, not_false_eq_true, Nat.reduceAdd, Nat.reduceLeDiff, Nat.le_add_left, Nat.zero_le, Nat.le_refl, znew, true_or, or_true, b01_t, b01_f, b01_ok, bool_ft, vp_b01, vp_b0, vp_b1, b01_eq0, b01_eq1, implies_true, nI_add, nI_clamp, zi_in, zi_le_t, zi_le_f, zi_lt_t, zi_lt_f, zi_eq_t, zi_eq_f, nI_leI, nI_ltI, nI_eq, z_in, pk_mul, zu_same, zu_rw, zu_ix, zi_ne0, zi_sub, zi_m1, Nat.add_sub_cancel, Nat.reduceMul, Nat.reduceSub]
  exact loop 0 (by omega)
theorem zX10_litBits (hM : isM h b) (hT : mT b S lv nc ns ny nw) (hS : mS b S lv nc ns one oth) :
    zM l E 1 YX10_litBits [.ref b] (z, h, S, L) 0 0 (fun r X => ∃ S', X = (z, h, S', L) ∧ zfr [40] [] b S S' ∧ r = some (.int (setF (fun s => decide (S (b + 14) (10 * lv + s) ≤ lightF ny (S (b + 37)) (nI (one s)) + lightF ny (S (b + 37)) (nI (oth s)))) ns))) (fun _ _ => False) := by
  obtain ⟨⟨hl, hlv⟩, ⟨hnc, hnc7⟩, ⟨hns, hns10⟩, -, -⟩ := id hT
  refine zM.go rfl rfl (Nat.le_of_ble_eq_true rfl) (ls := [some (.ref b), none, none]) rfl ?_
  intro V hVl hVE hVd hVc hVs hVQ hVX
  generalize hp : (fun s => decide (S (b + 14) (10 * lv + s) ≤ lightF ny (S (b + 37)) (nI (one s)) + lightF ny (S (b + 37)) (nI (oth s)))) = p at hVQ
  have loop2 : ∀ S', zfr [40] [] b S S' → (∀ j, j < nc → S' (b + 40) j = lightF ny (S (b + 37)) (nI j)) → ∀ y, y ≤ ns → zW V YX10_litBits 36 [some (.ref b), some (.int (setF p y)), some (.int (nI y))] [] (z, h, S', L) 0 0 := by
    intro S' hf hj
    refine z_down ?_ (fun y hy ih => ?_)
    · refine sX10_litBits_36 _ _ _ _ _ ?_
      simp (disch := omega) only [oAld, oAld1, oBin, oGI, oGR, oIfc, oIld, oInc, oIst, oNop, oPush, oRI, hM.1, hM.r24, hM.t24, hM.n24, hM.r59, hM.t59, hM.n59, hM.r25, hM.t25, hM.n25, hM.r26, hM.t26, hM.n26, hM.r27, hM.t27, hM.n27, hf.at (o := 11) rfl rfl, hf.f (j := 18) rfl, hl, hns, List.getElem?_cons_zero, List.getElem?_cons_succ, List.set_cons_zero, List.set_cons_succ, List.drop_succ_cons, List.drop_zero, List.take_succ_cons, List.take_zero, List.length_cons, List.length_nil, List.reverse_cons, List.reverse_nil, List.nil_append, List.cons_append, Option.toList_some, Option.toList_none, va_rf_s, true_and, and_true, true_implies, false_implies, not_true_eq_false, not_false_eq_true, Nat.reduceAdd, Nat.reduceLeDiff, Nat.le_add_left, Nat.zero_le, Nat.le_refl, znew, true_or, or_true, b01_t, b01_f, b01_ok, bool_ft, vp_b01, vp_b0, vp_b1, b01_eq0, b01_eq1, implies_true, nI_add, nI_clamp, zi_in, zi_le_t, zi_le_f, zi_lt_t, zi_lt_f, zi_eq_t, zi_eq_f, nI_leI, nI_ltI, nI_eq, z_in, pk_mul, zu_same, zu_rw, zu_ix, zi_ne0, zi_sub, zi_m1, Nat.add_sub_cancel, Nat.reduceMul, Nat.reduceSub]
      exact hVQ _ _ ⟨S', rfl, hf, rfl⟩
    · have hpy : p y = decide (S (b + 14) (10 * lv + y) ≤ lightF ny (S (b + 37)) (nI (one y)) + lightF ny (S (b + 37)) (nI (oth y))) := by rw [← hp]
      obtain ⟨⟨h1, h1'⟩, ⟨h2, h2'⟩, -⟩ := hS y hy
      have g1 := hj _ h1'
      have g2 := hj _ h2'
      refine sX10_litBits_36 _ _ _ _ _ ?_
      simp (disch := omega) only [oAld, oAld1, oBin, oGI, oGR, oIfc, oIld, oInc, oIst, oNop, oPush, oRI, hM.1, hM.r24, hM.t24, hM.n24, hM.r59, hM.t59, hM.n59, hM.r25, hM.t25, hM.n25, hM.r26, hM.t26, hM.n26, hM.r27, hM.t27, hM.n27, hf.at (o := 11) rfl rfl, hf.at (o := 12) rfl rfl, hf.at (o := 13) rfl rfl, hf.at (o := 14) rfl rfl, hf.f (j := 18) rfl, hl, hns, h1, h2, g1, g2, List.getElem?_cons_zero, List.getElem?_cons_succ, List.set_cons_zero, List.set_cons_succ, List.drop_succ_cons, List.drop_zero, List.take_succ_cons, List.take_zero, List.length_cons, List.length_nil, List.reverse_cons, List.reverse_nil, List.nil_append, List.cons_append, Option.toList_some, Option.toList_none, va_rf_s, true_and, and_true, true_implies, false_implies, not_true_eq_false, not_false_eq_true, Nat.reduceAdd, Nat.reduceLeDiff, Nat.le_add_left, Nat.zero_le, Nat.le_refl, znew, true_or, or_true, b01_t, b01_f, b01_ok, bool_ft, vp_b01, vp_b0, vp_b1, b01_eq0, b01_eq1, implies_true, nI_add, nI_clamp, zi_in, zi_le_t, zi_le_f, zi_lt_t, zi_lt_f, zi_eq_t, zi_eq_f, nI_leI, nI_ltI, nI_eq, z_in, pk_mul, zu_same, zu_rw, zu_ix, zi_ne0, zi_sub, zi_m1, Nat.add_sub_cancel, Nat.reduceMul, Nat.reduceSub]
      refine ⟨fun hc => ?_, fun hc => ?_⟩
      · rw [setF_f (by rw [hpy]; simpa using hc)] at ih; exact ih
      · rw [setF_t (by rw [hpy]; simpa using hc)] at ih; exact ih
  have loop1 : ∀ y, y ≤ nc → ∀ S', zfr [40] [] b S S' → (∀ j, j < y → S' (b + 40) j = lightF ny (S (b + 37)) (nI j)) → zW V YX10_litBits 2 [some (.ref b), some (.int (nI y)), none] [] (z, h, S', L) 0 0 := by
    refine z_down ?_ (fun y hy ih => ?_)
    · intro S' hf hj
      refine sX10_litBits_2 _ _ _ _ _ ?_
      simp (disch := omega) only [oAld, oAld1, oCV, oGI, oGR, oIfc, oIld, oIst, oPush, hM.1, hM.r23, hM.t23, hM.n23, hM.r59, hM.t59, hM.n59, hf.at (o := 10) rfl rfl, hf.f (j := 18) rfl, hl, hnc, List.getElem?_cons_zero, List.getElem?_cons_succ, List.set_cons_zero, List.set_cons_succ, List.drop_succ_cons, List.drop_zero, List.take_succ_cons, List.take_zero, List.length_cons, List.length_nil, List.reverse_cons, List.reverse_nil, List.nil_append, List.cons_append, Option.toList_some, Option.toList_none, va_rf_s, true_and, and_true, true_implies, false_implies, not_true_eq_false, not_false_eq_true, Nat.reduceAdd, Nat.reduceLeDiff, Nat.le_add_left, Nat.zero_le, Nat.le_refl, znew, true_or, or_true, b01_t, b01_f, b01_ok, bool_ft, vp_b01, vp_b0, vp_b1, b01_eq0, b01_eq1, implies_true, nI_add, nI_clamp, zi_in, zi_le_t, zi_le_f, zi_lt_t, zi_lt_f, zi_eq_t, zi_eq_f, nI_leI, nI_ltI, nI_eq, z_in, pk_mul, zu_same, zu_rw, zu_ix, zi_ne0, zi_sub, zi_m1, Nat.add_sub_cancel, Nat.reduceMul, Nat.reduceSub]
      exact loop2 S' hf hj 0 (by omega)
    · intro S' hf hj
      refine sX10_litBits_2 _ _ _ _ _ ?_
      simp (disch := omega) only [oAld, oAld1, oCV, oGI, oGR, oIfc, oIld, oIst, oPush, hM.1, hM.r23, hM.t23, hM.n23, hM.r59, hM.t59, hM.n59, hf.at (o := 10) rfl rfl, hf.f (j := 18) rfl, hl, hnc, List.getElem?_cons_zero, List.getElem?_cons_succ, List.set_cons_zero, List.set_cons_succ, List.drop_succ_cons, List.drop_zero, List.take_succ_cons, List.take_zero, List.length_cons, List.length_nil, List.reverse_cons, List.reverse_nil, List.nil_append, List.cons_append, Option.toList_some, Option.toList_none, va_rf_s, true_and, and_true, true_implies, false_implies, not_true_eq_false, not_false_eq_true, Nat.reduceAdd, Nat.reduceLeDiff, Nat.le_add_left, Nat.zero_le, Nat.le_refl, znew, true_or, or_true, b01_t, b01_f, b01_ok, bool_ft, vp_b01, vp_b0, vp_b1, b01_eq0, b01_eq1, implies_true, nI_add, nI_clamp, zi_in, zi_le_t, zi_le_f, zi_lt_t, zi_lt_f, zi_eq_t, zi_eq_f, nI_leI, nI_ltI, nI_eq, z_in, pk_mul, zu_same, zu_rw, zu_ix, zi_ne0, zi_sub, zi_m1, Nat.add_sub_cancel, Nat.reduceMul, Nat.reduceSub]
      refine zC.of0 (zX10_lightAt hM (hT.fr hf rfl rfl) _) (by omega) (Nat.zero_le _) (Nat.zero_le _) ?_
      rintro _ _ ⟨rfl, rfl⟩
      refine sX10_litBits_25 _ _ _ _ _ ?_
      simp (disch := omega) only [oAst1, oInc, oNop, hM.t59, hM.n59, List.getElem?_cons_zero, List.getElem?_cons_succ, List.set_cons_zero, List.set_cons_succ, List.drop_succ_cons, List.drop_zero, List.take_succ_cons, List.take_zero, List.length_cons, List.length_nil, List.reverse_cons, List.reverse_nil, List.nil_append, List.cons_append, Option.toList_some, Option.toList_none, va_rf_s, true_and, and_true, true_implies, false_implies, not_true_eq_false, not_false_eq_true, Nat.reduceAdd, Nat.reduceLeDiff, Nat.le_add_left, Nat.zero_le, Nat.le_refl, znew, true_or, or_true, b01_t, b01_f, b01_ok, bool_ft, vp_b01, vp_b0, vp_b1, b01_eq0, b01_eq1, implies_true, nI_add, nI_clamp, zi_in, zi_le_t, zi_le_f, zi_lt_t, zi_lt_f, zi_eq_t, zi_eq_f, nI_leI, nI_ltI, nI_eq, z_in, pk_mul, zu_same, zu_rw, zu_ix, zi_ne0, zi_sub, zi_m1, Nat.add_sub_cancel, Nat.reduceMul, Nat.reduceSub]
      refine ih _ (hf.row (by decide) (by decide)) (fun j hj2 => ?_)
      by_cases hjy : j = y
      · subst hjy; rw [zu_same, hf.at (o := 37) rfl rfl]
      · rw [zu_ix _ _ hjy]; exact hj j (by omega)
  refine sX10_litBits_0 _ _ _ _ _ ?_
  simp (disch := omega) only [oIst, oPush, List.getElem?_cons_zero, List.getElem?_cons_succ, List.set_cons_zero, List.set_cons_succ, List.drop_succ_cons, List.drop_zero, List.take_succ_cons, List.take_zero, List.length_cons, List.length_nil, List.reverse_cons, List.reverse_nil, List.nil_append, List.cons_append, Option.toList_some, Option.toList_none, va_rf_s, true_and, and_true, true_implies, false_implies, not_true_eq_false, not_false_eq_true, Nat.reduceAdd, Nat.reduceLeDiff, Nat.le_add_left, Nat.zero_le, Nat.le_refl, znew, true_or, or_true, b01_t, b01_f, b01_ok, bool_ft, vp_b01, vp_b0, vp_b1, b01_eq0, b01_eq1, implies_true, nI_add, nI_clamp, zi_in, zi_le_t, zi_le_f, zi_lt_t, zi_lt_f, zi_eq_t, zi_eq_f, nI_leI, nI_ltI, nI_eq, z_in, pk_mul, zu_same, zu_rw, zu_ix, zi_ne0, zi_sub, zi_m1, Nat.add_sub_cancel, Nat.reduceMul, Nat.reduceSub]
  exact loop1 0 (by omega) S zfr.rf (fun j hj => absurd hj (by omega))
theorem zX10_homeBits (hM : isM h b) (hT : mT b S lv nc ns ny nw) (hH : ∀ y, y < ny → S (b + 37) (12 + y) = nI 0 ∨ S (b + 37) (12 + y) = nI 1) :
    zM l E 0 YX10_homeBits [.ref b] (z, h, S, L) 0 0 (fun r X => r = some (.int (setF (fun y => decide (S (b + 37) (12 + y) = nI 1)) ny)) ∧ X = (z, h, S, L)) (fun _ _ => False) := by
  obtain ⟨⟨hl, hlv⟩, -, -, ⟨hny, hny6⟩, -⟩ := hT
  refine zM.go rfl rfl (Nat.le_of_ble_eq_true rfl) (ls := [some (.ref b), none, none]) rfl ?_
  intro V hVl hVE hVd hVc hVs hVQ hVX
  generalize hp : (fun y => decide (S (b + 37) (12 + y) = nI 1)) = p at hVQ
  have loop : ∀ y, y ≤ ny → zW V YX10_homeBits 4 [some (.ref b), some (.int (setF p y)), some (.int (nI y))] [] (z, h, S, L) 0 0 := by
    refine z_down ?_ (fun y hy ih => ?_)
    · refine sX10_homeBits_4 _ _ _ _ _ ?_
      simp (disch := omega) only [oAld, oAld1, oBin, oGI, oGR, oIfc, oIld, oInc, oIst, oNop, oPush, oRI, hM.1, hM.r28, hM.t28, hM.n28, hM.r54, hM.t54, hM.n54, hl, hny, List.getElem?_cons_zero, List.getElem?_cons_succ, List.set_cons_zero, List.set_cons_succ, List.drop_succ_cons, List.drop_zero, List.take_succ_cons, List.take_zero, List.length_cons, List.length_nil, List.reverse_cons, List.reverse_nil, List.nil_append, List.cons_append, Option.toList_some, Option.toList_none, va_rf_s, true_and, and_true, true_implies, false_implies, not_true_eq_false, not_false_eq_true, Nat.reduceAdd, Nat.reduceLeDiff, Nat.le_add_left, Nat.zero_le, Nat.le_refl, znew, true_or, or_true, b01_t, b01_f, b01_ok, bool_ft, vp_b01, vp_b0, vp_b1, b01_eq0, b01_eq1, implies_true, nI_add, nI_clamp, zi_in, zi_le_t, zi_le_f, zi_lt_t, zi_lt_f, zi_eq_t, zi_eq_f, nI_leI, nI_ltI, nI_eq, z_in, pk_mul, zu_same, zu_rw, zu_ix, zi_ne0, zi_sub, zi_m1, Nat.add_sub_cancel, Nat.reduceMul, Nat.reduceSub]
      exact hVQ _ _ ⟨rfl, rfl⟩
    · have hpy : p y = decide (S (b + 37) (12 + y) = nI 1) := by rw [← hp]
      refine sX10_homeBits_4 _ _ _ _ _ ?_
      simp (disch := omega) only [oAld, oAld1, oBin, oGI, oGR, oIfc, oIld, oInc, oIst, oNop, oPush, oRI, hM.1, hM.r28, hM.t28, hM.n28, hM.r54, hM.t54, hM.n54, hl, hny, List.getElem?_cons_zero, List.getElem?_cons_succ, List.set_cons_zero, List.set_cons_succ, List.drop_succ_cons, List.drop_zero, List.take_succ_cons, List.take_zero, List.length_cons, List.length_nil, List.reverse_cons, List.reverse_nil, List.nil_append, List.cons_append, Option.toList_some, Option.toList_none, va_rf_s, true_and, and_true, true_implies, false_implies, not_true_eq_false, not_false_eq_true, Nat.reduceAdd, Nat.reduceLeDiff, Nat.le_add_left, Nat.zero_le, Nat.le_refl, znew, true_or, or_true, b01_t, b01_f, b01_ok, bool_ft, vp_b01, vp_b0, vp_b1, b01_eq0, b01_eq1, implies_true, nI_add, nI_clamp, zi_in, zi_le_t, zi_le_f, zi_lt_t, zi_lt_f, zi_eq_t, zi_eq_f, nI_leI, nI_ltI, nI_eq, z_in, pk_mul, zu_same, zu_rw, zu_ix, zi_ne0, zi_sub, zi_m1, Nat.add_sub_cancel, Nat.reduceMul, Nat.reduceSub]
      rcases hH y hy with q | q
      · rw [setF_f (by rw [hpy, q]; decide)] at ih
        rw [q]
        rw [i_shl0, i_or0]
        exact ih
      · rw [setF_t (by rw [hpy, q]; decide)] at ih
        rw [q]; exact ih
  refine sX10_homeBits_0 _ _ _ _ _ ?_
  simp (disch := omega) only [oIst, oPush, List.getElem?_cons_zero, List.getElem?_cons_succ, List.set_cons_zero, List.set_cons_succ, List.drop_succ_cons, List.drop_zero, List.take_succ_cons, List.take_zero, List.length_cons, List.length_nil, List.reverse_cons, List.reverse_nil, List.nil_append, List.cons_append, Option.toList_some, Option.toList_none, va_rf_s, true_and, and_true, true_implies, false_implies, not_true_eq_false, not_false_eq_true, Nat.reduceAdd, Nat.reduceLeDiff, Nat.le_add_left, Nat.zero_le, Nat.le_refl, znew, true_or, or_true, b01_t, b01_f, b01_ok, bool_ft, vp_b01, vp_b0, vp_b1, b01_eq0, b01_eq1, implies_true, nI_add, nI_clamp, zi_in, zi_le_t, zi_le_f, zi_lt_t, zi_lt_f, zi_eq_t, zi_eq_f, nI_leI, nI_ltI, nI_eq, z_in, pk_mul, zu_same, zu_rw, zu_ix, zi_ne0, zi_sub, zi_m1, Nat.add_sub_cancel, Nat.reduceMul, Nat.reduceSub]
  exact loop 0 (by omega)
end MF
