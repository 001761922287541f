/-! the model: the best way to stand -/
def wyN (t : ZT) (T : Nat → Int32) : Nat → Nat
  | 0 => 1
  | y + 1 => if outF T y = true then wyN t T y * tnc t else wyN t T y
def lfM (t : ZT) (T : Nat → Int32) (way : Nat) : Nat → Nat
  | 0 => way
  | m + 1 => if outF T (tny t - m - 1) = true then lfM t T way m / tnc t else lfM t T way m
def dig (t : ZT) (T : Nat → Int32) (way y : Nat) : Nat := lfM t T way (tny t - 1 - y) % tnc t
def asn (t : ZT) (T : Nat → Int32) (way : Nat) : Nat → Int32 := fun j => if j < tny t ∧ outF T j = true then nI (dig t T way j) else T j
def nwy (t : ZT) (T : Nat → Int32) (way : Nat) : Int32 := bitsF 10 (litR t (asn t T way))
def standF (T R : Nat → Int32) : Nat → Int32 := fun y => if T (12 + y) = nI 1 then -2 else R y
def bsW (t : ZT) (T : Nat → Int32) : Nat → Int32 × (Nat → Int32)
  | 0 => (-1, fun _ => nI 0)
  | way + 1 => if (bsW t T way).1 < nwy t T way then (nwy t T way, standF T (asn t T way)) else bsW t T way
def bestR (t : ZT) (T : Nat → Int32) (i : Int32) : Int32 := if i = -1 then (bsW t T (wyN t T (tny t))).1 else if okI i (tny t) = true then (bsW t T (wyN t T (tny t))).2 i.toNatClampNeg else -1
theorem wyN_le {t : ZT} {T : Nat → Int32} (h7 : tnc t ≤ 7) : ∀ y, wyN t T y ≤ 7 ^ y
  | 0 => Nat.le_refl _
  | y + 1 => by
    have := wyN_le (T := T) h7 y
    rw [wyN, Nat.pow_succ]
    split
    · exact Nat.mul_le_mul this h7
    · omega
theorem wyN_pos {t : ZT} {T : Nat → Int32} : ∀ y, (∀ i, i < y → outF T i = true → 0 < tnc t) → 0 < wyN t T y
  | 0, _ => Nat.zero_lt_one
  | y + 1, h => by
    have ih := wyN_pos (t := t) (T := T) y (fun i hi => h i (by omega))
    rw [wyN]
    split
    · rename_i ho
      exact Nat.mul_pos ih (h y (by omega) ho)
    · exact ih
theorem lfM_le {t : ZT} {T : Nat → Int32} {way : Nat} : ∀ m, lfM t T way m ≤ way
  | 0 => Nat.le_refl _
  | m + 1 => by
    have := lfM_le (t := t) (T := T) (way := way) m
    rw [lfM]
    split
    · exact Nat.le_trans (Nat.div_le_self _ _) this
    · exact this
theorem i_sub1 (x : Int32) : x - nI 1 = x + (-1) := by
  show x - 1 = x + (-1)
  rw [Int32.sub_eq_add_neg]
theorem i_0m1 : nI 0 + (-1) = (-1 : Int32) := by decide
theorem remN {a d : Nat} (ha : a < 2 ^ 31) (h0 : 0 < d) (hd : d < 2 ^ 31) : nI a - nI (a / d * d) = nI (a % d) := by
  have := pk_rem ha h0 hd
  rw [pk_div ha h0 hd, pk_mul] at this
  exact this
section MR
variable {l : Launch} {E : zE} {b z : Nat} {h : Nat → Option zSh} {S : Nat → Nat → Int32} {L : Nat → Nat → Int64} {lv : Nat} {t : ZT} {T R : Nat → Int32}
theorem zX10_fb_fill {V : zV} (hM : isM h b) (hQ : mQ b S lv t T) {Rw : Nat → Int32} (h12 : ∀ j, 12 ≤ j → Rw j = T j) (W way lf : Nat) (mo : Int32) (hway : way < 2 ^ 30)
    (hn : ∀ S' x4 x5 x6, mE b S S' → S' (b + 37) = Rw → (∀ j, j < tny t → S' (b + 42) j = standF T Rw j) → zW V YX10_fillsBest 55 [some (.ref b), some (.int (nI W)), some (.int mo), some (.int (nI (way + 1))), x4, x5, x6] [] (z, h, S', L) 0 0) :
    ∀ y, y ≤ tny t → ∀ S', mE b S S' → S' (b + 37) = Rw → (∀ j, j < y → S' (b + 42) j = standF T Rw j) → zW V YX10_fillsBest 161 [some (.ref b), some (.int (nI W)), some (.int mo), some (.int (nI way)), some (.int (nI lf)), some (.int mo), some (.int (nI y))] [] (z, h, S', L) 0 0 := by
  have h6 : tny t ≤ 6 := hQ.1.1.2.2.2.1.2
  refine z_down ?_ (fun y hy ihy => ?_)
  · intro S' hE hrw hf
    obtain ⟨⟨e1, hlv⟩, -, -, ⟨e2, -⟩, -⟩ := id (hQ.fr hE).1.1
    refine sX10_fillsBest_161 _ _ _ _ _ ?_
    simp (disch := omega) only [oAld, oAld1, oAst1, oBin, oGI, oGR, oIfc, oIld, oInc, oNop, oPush, hM.1, hM.r28, hM.t28, hM.n28, hM.r62, hM.t62, hM.n62, hM.r54, hM.t54, hM.n54, e1, e2, List.getElem?_cons_zero, List.getElem?_cons_succ, List.set_cons_zero, List.set_cons_succ, List.drop_succ_cons, List.drop_zero, List.take_succ_cons, List.take_zero, List.length_cons, List.length_nil, List.reverse_cons, List.reverse_nil, List.nil_append, List.cons_append, Option.toList_some, Option.toList_none, va_rf_s, true_and, and_true, true_implies, false_implies, not_true_eq_false, not_false_eq_true, Nat.reduceAdd, Nat.reduceLeDiff, Nat.le_add_left, Nat.zero_le, Nat.le_refl, znew, true_or, or_true, b01_t, b01_f, b01_ok, bool_ft, vp_b01, vp_b0, vp_b1, b01_eq0, b01_eq1, implies_true, nI_add, nI_clamp, zi_in, zi_le_t, zi_le_f, zi_lt_t, zi_lt_f, zi_eq_t, zi_eq_f, nI_leI, nI_ltI, nI_eq, z_in, pk_mul, zu_same, zu_rw, zu_ix, zi_ne0, zi_sub, zi_m1, Nat.add_sub_cancel, Nat.reduceMul, Nat.reduceSub]
    exact hn S' _ _ _ hE hrw hf
  · intro S' hE hrw hf
    obtain ⟨⟨e1, hlv⟩, -, -, ⟨e2, -⟩, -⟩ := id (hQ.fr hE).1.1
    have hy12 := h12 (12 + y) (by omega)
    refine sX10_fillsBest_161 _ _ _ _ _ ?_
    simp (disch := omega) only [oAld, oAld1, oAst1, oBin, oGI, oGR, oIfc, oIld, oInc, oNop, oPush, hM.1, hM.r28, hM.t28, hM.n28, hM.r62, hM.t62, hM.n62, hM.r54, hM.t54, hM.n54, e1, e2, hrw, hy12, List.getElem?_cons_zero, List.getElem?_cons_succ, List.set_cons_zero, List.set_cons_succ, List.drop_succ_cons, List.drop_zero, List.take_succ_cons, List.take_zero, List.length_cons, List.length_nil, List.reverse_cons, List.reverse_nil, List.nil_append, List.cons_append, Option.toList_some, Option.toList_none, va_rf_s, true_and, and_true, true_implies, false_implies, not_true_eq_false, not_false_eq_true, Nat.reduceAdd, Nat.reduceLeDiff, Nat.le_add_left, Nat.zero_le, Nat.le_refl, znew, true_or, or_true, b01_t, b01_f, b01_ok, bool_ft, vp_b01, vp_b0, vp_b1, b01_eq0, b01_eq1, implies_true, nI_add, nI_clamp, zi_in, zi_le_t, zi_le_f, zi_lt_t, zi_lt_f, zi_eq_t, zi_eq_f, nI_leI, nI_ltI, nI_eq, z_in, pk_mul, zu_same, zu_rw, zu_ix, zi_ne0, zi_sub, zi_m1, Nat.add_sub_cancel, Nat.reduceMul, Nat.reduceSub]
    refine ⟨fun h1 => ?_, fun h1 => ?_⟩
    · have hfr : zfr [42] [] b S' (zu S' (b + 42) y (-2)) := zfr.rf.row (by decide) (by decide)
      refine ihy _ (hE.q hfr rfl rfl rfl) ((hfr.at (o := 37) rfl rfl).trans hrw) (fun j hj => ?_)
      by_cases hj2 : j = y
      · rw [hj2, zu_same, standF, if_pos h1]
      · rw [zu_ix _ _ hj2]; exact hf j (by omega)
    · have hfr : zfr [42] [] b S' (zu S' (b + 42) y (Rw y)) := zfr.rf.row (by decide) (by decide)
      refine ihy _ (hE.q hfr rfl rfl rfl) ((hfr.at (o := 37) rfl rfl).trans hrw) (fun j hj => ?_)
      by_cases hj2 : j = y
      · rw [hj2, zu_same, standF, if_neg h1]
      · rw [zu_ix _ _ hj2]; exact hf j (by omega)
theorem asn12 {way j : Nat} (h6 : tny t ≤ 6) (hj : 12 ≤ j) : asn t T way j = T j := by rw [asn, if_neg (fun q => by omega)]
theorem zX10_fb_dig {l : Launch} {E : zE} {V : zV} (hVl : V.1 = l) (hVE : V.2.1 = E) (hVd : V.2.2.1 = 2) (hM : isM h b) (hQ : mQ b S lv t T) {at' : Nat → Nat} (hC : rowC t T at') (hH : rowH t T) (W way : Nat) (mo : Int32) (B : Nat → Int32) (hway : way < 2 ^ 30)
    (hn : ∀ S' x5 x6, mE b S S' → S' (b + 37) = asn t T way → S' (b + 42) = B → zW V YX10_fillsBest 141 [some (.ref b), some (.int (nI W)), some (.int mo), some (.int (nI way)), some (.int (nI (lfM t T way (tny t)))), x5, x6] [.int (litR t (asn t T way))] (z, h, S', L) 0 0) :
    ∀ m, m ≤ tny t → ∀ S' x6, mE b S S' → (∀ j, ¬ (j < tny t ∧ outF T j = true) → S' (b + 37) j = T j) → (∀ j, j < tny t → outF T j = true → tny t - m ≤ j → S' (b + 37) j = nI (dig t T way j)) → S' (b + 42) = B →
      zW V YX10_fillsBest 76 [some (.ref b), some (.int (nI W)), some (.int mo), some (.int (nI way)), some (.int (nI (lfM t T way m))), some (.int (nI (tny t - m) + (-1))), x6] [] (z, h, S', L) 0 0 := by
  have h7 : tnc t ≤ 7 := hQ.1.1.2.1.2
  have h6 : tny t ≤ 6 := hQ.1.1.2.2.2.1.2
  refine z_down ?_ (fun m hm ihm => ?_)
  · intro S' x6 hE hr hd hb
    have hX' := (hQ.fr hE).1
    have hrow : S' (b + 37) = asn t T way := by
      funext j
      unfold asn
      by_cases hj : j < tny t ∧ outF T j = true
      · rw [if_pos hj]; exact hd j hj.1 hj.2 (by omega)
      · rw [if_neg hj]; exact hr j hj
    rw [Nat.sub_self, i_0m1]
    refine sX10_fillsBest_76 _ _ _ _ _ ?_
    simp (disch := omega) only [oAld, oAld1, oAst1, oBin, oCV, oDiv, oGI, oGR, oIf, oIfc, oIld, oInc, oIst, oNop, oPush, hM.1, hM.r54, hM.t54, hM.n54, hM.r23, hM.t23, hM.n23, m1lt, List.getElem?_cons_zero, List.getElem?_cons_succ, List.set_cons_zero, List.set_cons_succ, List.drop_succ_cons, List.drop_zero, List.take_succ_cons, List.take_zero, List.length_cons, List.length_nil, List.reverse_cons, List.reverse_nil, List.nil_append, List.cons_append, Option.toList_some, Option.toList_none, va_rf_s, true_and, and_true, true_implies, false_implies, not_true_eq_false, not_false_eq_true, Nat.reduceAdd, Nat.reduceLeDiff, Nat.le_add_left, Nat.zero_le, Nat.le_refl, znew, true_or, or_true, b01_t, b01_f, b01_ok, bool_ft, vp_b01, vp_b0, vp_b1, b01_eq0, b01_eq1, implies_true, nI_add, nI_clamp, zi_in, zi_le_t, zi_le_f, zi_lt_t, zi_lt_f, zi_eq_t, zi_eq_f, nI_leI, nI_ltI, nI_eq, z_in, pk_mul, zu_same, zu_rw, zu_ix, zi_ne0, zi_sub, zi_m1, Nat.add_sub_cancel, Nat.reduceMul, Nat.reduceSub]
    refine zC.of0 (zG_lit hM hX' hrow) (by omega) (Nat.zero_le _) (Nat.zero_le _) ?_
    rintro _ _ ⟨S2, rfl, hf2, rfl⟩
    exact hn S2 _ _ (hE.q hf2 rfl rfl rfl) ((hf2.at (o := 37) rfl rfl).trans hrow) ((hf2.at (o := 42) rfl rfl).trans hb)
  · intro S' x6 hE hr hd hb
    obtain ⟨⟨hl, hlv⟩, ⟨hnc, -⟩, -⟩ := id (hQ.fr hE).1.1
    have e1 : S' (b + 37) (12 + (tny t - m - 1)) = T (12 + (tny t - m - 1)) := hr _ (fun q => by omega)
    have hc0 : 0 < tnc t := by have := (hC (tny t - m - 1) (by omega)).2; omega
    have hsm : lfM t T way (m + 1) = if outF T (tny t - m - 1) = true then lfM t T way m / tnc t else lfM t T way m := rfl
    rw [hsm] at ihm
    have hlf := lfM_le (t := t) (T := T) (way := way) m
    have hdg : dig t T way (tny t - m - 1) = lfM t T way m % tnc t := by rw [dig, show tny t - 1 - (tny t - m - 1) = m by omega]
    generalize lfM t T way m = lf at ihm hdg hlf ⊢
    rw [show tny t - (m + 1) = tny t - m - 1 by omega] at ihm
    rw [zi_m1 (show 0 < tny t - m by omega)]
    obtain ⟨y, hy⟩ : ∃ y, y = tny t - m - 1 := ⟨_, rfl⟩
    have hy6 : y < tny t := by omega
    have hym : ∀ j, j ≠ y → y ≤ j → tny t - m ≤ j := fun j h1 h2 => by omega
    rw [← hy] at e1 hdg ihm ⊢
    clear hy
    refine sX10_fillsBest_76 _ _ _ _ _ ?_
    simp (disch := omega) only [oAld, oAld1, oAst1, oBin, oCV, oDiv, oGI, oGR, oIf, oIfc, oIld, oInc, oIst, oNop, oPush, hM.1, hM.r54, hM.t54, hM.n54, hM.r23, hM.t23, hM.n23, e1, hl, hnc, pk_div, remN, List.getElem?_cons_zero, List.getElem?_cons_succ, List.set_cons_zero, List.set_cons_succ, List.drop_succ_cons, List.drop_zero, List.take_succ_cons, List.take_zero, List.length_cons, List.length_nil, List.reverse_cons, List.reverse_nil, List.nil_append, List.cons_append, Option.toList_some, Option.toList_none, va_rf_s, true_and, and_true, true_implies, false_implies, not_true_eq_false, not_false_eq_true, Nat.reduceAdd, Nat.reduceLeDiff, Nat.le_add_left, Nat.zero_le, Nat.le_refl, znew, true_or, or_true, b01_t, b01_f, b01_ok, bool_ft, vp_b01, vp_b0, vp_b1, b01_eq0, b01_eq1, implies_true, nI_add, nI_clamp, zi_in, zi_le_t, zi_le_f, zi_lt_t, zi_lt_f, zi_eq_t, zi_eq_f, nI_leI, nI_ltI, nI_eq, z_in, pk_mul, zu_same, zu_rw, zu_ix, zi_ne0, zi_sub, zi_m1, Nat.add_sub_cancel, Nat.reduceMul, Nat.reduceSub]
    refine ⟨fun ho => ?_, fun ho => ?_⟩
    · have hout : ¬ outF T y = true := by unfold outF; rw [ho]; decide
      rw [if_neg hout] at ihm
      refine ihm _ _ hE hr (fun j hj1 hj2 hj3 => ?_) hb
      by_cases he : j = y
      · rw [he] at hj2; exact absurd hj2 hout
      · exact hd j hj1 hj2 (hym j he hj3)
    · have hout : outF T y = true := by
        unfold outF
        rcases hH y hy6 with q | q
        · rw [q]; decide
        · exact absurd q ho
      rw [if_pos hout] at ihm
      have hfr : zfr [37] [] b S' (zu S' (b + 37) y (nI (lf % tnc t))) := zfr.rf.row (by decide) (by decide)
      refine ihm _ _ (hE.w hfr rfl rfl rfl (fun k hk => by rw [zu_ix _ _ (by omega)]; exact hE.2.2 k hk)) (fun j hj => ?_) (fun j hj1 hj2 hj3 => ?_) ((hfr.at (o := 42) rfl rfl).trans hb)
      · have hne : j ≠ y := fun q => hj (by rw [q]; exact ⟨hy6, hout⟩)
        rw [zu_ix _ _ hne]; exact hr j hj
      · by_cases he : j = y
        · rw [he, zu_same, hdg]
        · rw [zu_ix _ _ he]; exact hd j hj1 hj2 (hym j he hj3)
theorem bsW_first {w : Nat} : (-1 : Int32) < nwy t T w := by
  rw [nwy, bitsF_N _ (by omega), Int32.lt_iff_toInt_lt, nI_toInt (by have := cntN_le (bt (litR t (asn t T w))) 10; omega)]
  exact Int.lt_of_lt_of_le (by decide) (Int.natCast_nonneg _)
theorem bsW_t {w : Nat} (h : (bsW t T w).1 < nwy t T w) : bsW t T (w + 1) = (nwy t T w, standF T (asn t T w)) := by rw [bsW, if_pos h]
theorem bsW_f {w : Nat} (h : ¬ (bsW t T w).1 < nwy t T w) : bsW t T (w + 1) = bsW t T w := by rw [bsW, if_neg h]
theorem bsW_0 : (bsW t T 0).1 = -1 := rfl
theorem zX10_fb_way {l : Launch} {E : zE} {V : zV} (hVl : V.1 = l) (hVE : V.2.1 = E) (hVd : V.2.2.1 = 2) (hM : isM h b) (hQ : mQ b S lv t T) {at' : Nat → Nat} (hC : rowC t T at') (hH : rowH t T) (W : Nat) (hW : W < 2 ^ 30)
    (hVQ : ∀ S', mE b S S' → (0 < W → ∀ j, j < tny t → S' (b + 42) j = (bsW t T W).2 j) → V.2.2.2.2.2.1 (some (.int (bsW t T W).1)) (z, h, S', L)) :
    ∀ way, way ≤ W → ∀ S' x4 x5 x6, mE b S S' → (∀ j, ¬ (j < tny t ∧ outF T j = true) → S' (b + 37) j = T j) → (0 < way → ∀ j, j < tny t → S' (b + 42) j = (bsW t T way).2 j) → zW V YX10_fillsBest 55 [some (.ref b), some (.int (nI W)), some (.int (bsW t T way).1), some (.int (nI way)), x4, x5, x6] [] (z, h, S', L) 0 0 := by
  have h6 : tny t ≤ 6 := hQ.1.1.2.2.2.1.2
  refine z_down ?_ (fun way hway ih => ?_)
  · intro S' x4 x5 x6 hE hr hb
    refine sX10_fillsBest_55 _ _ _ _ _ ?_
    simp (disch := omega) only [oAld, oAld1, oBin, oGI, oGR, oIfc, oIld, oIst, oPush, oRI, hM.1, hM.r28, hM.t28, hM.n28, List.getElem?_cons_zero, List.getElem?_cons_succ, List.set_cons_zero, List.set_cons_succ, List.drop_succ_cons, List.drop_zero, List.take_succ_cons, List.take_zero, List.length_cons, List.length_nil, List.reverse_cons, List.reverse_nil, List.nil_append, List.cons_append, Option.toList_some, Option.toList_none, va_rf_s, true_and, and_true, true_implies, false_implies, not_true_eq_false, not_false_eq_true, Nat.reduceAdd, Nat.reduceLeDiff, Nat.le_add_left, Nat.zero_le, Nat.le_refl, znew, true_or, or_true, b01_t, b01_f, b01_ok, bool_ft, vp_b01, vp_b0, vp_b1, b01_eq0, b01_eq1, implies_true, nI_add, nI_clamp, zi_in, zi_le_t, zi_le_f, zi_lt_t, zi_lt_f, zi_eq_t, zi_eq_f, nI_leI, nI_ltI, nI_eq, z_in, pk_mul, zu_same, zu_rw, zu_ix, zi_ne0, zi_sub, zi_m1, Nat.add_sub_cancel, Nat.reduceMul, Nat.reduceSub]
    exact hVQ S' hE hb
  · intro S' x4 x5 x6 hE hr hb
    obtain ⟨⟨hl, hlv⟩, -, -, ⟨hny, -⟩, -⟩ := id (hQ.fr hE).1.1
    have lm := zX10_fb_dig (z := z) (L := L) hVl hVE hVd hM hQ hC hH W way (bsW t T way).1 (S' (b + 42)) (by omega) (fun S2 x5 x6 hE2 hr2 hb2 => ?_) 0 (by omega) S' x6 hE hr (fun j hj _ h2 => absurd hj (by omega)) rfl
    · by_cases hy0 : tny t = 0
      · rw [show nI (tny t - 0) + (-1) = nI 0 - nI 1 by rw [hy0]; decide] at lm
        rw [hy0] at hny
        refine sX10_fillsBest_55 _ _ _ _ _ ?_
        simp (disch := omega) only [oAld, oAld1, oBin, oGI, oGR, oIfc, oIld, oIst, oPush, oRI, hM.1, hM.r28, hM.t28, hM.n28, hl, hny, List.getElem?_cons_zero, List.getElem?_cons_succ, List.set_cons_zero, List.set_cons_succ, List.drop_succ_cons, List.drop_zero, List.take_succ_cons, List.take_zero, List.length_cons, List.length_nil, List.reverse_cons, List.reverse_nil, List.nil_append, List.cons_append, Option.toList_some, Option.toList_none, va_rf_s, true_and, and_true, true_implies, false_implies, not_true_eq_false, not_false_eq_true, Nat.reduceAdd, Nat.reduceLeDiff, Nat.le_add_left, Nat.zero_le, Nat.le_refl, znew, true_or, or_true, b01_t, b01_f, b01_ok, bool_ft, vp_b01, vp_b0, vp_b1, b01_eq0, b01_eq1, implies_true, nI_add, nI_clamp, zi_in, zi_le_t, zi_le_f, zi_lt_t, zi_lt_f, zi_eq_t, zi_eq_f, nI_leI, nI_ltI, nI_eq, z_in, pk_mul, zu_same, zu_rw, zu_ix, zi_ne0, zi_sub, zi_m1, Nat.add_sub_cancel, Nat.reduceMul, Nat.reduceSub]
        exact lm
      · rw [Nat.sub_zero, zi_m1 (by omega)] at lm
        refine sX10_fillsBest_55 _ _ _ _ _ ?_
        simp (disch := omega) only [oAld, oAld1, oBin, oGI, oGR, oIfc, oIld, oIst, oPush, oRI, hM.1, hM.r28, hM.t28, hM.n28, hl, hny, List.getElem?_cons_zero, List.getElem?_cons_succ, List.set_cons_zero, List.set_cons_succ, List.drop_succ_cons, List.drop_zero, List.take_succ_cons, List.take_zero, List.length_cons, List.length_nil, List.reverse_cons, List.reverse_nil, List.nil_append, List.cons_append, Option.toList_some, Option.toList_none, va_rf_s, true_and, and_true, true_implies, false_implies, not_true_eq_false, not_false_eq_true, Nat.reduceAdd, Nat.reduceLeDiff, Nat.le_add_left, Nat.zero_le, Nat.le_refl, znew, true_or, or_true, b01_t, b01_f, b01_ok, bool_ft, vp_b01, vp_b0, vp_b1, b01_eq0, b01_eq1, implies_true, nI_add, nI_clamp, zi_in, zi_le_t, zi_le_f, zi_lt_t, zi_lt_f, zi_eq_t, zi_eq_f, nI_leI, nI_ltI, nI_eq, z_in, pk_mul, zu_same, zu_rw, zu_ix, zi_ne0, zi_sub, zi_m1, Nat.add_sub_cancel, Nat.reduceMul, Nat.reduceSub]
        exact lm
    · refine sX10_fillsBest_141 _ _ _ _ _ ?_
      simp (disch := omega) only [oCS, List.getElem?_cons_zero, List.getElem?_cons_succ, List.set_cons_zero, List.set_cons_succ, List.drop_succ_cons, List.drop_zero, List.take_succ_cons, List.take_zero, List.length_cons, List.length_nil, List.reverse_cons, List.reverse_nil, List.nil_append, List.cons_append, Option.toList_some, Option.toList_none, va_rf_s, true_and, and_true, true_implies, false_implies, not_true_eq_false, not_false_eq_true, Nat.reduceAdd, Nat.reduceLeDiff, Nat.le_add_left, Nat.zero_le, Nat.le_refl, znew, true_or, or_true, b01_t, b01_f, b01_ok, bool_ft, vp_b01, vp_b0, vp_b1, b01_eq0, b01_eq1, implies_true, nI_add, nI_clamp, zi_in, zi_le_t, zi_le_f, zi_lt_t, zi_lt_f, zi_eq_t, zi_eq_f, nI_leI, nI_ltI, nI_eq, z_in, pk_mul, zu_same, zu_rw, zu_ix, zi_ne0, zi_sub, zi_m1, Nat.add_sub_cancel, Nat.reduceMul, Nat.reduceSub]
      refine zC.of0 (zX10_bits _ _) (by omega) (Nat.zero_le _) (Nat.zero_le _) ?_
      rintro _ _ ⟨rfl, rfl⟩
      rw [show bitsF 10 (litR t (asn t T way)) = nwy t T way from rfl]
      refine sX10_fillsBest_144 _ _ _ _ _ ?_
      simp (disch := omega) only [oIfc, oIld, oInc, oIst, oNop, oPush, List.getElem?_cons_zero, List.getElem?_cons_succ, List.set_cons_zero, List.set_cons_succ, List.drop_succ_cons, List.drop_zero, List.take_succ_cons, List.take_zero, List.length_cons, List.length_nil, List.reverse_cons, List.reverse_nil, List.nil_append, List.cons_append, Option.toList_some, Option.toList_none, va_rf_s, true_and, and_true, true_implies, false_implies, not_true_eq_false, not_false_eq_true, Nat.reduceAdd, Nat.reduceLeDiff, Nat.le_add_left, Nat.zero_le, Nat.le_refl, znew, true_or, or_true, b01_t, b01_f, b01_ok, bool_ft, vp_b01, vp_b0, vp_b1, b01_eq0, b01_eq1, implies_true, nI_add, nI_clamp, zi_in, zi_le_t, zi_le_f, zi_lt_t, zi_lt_f, zi_eq_t, zi_eq_f, nI_leI, nI_ltI, nI_eq, z_in, pk_mul, zu_same, zu_rw, zu_ix, zi_ne0, zi_sub, zi_m1, Nat.add_sub_cancel, Nat.reduceMul, Nat.reduceSub]
      refine ⟨fun h0 => ?_, fun h0 => ?_⟩
      · rw [bsW_t h0] at ih
        refine zX10_fb_fill hM hQ (fun j hj => asn12 h6 hj) W way _ _ (by omega) (fun S3 x4 x5 x6 hE3 hr3 hb3 => ih S3 _ _ _ hE3 (fun j hj => by rw [hr3]; exact if_neg hj) (fun _ => hb3)) 0 (by omega) S2 hE2 hr2 (fun j hj => absurd hj (by omega))
      · rw [bsW_f h0] at ih
        refine ih S2 _ _ _ hE2 (fun j hj => by rw [hr2]; exact if_neg hj) (fun _ j hj => ?_)
        rw [hb2]
        by_cases hw0 : 0 < way
        · exact hb hw0 j hj
        · obtain rfl : way = 0 := by omega
          rw [bsW_0] at h0
          exact absurd bsW_first h0
theorem zX10_fillsBest (hM : isM h b) (hQ : mQ b S lv t T) {at' : Nat → Nat} (hC : rowC t T at') (hH : rowH t T) :
    zM l E 2 YX10_fillsBest [.ref b] (z, h, S, L) 0 0 (fun r X => ∃ S', X = (z, h, S', L) ∧ mE b S S' ∧ (∀ j, j < tny t → S' (b + 42) j = (bsW t T (wyN t T (tny t))).2 j) ∧ r = some (.int (bsW t T (wyN t T (tny t))).1)) (fun _ _ => False) := by
  have h7 : tnc t ≤ 7 := hQ.1.1.2.1.2
  have h6 : tny t ≤ 6 := hQ.1.1.2.2.2.1.2
  have hwl : ∀ y, y ≤ 6 → wyN t T y < 2 ^ 30 := fun y hy => Nat.lt_of_le_of_lt (Nat.le_trans (wyN_le h7 y) (Nat.pow_le_pow_right (by omega) hy)) (by decide)
  refine zM.go rfl rfl (Nat.le_of_ble_eq_true rfl) (ls := [some (.ref b), none, none, none, none, none, none]) rfl ?_
  intro V hVl hVE hVd hVc hVs hVQ hVX
  refine sX10_fillsBest_0 _ _ _ _ _ ?_
  simp (disch := omega) only [oAld, oCV, hM.1, List.getElem?_cons_zero, List.getElem?_cons_succ, List.set_cons_zero, List.set_cons_succ, List.drop_succ_cons, List.drop_zero, List.take_succ_cons, List.take_zero, List.length_cons, List.length_nil, List.reverse_cons, List.reverse_nil, List.nil_append, List.cons_append, Option.toList_some, Option.toList_none, va_rf_s, true_and, and_true, true_implies, false_implies, not_true_eq_false, not_false_eq_true, Nat.reduceAdd, Nat.reduceLeDiff, Nat.le_add_left, Nat.zero_le, Nat.le_refl, znew, true_or, or_true, b01_t, b01_f, b01_ok, bool_ft, vp_b01, vp_b0, vp_b1, b01_eq0, b01_eq1, implies_true, nI_add, nI_clamp, zi_in, zi_le_t, zi_le_f, zi_lt_t, zi_lt_f, zi_eq_t, zi_eq_f, nI_leI, nI_ltI, nI_eq, z_in, pk_mul, zu_same, zu_rw, zu_ix, zi_ne0, zi_sub, zi_m1, Nat.add_sub_cancel, Nat.reduceMul, Nat.reduceSub]
  refine zC.of0 (zG_copies hM hQ) (by omega) (Nat.zero_le _) (Nat.zero_le _) ?_
  rintro _ _ ⟨rfl, S1, rfl, hE1, hX1, hr1, hN1, -, -⟩
  have hwp : 0 < wyN t T (tny t) := wyN_pos _ (fun i hi _ => by have := (hC i hi).2; omega)
  have loopW := zX10_fb_way (z := z) (L := L) hVl hVE hVd hM hQ hC hH (wyN t T (tny t)) (hwl _ h6) (fun S' hE hb => hVQ _ _ ⟨S', rfl, hE, hb hwp, rfl⟩) 0 (by omega)
  have loop0 : ∀ y, y ≤ tny t → zW V YX10_fillsBest 8 [some (.ref b), some (.int (nI (wyN t T y))), some (.int (nI y)), none, none, none, none] [] (z, h, S1, L) 0 0 := by
    obtain ⟨⟨hl, hlv⟩, ⟨hnc, -⟩, -, ⟨hny, -⟩, -⟩ := id hX1.1
    refine z_down ?_ (fun y hy ih => ?_)
    · refine sX10_fillsBest_8 _ _ _ _ _ ?_
      simp (disch := omega) only [oAld, oAld1, oBin, oGI, oGR, oIf, oIfc, oIld, oInc, oIst, oNop, oPush, hM.1, hM.r28, hM.t28, hM.n28, hM.r54, hM.t54, hM.n54, hM.r23, hM.t23, hM.n23, hl, hny, List.getElem?_cons_zero, List.getElem?_cons_succ, List.set_cons_zero, List.set_cons_succ, List.drop_succ_cons, List.drop_zero, List.take_succ_cons, List.take_zero, List.length_cons, List.length_nil, List.reverse_cons, List.reverse_nil, List.nil_append, List.cons_append, Option.toList_some, Option.toList_none, va_rf_s, true_and, and_true, true_implies, false_implies, not_true_eq_false, not_false_eq_true, Nat.reduceAdd, Nat.reduceLeDiff, Nat.le_add_left, Nat.zero_le, Nat.le_refl, znew, true_or, or_true, b01_t, b01_f, b01_ok, bool_ft, vp_b01, vp_b0, vp_b1, b01_eq0, b01_eq1, implies_true, nI_add, nI_clamp, zi_in, zi_le_t, zi_le_f, zi_lt_t, zi_lt_f, zi_eq_t, zi_eq_f, nI_leI, nI_ltI, nI_eq, z_in, pk_mul, zu_same, zu_rw, zu_ix, zi_ne0, zi_sub, zi_m1, Nat.add_sub_cancel, Nat.reduceMul, Nat.reduceSub]
      rw [bsW_0] at loopW
      exact loopW S1 _ _ _ hE1 (fun j _ => by rw [hr1]) (fun hw => absurd hw (by omega))
    · rw [wyN] at ih
      refine sX10_fillsBest_8 _ _ _ _ _ ?_
      simp (disch := omega) only [oAld, oAld1, oBin, oGI, oGR, oIf, oIfc, oIld, oInc, oIst, oNop, oPush, hM.1, hM.r28, hM.t28, hM.n28, hM.r54, hM.t54, hM.n54, hM.r23, hM.t23, hM.n23, hl, hny, hnc, hr1, List.getElem?_cons_zero, List.getElem?_cons_succ, List.set_cons_zero, List.set_cons_succ, List.drop_succ_cons, List.drop_zero, List.take_succ_cons, List.take_zero, List.length_cons, List.length_nil, List.reverse_cons, List.reverse_nil, List.nil_append, List.cons_append, Option.toList_some, Option.toList_none, va_rf_s, true_and, and_true, true_implies, false_implies, not_true_eq_false, not_false_eq_true, Nat.reduceAdd, Nat.reduceLeDiff, Nat.le_add_left, Nat.zero_le, Nat.le_refl, znew, true_or, or_true, b01_t, b01_f, b01_ok, bool_ft, vp_b01, vp_b0, vp_b1, b01_eq0, b01_eq1, implies_true, nI_add, nI_clamp, zi_in, zi_le_t, zi_le_f, zi_lt_t, zi_lt_f, zi_eq_t, zi_eq_f, nI_leI, nI_ltI, nI_eq, z_in, pk_mul, zu_same, zu_rw, zu_ix, zi_ne0, zi_sub, zi_m1, Nat.add_sub_cancel, Nat.reduceMul, Nat.reduceSub]
      refine ⟨fun h0 => ?_, fun h0 => ?_⟩
      · rw [if_pos (by unfold outF; rw [h0]; decide)] at ih; exact ih
      · rw [if_neg (by unfold outF; simpa using h0)] at ih; exact ih
  refine sX10_fillsBest_4 _ _ _ _ _ ?_
  simp (disch := omega) only [oIst, oPush, List.getElem?_cons_zero, List.getElem?_cons_succ, List.set_cons_zero, List.set_cons_succ, List.drop_succ_cons, List.drop_zero, List.take_succ_cons, List.take_zero, List.length_cons, List.length_nil, List.reverse_cons, List.reverse_nil, List.nil_append, List.cons_append, Option.toList_some, Option.toList_none, va_rf_s, true_and, and_true, true_implies, false_implies, not_true_eq_false, not_false_eq_true, Nat.reduceAdd, Nat.reduceLeDiff, Nat.le_add_left, Nat.zero_le, Nat.le_refl, znew, true_or, or_true, b01_t, b01_f, b01_ok, bool_ft, vp_b01, vp_b0, vp_b1, b01_eq0, b01_eq1, implies_true, nI_add, nI_clamp, zi_in, zi_le_t, zi_le_f, zi_lt_t, zi_lt_f, zi_eq_t, zi_eq_f, nI_leI, nI_ltI, nI_eq, z_in, pk_mul, zu_same, zu_rw, zu_ix, zi_ne0, zi_sub, zi_m1, Nat.add_sub_cancel, Nat.reduceMul, Nat.reduceSub]
  exact loop0 0 (by omega)
theorem zX10_best (hM : isM h b) (hQ : mQ b S lv t T) {at' : Nat → Nat} (hC : rowC t T at') (hH : rowH t T) (i : Int32) :
    zM l E 3 YX10_best [.ref b, .int i] (z, h, S, L) 0 0 (fun r X => ∃ S', X = (z, h, S', L) ∧ mE b S S' ∧ r = some (.int (bestR t T i))) (fun _ _ => False) := by
  have hZ := hQ.2.1
  have h6 : tny t ≤ 6 := hQ.1.1.2.2.2.1.2
  refine zM.go rfl rfl (Nat.le_of_ble_eq_true rfl) (ls := [some (.ref b), some (.int i), none]) rfl ?_
  intro V hVl hVE hVd hVc hVs hVQ hVX
  refine sX10_best_0 _ _ _ _ _ ?_
  simp (disch := omega) only [oAld, oCV, oIfc, oIld, oPush, hM.1, List.getElem?_cons_zero, List.getElem?_cons_succ, List.set_cons_zero, List.set_cons_succ, List.drop_succ_cons, List.drop_zero, List.take_succ_cons, List.take_zero, List.length_cons, List.length_nil, List.reverse_cons, List.reverse_nil, List.nil_append, List.cons_append, Option.toList_some, Option.toList_none, va_rf_s, true_and, and_true, true_implies, false_implies, not_true_eq_false, not_false_eq_true, Nat.reduceAdd, Nat.reduceLeDiff, Nat.le_add_left, Nat.zero_le, Nat.le_refl, znew, true_or, or_true, b01_t, b01_f, b01_ok, bool_ft, vp_b01, vp_b0, vp_b1, b01_eq0, b01_eq1, implies_true, nI_add, nI_clamp, zi_in, zi_le_t, zi_le_f, zi_lt_t, zi_lt_f, zi_eq_t, zi_eq_f, nI_leI, nI_ltI, nI_eq, z_in, pk_mul, zu_same, zu_rw, zu_ix, zi_ne0, zi_sub, zi_m1, Nat.add_sub_cancel, Nat.reduceMul, Nat.reduceSub]
  refine ⟨fun he => ?_, fun he => ?_⟩
  · refine zC.of0 (zX10_fillsBest hM hQ hC hH) (by omega) (Nat.zero_le _) (Nat.zero_le _) ?_
    rintro _ _ ⟨S1, rfl, hE, hb, rfl⟩
    refine sX10_best_19 _ _ _ _ _ ?_
    simp (disch := omega) only [oAld, oAld1, oGR, oIfc, oIld, oIst, oNop, oPush, oRI, hM.1, hM.r62, hM.t62, hM.n62, he, List.getElem?_cons_zero, List.getElem?_cons_succ, List.set_cons_zero, List.set_cons_succ, List.drop_succ_cons, List.drop_zero, List.take_succ_cons, List.take_zero, List.length_cons, List.length_nil, List.reverse_cons, List.reverse_nil, List.nil_append, List.cons_append, Option.toList_some, Option.toList_none, va_rf_s, true_and, and_true, true_implies, false_implies, not_true_eq_false, not_false_eq_true, Nat.reduceAdd, Nat.reduceLeDiff, Nat.le_add_left, Nat.zero_le, Nat.le_refl, znew, true_or, or_true, b01_t, b01_f, b01_ok, bool_ft, vp_b01, vp_b0, vp_b1, b01_eq0, b01_eq1, implies_true, nI_add, nI_clamp, zi_in, zi_le_t, zi_le_f, zi_lt_t, zi_lt_f, zi_eq_t, zi_eq_f, nI_leI, nI_ltI, nI_eq, z_in, pk_mul, zu_same, zu_rw, zu_ix, zi_ne0, zi_sub, zi_m1, Nat.add_sub_cancel, Nat.reduceMul, Nat.reduceSub]
    exact hVQ _ _ ⟨S1, rfl, hE, by rw [bestR, if_pos he]⟩
  · refine zC.of0 (zX10_isYoung hM hQ.1.1 _) (by omega) (Nat.zero_le _) (Nat.zero_le _) ?_
    rintro _ _ ⟨rfl, rfl⟩
    refine sX10_best_10 _ _ _ _ _ ?_
    simp (disch := omega) only [oAld, oCV, oIf, oPush, oRI, hM.1, List.getElem?_cons_zero, List.getElem?_cons_succ, List.set_cons_zero, List.set_cons_succ, List.drop_succ_cons, List.drop_zero, List.take_succ_cons, List.take_zero, List.length_cons, List.length_nil, List.reverse_cons, List.reverse_nil, List.nil_append, List.cons_append, Option.toList_some, Option.toList_none, va_rf_s, true_and, and_true, true_implies, false_implies, not_true_eq_false, not_false_eq_true, Nat.reduceAdd, Nat.reduceLeDiff, Nat.le_add_left, Nat.zero_le, Nat.le_refl, znew, true_or, or_true, b01_t, b01_f, b01_ok, bool_ft, vp_b01, vp_b0, vp_b1, b01_eq0, b01_eq1, implies_true, nI_add, nI_clamp, zi_in, zi_le_t, zi_le_f, zi_lt_t, zi_lt_f, zi_eq_t, zi_eq_f, nI_leI, nI_ltI, nI_eq, z_in, pk_mul, zu_same, zu_rw, zu_ix, zi_ne0, zi_sub, zi_m1, Nat.add_sub_cancel, Nat.reduceMul, Nat.reduceSub]
    refine ⟨fun hok => hVQ _ _ ⟨S, rfl, mE.rf hZ, by rw [bestR, if_neg he, hok]; rfl⟩, fun hok => ?_⟩
    have hok : okI i (tny t) = true := by simpa using hok
    obtain ⟨j, hj, rfl⟩ := (okI_iff (by omega)).mp hok
    refine zC.of0 (zX10_fillsBest hM hQ hC hH) (by omega) (Nat.zero_le _) (Nat.zero_le _) ?_
    rintro _ _ ⟨S1, rfl, hE, hb, rfl⟩
    have e1 := hb j hj
    refine sX10_best_19 _ _ _ _ _ ?_
    simp (disch := omega) only [oAld, oAld1, oGR, oIfc, oIld, oIst, oNop, oPush, oRI, hM.1, hM.r62, hM.t62, hM.n62, he, e1, List.getElem?_cons_zero, List.getElem?_cons_succ, List.set_cons_zero, List.set_cons_succ, List.drop_succ_cons, List.drop_zero, List.take_succ_cons, List.take_zero, List.length_cons, List.length_nil, List.reverse_cons, List.reverse_nil, List.nil_append, List.cons_append, Option.toList_some, Option.toList_none, va_rf_s, true_and, and_true, true_implies, false_implies, not_true_eq_false, not_false_eq_true, Nat.reduceAdd, Nat.reduceLeDiff, Nat.le_add_left, Nat.zero_le, Nat.le_refl, znew, true_or, or_true, b01_t, b01_f, b01_ok, bool_ft, vp_b01, vp_b0, vp_b1, b01_eq0, b01_eq1, implies_true, nI_add, nI_clamp, zi_in, zi_le_t, zi_le_f, zi_lt_t, zi_lt_f, zi_eq_t, zi_eq_f, nI_leI, nI_ltI, nI_eq, z_in, pk_mul, zu_same, zu_rw, zu_ix, zi_ne0, zi_sub, zi_m1, Nat.add_sub_cancel, Nat.reduceMul, Nat.reduceSub]
    exact hVQ _ _ ⟨S1, rfl, hE, by rw [bestR, if_neg he, if_pos hok, nI_clamp (by omega)]⟩
end MR
