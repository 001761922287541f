/-! the model: what it was -/
def allB (p : Nat → Bool) : Nat → Bool
  | 0 => true
  | n + 1 => allB p n && p n
def wgT (t : ZT) (R : Nat → Int32) (y w : Nat) : Int32 := if R (12 + y) = nI 1 then nI 0 else gbT t R y w
def kOk (t : ZT) (T : Nat → Int32) (K : List (Nat × Nat × Bool)) (i w : Nat) : Bool := decide (nI (K.getD i (0, 0, false)).2.1 ≤ wgT t T (K.getD i (0, 0, false)).1 w) == (K.getD i (0, 0, false)).2.2
def wordB (t : ZT) (T : Nat → Int32) (K : List (Nat × Nat × Bool)) (k : Nat) : Int32 := setF (fun w => allB (fun i => kOk t T K i w) k) (tnw t)
def wordsR (t : ZT) (T : Nat → Int32) (K : List (Nat × Nat × Bool)) (k what : Int32) : Int32 := if okI k (K.length + 1) = true ∧ okI what 2 = true then (if what = nI 0 then bitsF 10 (wordB t T K k.toNatClampNeg) else wordB t T K k.toNatClampNeg) else -1
def lkP (t : ZT) (T : Nat → Int32) (set v : Int32) (y w : Nat) : Int32 := if (set >>> (nI w &&& 31)) &&& nI 1 = nI 1 ∧ v ≤ wgT t T y w then nI 1 else nI 0
def lkN (t : ZT) (T : Nat → Int32) (set v : Int32) (y : Nat) : Int32 := sumI (lkP t T set v y) (tnw t)
def lkW (t : ZT) (T : Nat → Int32) (set v : Int32) (y : Nat) : Int32 := if lkN t T set v y ≤ bitsF 10 set - lkN t T set v y then bitsF 10 set - lkN t T set v y else lkN t T set v y
def lkO (t : ZT) (T : Nat → Int32) (set v : Int32) : Nat → zAc
  | 0 => none
  | y + 1 => if T (12 + y) = nI 0 then minS (lkO t T set v y) y (lkW t T set v y) else lkO t T set v y
theorem lkO_B {t : ZT} {T : Nat → Int32} {set v : Int32} : ∀ {n}, n ≤ 6 → acB (lkO t T set v n)
  | 0, _ => fun k v h => by cases h
  | n + 1, hn => by
    rw [lkO]
    split
    · exact (lkO_B (by omega)).min (by omega)
    · exact lkO_B (by omega)
def lookR (t : ZT) (T : Nat → Int32) (K : List (Nat × Nat × Bool)) (k v : Int32) : Int32 := if okI k (K.length + 1) = true ∧ okI v 1000 = true then (if wordB t T K k.toNatClampNeg = nI 0 then -2 else ac1 (lkO t T (wordB t T K k.toNatClampNeg) v (tny t))) else -1
def ac3 (a : zAc) : Int32 := match a with
  | none => nI 0
  | some q => q.2
def kB (t : ZT) (K : List (Nat × Nat × Bool)) : Prop := ∀ i, i < K.length → (K.getD i (0, 0, false)).1 < tny t
section MN
variable {l : Launch} {E : zE} {b z : Nat} {h : Nat → Option zSh} {S : Nat → Nat → Int32} {L : Nat → Nat → Int64} {lv : Nat} {t : ZT} {T R : Nat → Int32} {K : List (Nat × Nat × Bool)}
theorem zX10_wouldGlow (hM : isM h b) (hX : mX b S lv t) (hr : S (b + 37) = R) {y w : Nat} (hy : y < tny t) (hw : w < 5) :
    zM l E 4 YX10_wouldGlow [.ref b, .int (nI y), .int (nI w)] (z, h, S, L) 0 0 (fun r X => ∃ S', X = (z, h, S', L) ∧ zfr [34, 35] [52] b S S' ∧ r = some (.int (wgT t R y w))) (fun _ _ => False) := by
  have hny6 : tny t ≤ 6 := hX.1.2.2.2.1.2
  refine zM.go rfl rfl (Nat.le_of_ble_eq_true rfl) (ls := [some (.ref b), some (.int (nI y)), some (.int (nI w))]) rfl ?_
  intro V hVl hVE hVd hVc hVs hVQ hVX
  refine sX10_wouldGlow_0 _ _ _ _ _ ?_
  simp (disch := omega) only [oAld, oAld1, oBin, oCV, oGR, oIfc, oIld, oNop, oPush, hM.1, hM.r54, hM.t54, hM.n54, hr, List.getElem?_cons_zero, List.getElem?_cons_succ, List.set_cons_zero, List.set_cons_succ, List.drop_succ_cons, List.drop_zero, List.take_succ_cons, List.take_zero, List.length_cons, List.length_nil, List.reverse_cons, List.reverse_nil, List.nil_append, List.cons_append, Option.toList_some, Option.toList_none, va_rf_s, true_and, and_true, true_implies, false_implies, not_true_eq_false, not_false_eq_true, Nat.reduceAdd, Nat.reduceLeDiff, Nat.le_add_left, Nat.zero_le, Nat.le_refl, znew, true_or, or_true, b01_t, b01_f, b01_ok, bool_ft, vp_b01, vp_b0, vp_b1, b01_eq0, b01_eq1, implies_true, nI_add, nI_clamp, zi_in, zi_le_t, zi_le_f, zi_lt_t, zi_lt_f, zi_eq_t, zi_eq_f, nI_leI, nI_ltI, nI_eq, z_in, pk_mul, zu_same, zu_rw, zu_ix, zi_ne0, zi_sub, zi_m1, Nat.add_sub_cancel, Nat.reduceMul, Nat.reduceSub]
  refine ⟨fun h0 => ?_, fun h0 => ?_⟩
  · refine sX10_wouldGlow_23 _ _ _ _ _ ?_
    simp (disch := omega) only [oRI, List.getElem?_cons_zero, List.getElem?_cons_succ, List.set_cons_zero, List.set_cons_succ, List.drop_succ_cons, List.drop_zero, List.take_succ_cons, List.take_zero, List.length_cons, List.length_nil, List.reverse_cons, List.reverse_nil, List.nil_append, List.cons_append, Option.toList_some, Option.toList_none, va_rf_s, true_and, and_true, true_implies, false_implies, not_true_eq_false, not_false_eq_true, Nat.reduceAdd, Nat.reduceLeDiff, Nat.le_add_left, Nat.zero_le, Nat.le_refl, znew, true_or, or_true, b01_t, b01_f, b01_ok, bool_ft, vp_b01, vp_b0, vp_b1, b01_eq0, b01_eq1, implies_true, nI_add, nI_clamp, zi_in, zi_le_t, zi_le_f, zi_lt_t, zi_lt_f, zi_eq_t, zi_eq_f, nI_leI, nI_ltI, nI_eq, z_in, pk_mul, zu_same, zu_rw, zu_ix, zi_ne0, zi_sub, zi_m1, Nat.add_sub_cancel, Nat.reduceMul, Nat.reduceSub]
    exact hVQ _ _ ⟨S, rfl, zfr.rf, by rw [wgT, if_pos h0]⟩
  · refine zC.of0 (zX10_glowBy hM hX hr hy hw) (by omega) (Nat.zero_le _) (Nat.zero_le _) ?_
    rintro _ _ ⟨S1, rfl, hf1, rfl⟩
    refine sX10_wouldGlow_23 _ _ _ _ _ ?_
    simp (disch := omega) only [oRI, List.getElem?_cons_zero, List.getElem?_cons_succ, List.set_cons_zero, List.set_cons_succ, List.drop_succ_cons, List.drop_zero, List.take_succ_cons, List.take_zero, List.length_cons, List.length_nil, List.reverse_cons, List.reverse_nil, List.nil_append, List.cons_append, Option.toList_some, Option.toList_none, va_rf_s, true_and, and_true, true_implies, false_implies, not_true_eq_false, not_false_eq_true, Nat.reduceAdd, Nat.reduceLeDiff, Nat.le_add_left, Nat.zero_le, Nat.le_refl, znew, true_or, or_true, b01_t, b01_f, b01_ok, bool_ft, vp_b01, vp_b0, vp_b1, b01_eq0, b01_eq1, implies_true, nI_add, nI_clamp, zi_in, zi_le_t, zi_le_f, zi_lt_t, zi_lt_f, zi_eq_t, zi_eq_f, nI_leI, nI_ltI, nI_eq, z_in, pk_mul, zu_same, zu_rw, zu_ix, zi_ne0, zi_sub, zi_m1, Nat.add_sub_cancel, Nat.reduceMul, Nat.reduceSub]
    exact hVQ _ _ ⟨S1, rfl, hf1, by rw [wgT, if_neg h0]⟩
theorem zX10_wordBits (hM : isM h b) (hQ : mQ b S lv t T) (hK : mK b S K) (hB : kB t K) {k : Nat} (hk : k ≤ K.length) :
    zM l E 5 YX10_wordBits [.ref b, .int (nI k)] (z, h, S, L) 0 0 (fun r X => ∃ S', X = (z, h, S', L) ∧ mE b S S' ∧ S' (b + 37) = T ∧ r = some (.int (wordB t T K k))) (fun _ _ => False) := by
  refine zM.go rfl rfl (Nat.le_of_ble_eq_true rfl) (ls := [some (.ref b), some (.int (nI k)), none, none, none, none]) rfl ?_
  intro V hVl hVE hVd hVc hVs hVQ hVX
  refine sX10_wordBits_0 _ _ _ _ _ ?_
  simp (disch := omega) only [oAld, oCV, hM.1, List.getElem?_cons_zero, List.getElem?_cons_succ, List.set_cons_zero, List.set_cons_succ, List.drop_succ_cons, List.drop_zero, List.take_succ_cons, List.take_zero, List.length_cons, List.length_nil, List.reverse_cons, List.reverse_nil, List.nil_append, List.cons_append, Option.toList_some, Option.toList_none, va_rf_s, true_and, and_true, true_implies, false_implies, not_true_eq_false, not_false_eq_true, Nat.reduceAdd, Nat.reduceLeDiff, Nat.le_add_left, Nat.zero_le, Nat.le_refl, znew, true_or, or_true, b01_t, b01_f, b01_ok, bool_ft, vp_b01, vp_b0, vp_b1, b01_eq0, b01_eq1, implies_true, nI_add, nI_clamp, zi_in, zi_le_t, zi_le_f, zi_lt_t, zi_lt_f, zi_eq_t, zi_eq_f, nI_leI, nI_ltI, nI_eq, z_in, pk_mul, zu_same, zu_rw, zu_ix, zi_ne0, zi_sub, zi_m1, Nat.add_sub_cancel, Nat.reduceMul, Nat.reduceSub]
  refine zC.of0 (zG_copies hM hQ) (by omega) (Nat.zero_le _) (Nat.zero_le _) ?_
  rintro _ _ ⟨rfl, S1, rfl, hE, hX1, hr, hN, -, -⟩
  obtain ⟨⟨hl, hlv⟩, -, -, ⟨hny, hny6⟩, ⟨hnw, hnw5⟩⟩ := id hX1.1
  have hK1 := hK.fr hE.1 rfl rfl rfl rfl
  have hk20 := hK.2.1
  have loopI : ∀ w, w < 5 → ∀ x : Int32, (∀ S' x5, zfr [34, 35] [52] b S1 S' → zW V YX10_wordBits 8 [some (.ref b), some (.int (nI k)), some (.int (if allB (fun i => kOk t T K i w) k = true then x ||| bitF w else x)), some (.int (nI (w + 1))), some (.int (b01 (allB (fun i => kOk t T K i w) k))), x5] [] (z, h, S', L) 0 0) →
      ∀ i, i ≤ k → ∀ S', zfr [34, 35] [52] b S1 S' → zW V YX10_wordBits 27 [some (.ref b), some (.int (nI k)), some (.int x), some (.int (nI w)), some (.int (b01 (allB (fun i => kOk t T K i w) i))), some (.int (nI i))] [] (z, h, S', L) 0 0 := by
    intro w hw x hn
    refine z_down ?_ (fun i hi ih => ?_)
    · intro S' hf1
      have hn := fun x5 => hn S' x5 hf1
      cases hall : allB (fun i => kOk t T K i w) k with
      | false =>
        rw [hall] at hn
        refine sX10_wordBits_27 _ _ _ _ _ ?_
        simp (disch := omega) only [oAld, oAld1, oBin, oCV, oGR, oIf, oIfc, oIld, oInc, oIst, oNop, oPush, hM.1, hM.r67, hM.t67, hM.n67, List.getElem?_cons_zero, List.getElem?_cons_succ, List.set_cons_zero, List.set_cons_succ, List.drop_succ_cons, List.drop_zero, List.take_succ_cons, List.take_zero, List.length_cons, List.length_nil, List.reverse_cons, List.reverse_nil, List.nil_append, List.cons_append, Option.toList_some, Option.toList_none, va_rf_s, true_and, and_true, true_implies, false_implies, not_true_eq_false, not_false_eq_true, Nat.reduceAdd, Nat.reduceLeDiff, Nat.le_add_left, Nat.zero_le, Nat.le_refl, znew, true_or, or_true, b01_t, b01_f, b01_ok, bool_ft, vp_b01, vp_b0, vp_b1, b01_eq0, b01_eq1, implies_true, nI_add, nI_clamp, zi_in, zi_le_t, zi_le_f, zi_lt_t, zi_lt_f, zi_eq_t, zi_eq_f, nI_leI, nI_ltI, nI_eq, z_in, pk_mul, zu_same, zu_rw, zu_ix, zi_ne0, zi_sub, zi_m1, Nat.add_sub_cancel, Nat.reduceMul, Nat.reduceSub]
        exact hn _
      | true =>
        rw [hall] at hn
        refine sX10_wordBits_27 _ _ _ _ _ ?_
        simp (disch := omega) only [oAld, oAld1, oBin, oCV, oGR, oIf, oIfc, oIld, oInc, oIst, oNop, oPush, hM.1, hM.r67, hM.t67, hM.n67, List.getElem?_cons_zero, List.getElem?_cons_succ, List.set_cons_zero, List.set_cons_succ, List.drop_succ_cons, List.drop_zero, List.take_succ_cons, List.take_zero, List.length_cons, List.length_nil, List.reverse_cons, List.reverse_nil, List.nil_append, List.cons_append, Option.toList_some, Option.toList_none, va_rf_s, true_and, and_true, true_implies, false_implies, not_true_eq_false, not_false_eq_true, Nat.reduceAdd, Nat.reduceLeDiff, Nat.le_add_left, Nat.zero_le, Nat.le_refl, znew, true_or, or_true, b01_t, b01_f, b01_ok, bool_ft, vp_b01, vp_b0, vp_b1, b01_eq0, b01_eq1, implies_true, nI_add, nI_clamp, zi_in, zi_le_t, zi_le_f, zi_lt_t, zi_lt_f, zi_eq_t, zi_eq_f, nI_leI, nI_ltI, nI_eq, z_in, pk_mul, zu_same, zu_rw, zu_ix, zi_ne0, zi_sub, zi_m1, Nat.add_sub_cancel, Nat.reduceMul, Nat.reduceSub]
        exact hn _
    · intro S' hf1
      have hX' := hX1.fr hf1 rfl rfl
      have hK' := hK1.fr hf1 rfl rfl rfl rfl
      obtain ⟨q1, q2, q3⟩ := hK'.2.2 i (by omega)
      refine sX10_wordBits_27 _ _ _ _ _ ?_
      simp (disch := omega) only [oAld, oAld1, oBin, oCV, oGR, oIf, oIfc, oIld, oInc, oIst, oNop, oPush, hM.1, hM.r67, hM.t67, hM.n67, q1, List.getElem?_cons_zero, List.getElem?_cons_succ, List.set_cons_zero, List.set_cons_succ, List.drop_succ_cons, List.drop_zero, List.take_succ_cons, List.take_zero, List.length_cons, List.length_nil, List.reverse_cons, List.reverse_nil, List.nil_append, List.cons_append, Option.toList_some, Option.toList_none, va_rf_s, true_and, and_true, true_implies, false_implies, not_true_eq_false, not_false_eq_true, Nat.reduceAdd, Nat.reduceLeDiff, Nat.le_add_left, Nat.zero_le, Nat.le_refl, znew, true_or, or_true, b01_t, b01_f, b01_ok, bool_ft, vp_b01, vp_b0, vp_b1, b01_eq0, b01_eq1, implies_true, nI_add, nI_clamp, zi_in, zi_le_t, zi_le_f, zi_lt_t, zi_lt_f, zi_eq_t, zi_eq_f, nI_leI, nI_ltI, nI_eq, z_in, pk_mul, zu_same, zu_rw, zu_ix, zi_ne0, zi_sub, zi_m1, Nat.add_sub_cancel, Nat.reduceMul, Nat.reduceSub]
      refine zC.of0 (zX10_wouldGlow hM hX' ((hf1.at (o := 37) rfl rfl).trans hr) (hB i (by omega)) hw) (by omega) (Nat.zero_le _) (Nat.zero_le _) ?_
      rintro _ _ ⟨S2, rfl, hf2, rfl⟩
      have hf12 := hf1.tt hf2
      have hK2 := hK1.fr hf12 rfl rfl rfl rfl
      obtain ⟨q1, q2, q3⟩ := hK2.2.2 i (by omega)
      have ih := ih S2 hf12
      have hp : allB (fun i => kOk t T K i w) (i + 1) = (allB (fun i => kOk t T K i w) i && kOk t T K i w) := rfl
      have hko : kOk t T K i w = (decide (nI (K.getD i (0, 0, false)).2.1 ≤ wgT t T (K.getD i (0, 0, false)).1 w) == (K.getD i (0, 0, false)).2.2) := rfl
      rw [hp] at ih
      refine sX10_wordBits_45 _ _ _ _ _ ?_
      simp (disch := omega) only [oAld, oAld1, oGR, oIfc, oIld, oNop, oPush, hM.1, hM.r68, hM.t68, hM.n68, q2, List.getElem?_cons_zero, List.getElem?_cons_succ, List.set_cons_zero, List.set_cons_succ, List.drop_succ_cons, List.drop_zero, List.take_succ_cons, List.take_zero, List.length_cons, List.length_nil, List.reverse_cons, List.reverse_nil, List.nil_append, List.cons_append, Option.toList_some, Option.toList_none, va_rf_s, true_and, and_true, true_implies, false_implies, not_true_eq_false, not_false_eq_true, Nat.reduceAdd, Nat.reduceLeDiff, Nat.le_add_left, Nat.zero_le, Nat.le_refl, znew, true_or, or_true, b01_t, b01_f, b01_ok, bool_ft, vp_b01, vp_b0, vp_b1, b01_eq0, b01_eq1, implies_true, nI_add, nI_clamp, zi_in, zi_le_t, zi_le_f, zi_lt_t, zi_lt_f, zi_eq_t, zi_eq_f, nI_leI, nI_ltI, nI_eq, z_in, pk_mul, zu_same, zu_rw, zu_ix, zi_ne0, zi_sub, zi_m1, Nat.add_sub_cancel, Nat.reduceMul, Nat.reduceSub]
      refine ⟨fun h0 => ?_, fun h0 => ?_⟩
      · rw [decide_eq_false (fun q => (i_nle q) h0)] at hko
        cases hso : (K.getD i (0, 0, false)).2.2 with
        | false =>
          rw [hso] at q3 hko
          have q3 : S2 (b + 48) i = nI 0 := q3
          refine sX10_wordBits_60 _ _ _ _ _ ?_
          simp (disch := omega) only [oAld, oAld1, oGR, oIfc, oIld, oInc, oIst, oNop, oPush, hM.1, hM.r69, hM.t69, hM.n69, q3, List.getElem?_cons_zero, List.getElem?_cons_succ, List.set_cons_zero, List.set_cons_succ, List.drop_succ_cons, List.drop_zero, List.take_succ_cons, List.take_zero, List.length_cons, List.length_nil, List.reverse_cons, List.reverse_nil, List.nil_append, List.cons_append, Option.toList_some, Option.toList_none, va_rf_s, true_and, and_true, true_implies, false_implies, not_true_eq_false, not_false_eq_true, Nat.reduceAdd, Nat.reduceLeDiff, Nat.le_add_left, Nat.zero_le, Nat.le_refl, znew, true_or, or_true, b01_t, b01_f, b01_ok, bool_ft, vp_b01, vp_b0, vp_b1, b01_eq0, b01_eq1, implies_true, nI_add, nI_clamp, zi_in, zi_le_t, zi_le_f, zi_lt_t, zi_lt_f, zi_eq_t, zi_eq_f, nI_leI, nI_ltI, nI_eq, z_in, pk_mul, zu_same, zu_rw, zu_ix, zi_ne0, zi_sub, zi_m1, Nat.add_sub_cancel, Nat.reduceMul, Nat.reduceSub]
          rw [hko] at ih
          simpa [b01_f] using ih
        | true =>
          rw [hso] at q3 hko
          have q3 : S2 (b + 48) i = nI 1 := q3
          refine sX10_wordBits_60 _ _ _ _ _ ?_
          simp (disch := omega) only [oAld, oAld1, oGR, oIfc, oIld, oInc, oIst, oNop, oPush, hM.1, hM.r69, hM.t69, hM.n69, q3, List.getElem?_cons_zero, List.getElem?_cons_succ, List.set_cons_zero, List.set_cons_succ, List.drop_succ_cons, List.drop_zero, List.take_succ_cons, List.take_zero, List.length_cons, List.length_nil, List.reverse_cons, List.reverse_nil, List.nil_append, List.cons_append, Option.toList_some, Option.toList_none, va_rf_s, true_and, and_true, true_implies, false_implies, not_true_eq_false, not_false_eq_true, Nat.reduceAdd, Nat.reduceLeDiff, Nat.le_add_left, Nat.zero_le, Nat.le_refl, znew, true_or, or_true, b01_t, b01_f, b01_ok, bool_ft, vp_b01, vp_b0, vp_b1, b01_eq0, b01_eq1, implies_true, nI_add, nI_clamp, zi_in, zi_le_t, zi_le_f, zi_lt_t, zi_lt_f, zi_eq_t, zi_eq_f, nI_leI, nI_ltI, nI_eq, z_in, pk_mul, zu_same, zu_rw, zu_ix, zi_ne0, zi_sub, zi_m1, Nat.add_sub_cancel, Nat.reduceMul, Nat.reduceSub]
          rw [hko] at ih
          simpa [b01_f] using ih
      · rw [decide_eq_true (i_le h0)] at hko
        cases hso : (K.getD i (0, 0, false)).2.2 with
        | false =>
          rw [hso] at q3 hko
          have q3 : S2 (b + 48) i = nI 0 := q3
          refine sX10_wordBits_60 _ _ _ _ _ ?_
          simp (disch := omega) only [oAld, oAld1, oGR, oIfc, oIld, oInc, oIst, oNop, oPush, hM.1, hM.r69, hM.t69, hM.n69, q3, List.getElem?_cons_zero, List.getElem?_cons_succ, List.set_cons_zero, List.set_cons_succ, List.drop_succ_cons, List.drop_zero, List.take_succ_cons, List.take_zero, List.length_cons, List.length_nil, List.reverse_cons, List.reverse_nil, List.nil_append, List.cons_append, Option.toList_some, Option.toList_none, va_rf_s, true_and, and_true, true_implies, false_implies, not_true_eq_false, not_false_eq_true, Nat.reduceAdd, Nat.reduceLeDiff, Nat.le_add_left, Nat.zero_le, Nat.le_refl, znew, true_or, or_true, b01_t, b01_f, b01_ok, bool_ft, vp_b01, vp_b0, vp_b1, b01_eq0, b01_eq1, implies_true, nI_add, nI_clamp, zi_in, zi_le_t, zi_le_f, zi_lt_t, zi_lt_f, zi_eq_t, zi_eq_f, nI_leI, nI_ltI, nI_eq, z_in, pk_mul, zu_same, zu_rw, zu_ix, zi_ne0, zi_sub, zi_m1, Nat.add_sub_cancel, Nat.reduceMul, Nat.reduceSub]
          rw [hko] at ih
          simpa [b01_f] using ih
        | true =>
          rw [hso] at q3 hko
          have q3 : S2 (b + 48) i = nI 1 := q3
          refine sX10_wordBits_60 _ _ _ _ _ ?_
          simp (disch := omega) only [oAld, oAld1, oGR, oIfc, oIld, oInc, oIst, oNop, oPush, hM.1, hM.r69, hM.t69, hM.n69, q3, List.getElem?_cons_zero, List.getElem?_cons_succ, List.set_cons_zero, List.set_cons_succ, List.drop_succ_cons, List.drop_zero, List.take_succ_cons, List.take_zero, List.length_cons, List.length_nil, List.reverse_cons, List.reverse_nil, List.nil_append, List.cons_append, Option.toList_some, Option.toList_none, va_rf_s, true_and, and_true, true_implies, false_implies, not_true_eq_false, not_false_eq_true, Nat.reduceAdd, Nat.reduceLeDiff, Nat.le_add_left, Nat.zero_le, Nat.le_refl, znew, true_or, or_true, b01_t, b01_f, b01_ok, bool_ft, vp_b01, vp_b0, vp_b1, b01_eq0, b01_eq1, implies_true, nI_add, nI_clamp, zi_in, zi_le_t, zi_le_f, zi_lt_t, zi_lt_f, zi_eq_t, zi_eq_f, nI_leI, nI_ltI, nI_eq, z_in, pk_mul, zu_same, zu_rw, zu_ix, zi_ne0, zi_sub, zi_m1, Nat.add_sub_cancel, Nat.reduceMul, Nat.reduceSub]
          rw [hko] at ih
          simpa [b01_f] using ih
  generalize hp : (fun w => allB (fun i => kOk t T K i w) k) = p
  have hpw : ∀ w, allB (fun i => kOk t T K i w) k = p w := fun w => by rw [← hp]
  have loopW : ∀ w, w ≤ tnw t → ∀ S' x4 x5, zfr [34, 35] [52] b S1 S' → zW V YX10_wordBits 8 [some (.ref b), some (.int (nI k)), some (.int (setF p w)), some (.int (nI w)), x4, x5] [] (z, h, S', L) 0 0 := by
    refine z_down ?_ (fun w hw ih => ?_)
    · intro S' x4 x5 hf1
      have e1 := (hf1.f (j := 18) rfl).trans hl
      have e2 : S' (b + 19) lv = nI (tnw t) := by rw [hf1.at (o := 19) rfl rfl]; exact hnw
      refine sX10_wordBits_8 _ _ _ _ _ ?_
      simp (disch := omega) only [oAld, oAld1, oGI, oGR, oIfc, oIld, oIst, oPush, oRI, hM.1, hM.r32, hM.t32, hM.n32, e1, e2, List.getElem?_cons_zero, List.getElem?_cons_succ, List.set_cons_zero, List.set_cons_succ, List.drop_succ_cons, List.drop_zero, List.take_succ_cons, List.take_zero, List.length_cons, List.length_nil, List.reverse_cons, List.reverse_nil, List.nil_append, List.cons_append, Option.toList_some, Option.toList_none, va_rf_s, true_and, and_true, true_implies, false_implies, not_true_eq_false, not_false_eq_true, Nat.reduceAdd, Nat.reduceLeDiff, Nat.le_add_left, Nat.zero_le, Nat.le_refl, znew, true_or, or_true, b01_t, b01_f, b01_ok, bool_ft, vp_b01, vp_b0, vp_b1, b01_eq0, b01_eq1, implies_true, nI_add, nI_clamp, zi_in, zi_le_t, zi_le_f, zi_lt_t, zi_lt_f, zi_eq_t, zi_eq_f, nI_leI, nI_ltI, nI_eq, z_in, pk_mul, zu_same, zu_rw, zu_ix, zi_ne0, zi_sub, zi_m1, Nat.add_sub_cancel, Nat.reduceMul, Nat.reduceSub]
      exact hVQ _ _ ⟨S', rfl, hE.q hf1 rfl rfl rfl, (hf1.at (o := 37) rfl rfl).trans hr, by rw [wordB, hp]⟩
    · intro S' x4 x5 hf1
      have e1 := (hf1.f (j := 18) rfl).trans hl
      have e2 : S' (b + 19) lv = nI (tnw t) := by rw [hf1.at (o := 19) rfl rfl]; exact hnw
      refine sX10_wordBits_8 _ _ _ _ _ ?_
      simp (disch := omega) only [oAld, oAld1, oGI, oGR, oIfc, oIld, oIst, oPush, oRI, hM.1, hM.r32, hM.t32, hM.n32, e1, e2, List.getElem?_cons_zero, List.getElem?_cons_succ, List.set_cons_zero, List.set_cons_succ, List.drop_succ_cons, List.drop_zero, List.take_succ_cons, List.take_zero, List.length_cons, List.length_nil, List.reverse_cons, List.reverse_nil, List.nil_append, List.cons_append, Option.toList_some, Option.toList_none, va_rf_s, true_and, and_true, true_implies, false_implies, not_true_eq_false, not_false_eq_true, Nat.reduceAdd, Nat.reduceLeDiff, Nat.le_add_left, Nat.zero_le, Nat.le_refl, znew, true_or, or_true, b01_t, b01_f, b01_ok, bool_ft, vp_b01, vp_b0, vp_b1, b01_eq0, b01_eq1, implies_true, nI_add, nI_clamp, zi_in, zi_le_t, zi_le_f, zi_lt_t, zi_lt_f, zi_eq_t, zi_eq_f, nI_leI, nI_ltI, nI_eq, z_in, pk_mul, zu_same, zu_rw, zu_ix, zi_ne0, zi_sub, zi_m1, Nat.add_sub_cancel, Nat.reduceMul, Nat.reduceSub]
      refine loopI w (by omega) (setF p w) (fun S' x5 hf => ?_) 0 (by omega) S' hf1
      rw [hpw]
      exact ih S' _ _ hf
  refine sX10_wordBits_4 _ _ _ _ _ ?_
  simp (disch := omega) only [oIst, oPush, List.getElem?_cons_zero, List.getElem?_cons_succ, List.set_cons_zero, List.set_cons_succ, List.drop_succ_cons, List.drop_zero, List.take_succ_cons, List.take_zero, List.length_cons, List.length_nil, List.reverse_cons, List.reverse_nil, List.nil_append, List.cons_append, Option.toList_some, Option.toList_none, va_rf_s, true_and, and_true, true_implies, false_implies, not_true_eq_false, not_false_eq_true, Nat.reduceAdd, Nat.reduceLeDiff, Nat.le_add_left, Nat.zero_le, Nat.le_refl, znew, true_or, or_true, b01_t, b01_f, b01_ok, bool_ft, vp_b01, vp_b0, vp_b1, b01_eq0, b01_eq1, implies_true, nI_add, nI_clamp, zi_in, zi_le_t, zi_le_f, zi_lt_t, zi_lt_f, zi_eq_t, zi_eq_f, nI_leI, nI_ltI, nI_eq, z_in, pk_mul, zu_same, zu_rw, zu_ix, zi_ne0, zi_sub, zi_m1, Nat.add_sub_cancel, Nat.reduceMul, Nat.reduceSub]
  exact loopW 0 (by omega) S1 _ _ zfr.rf
theorem zX10_words (hM : isM h b) (hQ : mQ b S lv t T) (hK : mK b S K) (hB : kB t K) (k what : Int32) :
    zM l E 6 YX10_words [.ref b, .int k, .int what] (z, h, S, L) 0 0 (fun r X => ∃ S', X = (z, h, S', L) ∧ mE b S S' ∧ r = some (.int (wordsR t T K k what))) (fun _ _ => False) := by
  have hZ := hQ.2.1
  have hk20 := hK.2.1
  refine zM.go rfl rfl (Nat.le_of_ble_eq_true rfl) (ls := [some (.ref b), some (.int k), some (.int what), none]) rfl ?_
  intro V hVl hVE hVd hVc hVs hVQ hVX
  refine sX10_words_0 _ _ _ _ _ ?_
  simp (disch := omega) only [oAld, oCS, oGI, oIld, oPush, hM.1, hK.1, List.getElem?_cons_zero, List.getElem?_cons_succ, List.set_cons_zero, List.set_cons_succ, List.drop_succ_cons, List.drop_zero, List.take_succ_cons, List.take_zero, List.length_cons, List.length_nil, List.reverse_cons, List.reverse_nil, List.nil_append, List.cons_append, Option.toList_some, Option.toList_none, va_rf_s, true_and, and_true, true_implies, false_implies, not_true_eq_false, not_false_eq_true, Nat.reduceAdd, Nat.reduceLeDiff, Nat.le_add_left, Nat.zero_le, Nat.le_refl, znew, true_or, or_true, b01_t, b01_f, b01_ok, bool_ft, vp_b01, vp_b0, vp_b1, b01_eq0, b01_eq1, implies_true, nI_add, nI_clamp, zi_in, zi_le_t, zi_le_f, zi_lt_t, zi_lt_f, zi_eq_t, zi_eq_f, nI_leI, nI_ltI, nI_eq, z_in, pk_mul, zu_same, zu_rw, zu_ix, zi_ne0, zi_sub, zi_m1, Nat.add_sub_cancel, Nat.reduceMul, Nat.reduceSub]
  refine zC.of0 (zX10_in _ _ _ _) (by omega) (Nat.zero_le _) (Nat.zero_le _) ?_
  rintro _ _ ⟨rfl, rfl⟩
  rw [okI_dec2 (by omega)]
  cases hok : okI k (K.length + 1) with
  | false =>
    refine sX10_words_9 _ _ _ _ _ ?_
    simp (disch := omega) only [oCS, oIf, oIld, oPush, oRI, List.getElem?_cons_zero, List.getElem?_cons_succ, List.set_cons_zero, List.set_cons_succ, List.drop_succ_cons, List.drop_zero, List.take_succ_cons, List.take_zero, List.length_cons, List.length_nil, List.reverse_cons, List.reverse_nil, List.nil_append, List.cons_append, Option.toList_some, Option.toList_none, va_rf_s, true_and, and_true, true_implies, false_implies, not_true_eq_false, not_false_eq_true, Nat.reduceAdd, Nat.reduceLeDiff, Nat.le_add_left, Nat.zero_le, Nat.le_refl, znew, true_or, or_true, b01_t, b01_f, b01_ok, bool_ft, vp_b01, vp_b0, vp_b1, b01_eq0, b01_eq1, implies_true, nI_add, nI_clamp, zi_in, zi_le_t, zi_le_f, zi_lt_t, zi_lt_f, zi_eq_t, zi_eq_f, nI_leI, nI_ltI, nI_eq, z_in, pk_mul, zu_same, zu_rw, zu_ix, zi_ne0, zi_sub, zi_m1, Nat.add_sub_cancel, Nat.reduceMul, Nat.reduceSub]
    exact hVQ _ _ ⟨S, rfl, mE.rf hZ, by simp [wordsR, hok]⟩
  | true =>
    obtain ⟨m, hm, rfl⟩ := (okI_iff (by omega)).mp hok
    refine sX10_words_9 _ _ _ _ _ ?_
    simp (disch := omega) only [oCS, oIf, oIld, oPush, oRI, List.getElem?_cons_zero, List.getElem?_cons_succ, List.set_cons_zero, List.set_cons_succ, List.drop_succ_cons, List.drop_zero, List.take_succ_cons, List.take_zero, List.length_cons, List.length_nil, List.reverse_cons, List.reverse_nil, List.nil_append, List.cons_append, Option.toList_some, Option.toList_none, va_rf_s, true_and, and_true, true_implies, false_implies, not_true_eq_false, not_false_eq_true, Nat.reduceAdd, Nat.reduceLeDiff, Nat.le_add_left, Nat.zero_le, Nat.le_refl, znew, true_or, or_true, b01_t, b01_f, b01_ok, bool_ft, vp_b01, vp_b0, vp_b1, b01_eq0, b01_eq1, implies_true, nI_add, nI_clamp, zi_in, zi_le_t, zi_le_f, zi_lt_t, zi_lt_f, zi_eq_t, zi_eq_f, nI_leI, nI_ltI, nI_eq, z_in, pk_mul, zu_same, zu_rw, zu_ix, zi_ne0, zi_sub, zi_m1, Nat.add_sub_cancel, Nat.reduceMul, Nat.reduceSub]
    refine zC.of0 (zX10_in _ _ _ _) (by omega) (Nat.zero_le _) (Nat.zero_le _) ?_
    rintro _ _ ⟨rfl, rfl⟩
    rw [okI_dec2 (by omega)]
    cases hw : okI what (1 + 1) with
    | false =>
      refine sX10_words_18 _ _ _ _ _ ?_
      simp (disch := omega) only [oAld, oCV, oIf, oIld, oPush, oRI, hM.1, List.getElem?_cons_zero, List.getElem?_cons_succ, List.set_cons_zero, List.set_cons_succ, List.drop_succ_cons, List.drop_zero, List.take_succ_cons, List.take_zero, List.length_cons, List.length_nil, List.reverse_cons, List.reverse_nil, List.nil_append, List.cons_append, Option.toList_some, Option.toList_none, va_rf_s, true_and, and_true, true_implies, false_implies, not_true_eq_false, not_false_eq_true, Nat.reduceAdd, Nat.reduceLeDiff, Nat.le_add_left, Nat.zero_le, Nat.le_refl, znew, true_or, or_true, b01_t, b01_f, b01_ok, bool_ft, vp_b01, vp_b0, vp_b1, b01_eq0, b01_eq1, implies_true, nI_add, nI_clamp, zi_in, zi_le_t, zi_le_f, zi_lt_t, zi_lt_f, zi_eq_t, zi_eq_f, nI_leI, nI_ltI, nI_eq, z_in, pk_mul, zu_same, zu_rw, zu_ix, zi_ne0, zi_sub, zi_m1, Nat.add_sub_cancel, Nat.reduceMul, Nat.reduceSub]
      exact hVQ _ _ ⟨S, rfl, mE.rf hZ, by simp [wordsR, hw]⟩
    | true =>
      refine sX10_words_18 _ _ _ _ _ ?_
      simp (disch := omega) only [oAld, oCV, oIf, oIld, oPush, oRI, hM.1, List.getElem?_cons_zero, List.getElem?_cons_succ, List.set_cons_zero, List.set_cons_succ, List.drop_succ_cons, List.drop_zero, List.take_succ_cons, List.take_zero, List.length_cons, List.length_nil, List.reverse_cons, List.reverse_nil, List.nil_append, List.cons_append, Option.toList_some, Option.toList_none, va_rf_s, true_and, and_true, true_implies, false_implies, not_true_eq_false, not_false_eq_true, Nat.reduceAdd, Nat.reduceLeDiff, Nat.le_add_left, Nat.zero_le, Nat.le_refl, znew, true_or, or_true, b01_t, b01_f, b01_ok, bool_ft, vp_b01, vp_b0, vp_b1, b01_eq0, b01_eq1, implies_true, nI_add, nI_clamp, zi_in, zi_le_t, zi_le_f, zi_lt_t, zi_lt_f, zi_eq_t, zi_eq_f, nI_leI, nI_ltI, nI_eq, z_in, pk_mul, zu_same, zu_rw, zu_ix, zi_ne0, zi_sub, zi_m1, Nat.add_sub_cancel, Nat.reduceMul, Nat.reduceSub]
      refine zC.of0 (zX10_wordBits hM hQ hK hB (show m ≤ K.length by omega)) (by omega) (Nat.zero_le _) (Nat.zero_le _) ?_
      rintro _ _ ⟨S1, rfl, hE, hr, rfl⟩
      refine sX10_words_28 _ _ _ _ _ ?_
      simp (disch := omega) only [oCS, oIf, oIld, oIst, oRI, List.getElem?_cons_zero, List.getElem?_cons_succ, List.set_cons_zero, List.set_cons_succ, List.drop_succ_cons, List.drop_zero, List.take_succ_cons, List.take_zero, List.length_cons, List.length_nil, List.reverse_cons, List.reverse_nil, List.nil_append, List.cons_append, Option.toList_some, Option.toList_none, va_rf_s, true_and, and_true, true_implies, false_implies, not_true_eq_false, not_false_eq_true, Nat.reduceAdd, Nat.reduceLeDiff, Nat.le_add_left, Nat.zero_le, Nat.le_refl, znew, true_or, or_true, b01_t, b01_f, b01_ok, bool_ft, vp_b01, vp_b0, vp_b1, b01_eq0, b01_eq1, implies_true, nI_add, nI_clamp, zi_in, zi_le_t, zi_le_f, zi_lt_t, zi_lt_f, zi_eq_t, zi_eq_f, nI_leI, nI_ltI, nI_eq, z_in, pk_mul, zu_same, zu_rw, zu_ix, zi_ne0, zi_sub, zi_m1, Nat.add_sub_cancel, Nat.reduceMul, Nat.reduceSub]
      refine ⟨fun h0 => ?_, fun h0 => hVQ _ _ ⟨S1, rfl, hE, by rw [wordsR, if_pos ⟨hok, hw⟩, if_neg h0, nI_clamp (by omega)]⟩⟩
      refine zC.of0 (zX10_bits _ _) (by omega) (Nat.zero_le _) (Nat.zero_le _) ?_
      rintro _ _ ⟨rfl, rfl⟩
      refine sX10_words_37 _ _ _ _ _ ?_
      simp (disch := omega) only [oNop, oRI, List.getElem?_cons_zero, List.getElem?_cons_succ, List.set_cons_zero, List.set_cons_succ, List.drop_succ_cons, List.drop_zero, List.take_succ_cons, List.take_zero, List.length_cons, List.length_nil, List.reverse_cons, List.reverse_nil, List.nil_append, List.cons_append, Option.toList_some, Option.toList_none, va_rf_s, true_and, and_true, true_implies, false_implies, not_true_eq_false, not_false_eq_true, Nat.reduceAdd, Nat.reduceLeDiff, Nat.le_add_left, Nat.zero_le, Nat.le_refl, znew, true_or, or_true, b01_t, b01_f, b01_ok, bool_ft, vp_b01, vp_b0, vp_b1, b01_eq0, b01_eq1, implies_true, nI_add, nI_clamp, zi_in, zi_le_t, zi_le_f, zi_lt_t, zi_lt_f, zi_eq_t, zi_eq_f, nI_leI, nI_ltI, nI_eq, z_in, pk_mul, zu_same, zu_rw, zu_ix, zi_ne0, zi_sub, zi_m1, Nat.add_sub_cancel, Nat.reduceMul, Nat.reduceSub]
      exact hVQ _ _ ⟨S1, rfl, hE, by rw [wordsR, if_pos ⟨hok, hw⟩, if_pos h0, nI_clamp (by omega)]⟩
theorem zX10_look (hM : isM h b) (hQ : mQ b S lv t T) (hK : mK b S K) (hB : kB t K) (k v : Int32) :
    zM l E 6 YX10_look [.ref b, .int k, .int v] (z, h, S, L) 0 0 (fun r X => ∃ S', X = (z, h, S', L) ∧ mE b S S' ∧ r = some (.int (lookR t T K k v))) (fun _ _ => False) := by
  have hZ := hQ.2.1
  have hk20 := hK.2.1
  refine zM.go rfl rfl (Nat.le_of_ble_eq_true rfl) (ls := [some (.ref b), some (.int k), some (.int v), none, none, none, none, none, none]) rfl ?_
  intro V hVl hVE hVd hVc hVs hVQ hVX
  refine sX10_look_0 _ _ _ _ _ ?_
  simp (disch := omega) only [oAld, oCS, oGI, oIld, oPush, hM.1, hK.1, List.getElem?_cons_zero, List.getElem?_cons_succ, List.set_cons_zero, List.set_cons_succ, List.drop_succ_cons, List.drop_zero, List.take_succ_cons, List.take_zero, List.length_cons, List.length_nil, List.reverse_cons, List.reverse_nil, List.nil_append, List.cons_append, Option.toList_some, Option.toList_none, va_rf_s, true_and, and_true, true_implies, false_implies, not_true_eq_false, not_false_eq_true, Nat.reduceAdd, Nat.reduceLeDiff, Nat.le_add_left, Nat.zero_le, Nat.le_refl, znew, true_or, or_true, b01_t, b01_f, b01_ok, bool_ft, vp_b01, vp_b0, vp_b1, b01_eq0, b01_eq1, implies_true, nI_add, nI_clamp, zi_in, zi_le_t, zi_le_f, zi_lt_t, zi_lt_f, zi_eq_t, zi_eq_f, nI_leI, nI_ltI, nI_eq, z_in, pk_mul, zu_same, zu_rw, zu_ix, zi_ne0, zi_sub, zi_m1, Nat.add_sub_cancel, Nat.reduceMul, Nat.reduceSub]
  refine zC.of0 (zX10_in _ _ _ _) (by omega) (Nat.zero_le _) (Nat.zero_le _) ?_
  rintro _ _ ⟨rfl, rfl⟩
  rw [okI_dec2 (by omega)]
  cases hok : okI k (K.length + 1) with
  | false =>
    refine sX10_look_9 _ _ _ _ _ ?_
    simp (disch := omega) only [oCS, oIf, oIld, oPush, oRI, List.getElem?_cons_zero, List.getElem?_cons_succ, List.set_cons_zero, List.set_cons_succ, List.drop_succ_cons, List.drop_zero, List.take_succ_cons, List.take_zero, List.length_cons, List.length_nil, List.reverse_cons, List.reverse_nil, List.nil_append, List.cons_append, Option.toList_some, Option.toList_none, va_rf_s, true_and, and_true, true_implies, false_implies, not_true_eq_false, not_false_eq_true, Nat.reduceAdd, Nat.reduceLeDiff, Nat.le_add_left, Nat.zero_le, Nat.le_refl, znew, true_or, or_true, b01_t, b01_f, b01_ok, bool_ft, vp_b01, vp_b0, vp_b1, b01_eq0, b01_eq1, implies_true, nI_add, nI_clamp, zi_in, zi_le_t, zi_le_f, zi_lt_t, zi_lt_f, zi_eq_t, zi_eq_f, nI_leI, nI_ltI, nI_eq, z_in, pk_mul, zu_same, zu_rw, zu_ix, zi_ne0, zi_sub, zi_m1, Nat.add_sub_cancel, Nat.reduceMul, Nat.reduceSub]
    exact hVQ _ _ ⟨S, rfl, mE.rf hZ, by simp [lookR, hok]⟩
  | true =>
    obtain ⟨m, hm, rfl⟩ := (okI_iff (by omega)).mp hok
    refine sX10_look_9 _ _ _ _ _ ?_
    simp (disch := omega) only [oCS, oIf, oIld, oPush, oRI, List.getElem?_cons_zero, List.getElem?_cons_succ, List.set_cons_zero, List.set_cons_succ, List.drop_succ_cons, List.drop_zero, List.take_succ_cons, List.take_zero, List.length_cons, List.length_nil, List.reverse_cons, List.reverse_nil, List.nil_append, List.cons_append, Option.toList_some, Option.toList_none, va_rf_s, true_and, and_true, true_implies, false_implies, not_true_eq_false, not_false_eq_true, Nat.reduceAdd, Nat.reduceLeDiff, Nat.le_add_left, Nat.zero_le, Nat.le_refl, znew, true_or, or_true, b01_t, b01_f, b01_ok, bool_ft, vp_b01, vp_b0, vp_b1, b01_eq0, b01_eq1, implies_true, nI_add, nI_clamp, zi_in, zi_le_t, zi_le_f, zi_lt_t, zi_lt_f, zi_eq_t, zi_eq_f, nI_leI, nI_ltI, nI_eq, z_in, pk_mul, zu_same, zu_rw, zu_ix, zi_ne0, zi_sub, zi_m1, Nat.add_sub_cancel, Nat.reduceMul, Nat.reduceSub]
    refine zC.of0 (zX10_in _ _ _ _) (by omega) (Nat.zero_le _) (Nat.zero_le _) ?_
    rintro _ _ ⟨rfl, rfl⟩
    rw [okI_dec2 (by omega)]
    cases hw : okI v (999 + 1) with
    | false =>
      refine sX10_look_20 _ _ _ _ _ ?_
      simp (disch := omega) only [oAld, oCV, oIf, oIld, oPush, oRI, hM.1, List.getElem?_cons_zero, List.getElem?_cons_succ, List.set_cons_zero, List.set_cons_succ, List.drop_succ_cons, List.drop_zero, List.take_succ_cons, List.take_zero, List.length_cons, List.length_nil, List.reverse_cons, List.reverse_nil, List.nil_append, List.cons_append, Option.toList_some, Option.toList_none, va_rf_s, true_and, and_true, true_implies, false_implies, not_true_eq_false, not_false_eq_true, Nat.reduceAdd, Nat.reduceLeDiff, Nat.le_add_left, Nat.zero_le, Nat.le_refl, znew, true_or, or_true, b01_t, b01_f, b01_ok, bool_ft, vp_b01, vp_b0, vp_b1, b01_eq0, b01_eq1, implies_true, nI_add, nI_clamp, zi_in, zi_le_t, zi_le_f, zi_lt_t, zi_lt_f, zi_eq_t, zi_eq_f, nI_leI, nI_ltI, nI_eq, z_in, pk_mul, zu_same, zu_rw, zu_ix, zi_ne0, zi_sub, zi_m1, Nat.add_sub_cancel, Nat.reduceMul, Nat.reduceSub]
      exact hVQ _ _ ⟨S, rfl, mE.rf hZ, by simp [lookR, hw]⟩
    | true =>
      refine sX10_look_20 _ _ _ _ _ ?_
      simp (disch := omega) only [oAld, oCV, oIf, oIld, oPush, oRI, hM.1, List.getElem?_cons_zero, List.getElem?_cons_succ, List.set_cons_zero, List.set_cons_succ, List.drop_succ_cons, List.drop_zero, List.take_succ_cons, List.take_zero, List.length_cons, List.length_nil, List.reverse_cons, List.reverse_nil, List.nil_append, List.cons_append, Option.toList_some, Option.toList_none, va_rf_s, true_and, and_true, true_implies, false_implies, not_true_eq_false, not_false_eq_true, Nat.reduceAdd, Nat.reduceLeDiff, Nat.le_add_left, Nat.zero_le, Nat.le_refl, znew, true_or, or_true, b01_t, b01_f, b01_ok, bool_ft, vp_b01, vp_b0, vp_b1, b01_eq0, b01_eq1, implies_true, nI_add, nI_clamp, zi_in, zi_le_t, zi_le_f, zi_lt_t, zi_lt_f, zi_eq_t, zi_eq_f, nI_leI, nI_ltI, nI_eq, z_in, pk_mul, zu_same, zu_rw, zu_ix, zi_ne0, zi_sub, zi_m1, Nat.add_sub_cancel, Nat.reduceMul, Nat.reduceSub]
      refine zC.of0 (zX10_wordBits hM hQ hK hB (show m ≤ K.length by omega)) (by omega) (Nat.zero_le _) (Nat.zero_le _) ?_
      rintro _ _ ⟨S1, rfl, hE, hr, rfl⟩
      have hQ1 := hQ.fr hE
      have hX1 := hQ1.1
      have hN := hQ1.2.2
      obtain ⟨⟨hl, hlv⟩, -, -, ⟨hny, hny6⟩, ⟨hnw, hnw5⟩⟩ := id hX1.1
      have hR : lookR t T K (nI m) v = if wordB t T K m = nI 0 then -2 else ac1 (lkO t T (wordB t T K m) v (tny t)) := by rw [lookR, if_pos ⟨hok, hw⟩, nI_clamp (by omega)]
      generalize wordB t T K m = set at hR ⊢
      refine sX10_look_30 _ _ _ _ _ ?_
      simp (disch := omega) only [oIst, oPush, List.getElem?_cons_zero, List.getElem?_cons_succ, List.set_cons_zero, List.set_cons_succ, List.drop_succ_cons, List.drop_zero, List.take_succ_cons, List.take_zero, List.length_cons, List.length_nil, List.reverse_cons, List.reverse_nil, List.nil_append, List.cons_append, Option.toList_some, Option.toList_none, va_rf_s, true_and, and_true, true_implies, false_implies, not_true_eq_false, not_false_eq_true, Nat.reduceAdd, Nat.reduceLeDiff, Nat.le_add_left, Nat.zero_le, Nat.le_refl, znew, true_or, or_true, b01_t, b01_f, b01_ok, bool_ft, vp_b01, vp_b0, vp_b1, b01_eq0, b01_eq1, implies_true, nI_add, nI_clamp, zi_in, zi_le_t, zi_le_f, zi_lt_t, zi_lt_f, zi_eq_t, zi_eq_f, nI_leI, nI_ltI, nI_eq, z_in, pk_mul, zu_same, zu_rw, zu_ix, zi_ne0, zi_sub, zi_m1, Nat.add_sub_cancel, Nat.reduceMul, Nat.reduceSub]
      have loopW : ∀ y, y < tny t → ∀ a4 a5 : Int32, (∀ S', zfr [34, 35] [52] b S1 S' → zW V YX10_look 77 [some (.ref b), some (.int (nI m)), some (.int v), some (.int set), some (.int a4), some (.int a5), some (.int (nI y)), some (.int (lkN t T set v y)), some (.int (nI (tnw t)))] [] (z, h, S', L) 0 0) →
          ∀ w, w ≤ tnw t → ∀ S', zfr [34, 35] [52] b S1 S' → zW V YX10_look 77 [some (.ref b), some (.int (nI m)), some (.int v), some (.int set), some (.int a4), some (.int a5), some (.int (nI y)), some (.int (sumI (lkP t T set v y) w)), some (.int (nI w))] [] (z, h, S', L) 0 0 := by
        intro y hy a4 a5 hn
        refine z_down (fun S' hf => hn S' hf) (fun w hwn ih => ?_)
        intro S' hf1
        have hX' := hX1.fr hf1 rfl rfl
        have e1 := (hf1.f (j := 18) rfl).trans hl
        have e2 : S' (b + 19) lv = nI (tnw t) := by rw [hf1.at (o := 19) rfl rfl]; exact hnw
        have hp : sumI (lkP t T set v y) (w + 1) = sumI (lkP t T set v y) w + lkP t T set v y w := rfl
        rw [hp] at ih
        refine sX10_look_77 _ _ _ _ _ ?_
        simp (disch := omega) only [oAld, oAld1, oBin, oCS, oCV, oGI, oGR, oIfc, oIld, oInc, oNop, oPush, hM.1, hM.r32, hM.t32, hM.n32, e1, e2, List.getElem?_cons_zero, List.getElem?_cons_succ, List.set_cons_zero, List.set_cons_succ, List.drop_succ_cons, List.drop_zero, List.take_succ_cons, List.take_zero, List.length_cons, List.length_nil, List.reverse_cons, List.reverse_nil, List.nil_append, List.cons_append, Option.toList_some, Option.toList_none, va_rf_s, true_and, and_true, true_implies, false_implies, not_true_eq_false, not_false_eq_true, Nat.reduceAdd, Nat.reduceLeDiff, Nat.le_add_left, Nat.zero_le, Nat.le_refl, znew, true_or, or_true, b01_t, b01_f, b01_ok, bool_ft, vp_b01, vp_b0, vp_b1, b01_eq0, b01_eq1, implies_true, nI_add, nI_clamp, zi_in, zi_le_t, zi_le_f, zi_lt_t, zi_lt_f, zi_eq_t, zi_eq_f, nI_leI, nI_ltI, nI_eq, z_in, pk_mul, zu_same, zu_rw, zu_ix, zi_ne0, zi_sub, zi_m1, Nat.add_sub_cancel, Nat.reduceMul, Nat.reduceSub]
        refine ⟨fun h0 => ?_, fun h0 => ?_⟩
        · refine zC.of0 (zX10_wouldGlow hM hX' ((hf1.at (o := 37) rfl rfl).trans hr) hy (show w < 5 by omega)) (by omega) (Nat.zero_le _) (Nat.zero_le _) ?_
          rintro _ _ ⟨S2, rfl, hf2, rfl⟩
          have ih := ih S2 (hf1.tt hf2)
          refine sX10_look_109 _ _ _ _ _ ?_
          simp (disch := omega) only [oIfc, oIld, oInc, oNop, List.getElem?_cons_zero, List.getElem?_cons_succ, List.set_cons_zero, List.set_cons_succ, List.drop_succ_cons, List.drop_zero, List.take_succ_cons, List.take_zero, List.length_cons, List.length_nil, List.reverse_cons, List.reverse_nil, List.nil_append, List.cons_append, Option.toList_some, Option.toList_none, va_rf_s, true_and, and_true, true_implies, false_implies, not_true_eq_false, not_false_eq_true, Nat.reduceAdd, Nat.reduceLeDiff, Nat.le_add_left, Nat.zero_le, Nat.le_refl, znew, true_or, or_true, b01_t, b01_f, b01_ok, bool_ft, vp_b01, vp_b0, vp_b1, b01_eq0, b01_eq1, implies_true, nI_add, nI_clamp, zi_in, zi_le_t, zi_le_f, zi_lt_t, zi_lt_f, zi_eq_t, zi_eq_f, nI_leI, nI_ltI, nI_eq, z_in, pk_mul, zu_same, zu_rw, zu_ix, zi_ne0, zi_sub, zi_m1, Nat.add_sub_cancel, Nat.reduceMul, Nat.reduceSub]
          refine ⟨fun h1 => ?_, fun h1 => ?_⟩
          · rw [lkP, if_neg (fun q => i_nle q.2 h1), i_add0] at ih; exact ih
          · rw [lkP, if_pos ⟨h0, i_le h1⟩] at ih; exact ih
        · have ih := ih S' hf1
          rw [lkP, if_neg (fun q => h0 q.1), i_add0] at ih; exact ih
      by_cases hs0 : set = nI 0
      · subst hs0
        rw [if_pos rfl] at hR
        have fin := hVQ (some (.int (-2))) (z, h, S1, L) ⟨S1, rfl, hE, by rw [hR]⟩
        by_cases hn0 : tny t = 0
        · rw [hn0] at hny
          refine sX10_look_41 _ _ _ _ _ ?_
          simp (disch := omega) only [oAld, oAld1, oCV, oGI, oGR, oIf, oIfc, oIld, oRI, hM.1, hM.r28, hM.t28, hM.n28, hl, hny, List.getElem?_cons_zero, List.getElem?_cons_succ, List.set_cons_zero, List.set_cons_succ, List.drop_succ_cons, List.drop_zero, List.take_succ_cons, List.take_zero, List.length_cons, List.length_nil, List.reverse_cons, List.reverse_nil, List.nil_append, List.cons_append, Option.toList_some, Option.toList_none, va_rf_s, true_and, and_true, true_implies, false_implies, not_true_eq_false, not_false_eq_true, Nat.reduceAdd, Nat.reduceLeDiff, Nat.le_add_left, Nat.zero_le, Nat.le_refl, znew, true_or, or_true, b01_t, b01_f, b01_ok, bool_ft, vp_b01, vp_b0, vp_b1, b01_eq0, b01_eq1, implies_true, nI_add, nI_clamp, zi_in, zi_le_t, zi_le_f, zi_lt_t, zi_lt_f, zi_eq_t, zi_eq_f, nI_leI, nI_ltI, nI_eq, z_in, pk_mul, zu_same, zu_rw, zu_ix, zi_ne0, zi_sub, zi_m1, Nat.add_sub_cancel, Nat.reduceMul, Nat.reduceSub]
          exact fin
        · refine sX10_look_41 _ _ _ _ _ ?_
          simp (disch := omega) only [oAld, oAld1, oCV, oGI, oGR, oIf, oIfc, oIld, oRI, hM.1, hM.r28, hM.t28, hM.n28, hl, hny, List.getElem?_cons_zero, List.getElem?_cons_succ, List.set_cons_zero, List.set_cons_succ, List.drop_succ_cons, List.drop_zero, List.take_succ_cons, List.take_zero, List.length_cons, List.length_nil, List.reverse_cons, List.reverse_nil, List.nil_append, List.cons_append, Option.toList_some, Option.toList_none, va_rf_s, true_and, and_true, true_implies, false_implies, not_true_eq_false, not_false_eq_true, Nat.reduceAdd, Nat.reduceLeDiff, Nat.le_add_left, Nat.zero_le, Nat.le_refl, znew, true_or, or_true, b01_t, b01_f, b01_ok, bool_ft, vp_b01, vp_b0, vp_b1, b01_eq0, b01_eq1, implies_true, nI_add, nI_clamp, zi_in, zi_le_t, zi_le_f, zi_lt_t, zi_lt_f, zi_eq_t, zi_eq_f, nI_leI, nI_ltI, nI_eq, z_in, pk_mul, zu_same, zu_rw, zu_ix, zi_ne0, zi_sub, zi_m1, Nat.add_sub_cancel, Nat.reduceMul, Nat.reduceSub]
          exact fin
      rw [if_neg hs0] at hR
      have loopY : ∀ y, y ≤ tny t → ∀ S' x7 x8, zfr [34, 35] [52] b S1 S' → zW V YX10_look 41 [some (.ref b), some (.int (nI m)), some (.int v), some (.int set), some (.int (ac1 (lkO t T set v y))), some (.int (ac3 (lkO t T set v y))), some (.int (nI y)), x7, x8] [] (z, h, S', L) 0 0 := by
        refine z_down ?_ (fun y hy ih => ?_)
        · intro S' x7 x8 hf1
          have e1 := (hf1.f (j := 18) rfl).trans hl
          have e2 : S' (b + 15) lv = nI (tny t) := by rw [hf1.at (o := 15) rfl rfl]; exact hny
          refine sX10_look_41 _ _ _ _ _ ?_
          simp (disch := omega) only [oAld, oAld1, oCV, oGI, oGR, oIf, oIfc, oIld, oRI, hM.1, hM.r28, hM.t28, hM.n28, e1, e2, List.getElem?_cons_zero, List.getElem?_cons_succ, List.set_cons_zero, List.set_cons_succ, List.drop_succ_cons, List.drop_zero, List.take_succ_cons, List.take_zero, List.length_cons, List.length_nil, List.reverse_cons, List.reverse_nil, List.nil_append, List.cons_append, Option.toList_some, Option.toList_none, va_rf_s, true_and, and_true, true_implies, false_implies, not_true_eq_false, not_false_eq_true, Nat.reduceAdd, Nat.reduceLeDiff, Nat.le_add_left, Nat.zero_le, Nat.le_refl, znew, true_or, or_true, b01_t, b01_f, b01_ok, bool_ft, vp_b01, vp_b0, vp_b1, b01_eq0, b01_eq1, implies_true, nI_add, nI_clamp, zi_in, zi_le_t, zi_le_f, zi_lt_t, zi_lt_f, zi_eq_t, zi_eq_f, nI_leI, nI_ltI, nI_eq, z_in, pk_mul, zu_same, zu_rw, zu_ix, zi_ne0, zi_sub, zi_m1, Nat.add_sub_cancel, Nat.reduceMul, Nat.reduceSub]
          exact hVQ _ _ ⟨S', rfl, hE.q hf1 rfl rfl rfl, by rw [hR]⟩
        · intro S' x7 x8 hf1
          have hX' := hX1.fr hf1 rfl rfl
          have e1 := (hf1.f (j := 18) rfl).trans hl
          have e2 : S' (b + 15) lv = nI (tny t) := by rw [hf1.at (o := 15) rfl rfl]; exact hny
          refine sX10_look_41 _ _ _ _ _ ?_
          simp (disch := omega) only [oAld, oAld1, oCV, oGI, oGR, oIf, oIfc, oIld, oRI, hM.1, hM.r28, hM.t28, hM.n28, e1, e2, hs0, List.getElem?_cons_zero, List.getElem?_cons_succ, List.set_cons_zero, List.set_cons_succ, List.drop_succ_cons, List.drop_zero, List.take_succ_cons, List.take_zero, List.length_cons, List.length_nil, List.reverse_cons, List.reverse_nil, List.nil_append, List.cons_append, Option.toList_some, Option.toList_none, va_rf_s, true_and, and_true, true_implies, false_implies, not_true_eq_false, not_false_eq_true, Nat.reduceAdd, Nat.reduceLeDiff, Nat.le_add_left, Nat.zero_le, Nat.le_refl, znew, true_or, or_true, b01_t, b01_f, b01_ok, bool_ft, vp_b01, vp_b0, vp_b1, b01_eq0, b01_eq1, implies_true, nI_add, nI_clamp, zi_in, zi_le_t, zi_le_f, zi_lt_t, zi_lt_f, zi_eq_t, zi_eq_f, nI_leI, nI_ltI, nI_eq, z_in, pk_mul, zu_same, zu_rw, zu_ix, zi_ne0, zi_sub, zi_m1, Nat.add_sub_cancel, Nat.reduceMul, Nat.reduceSub]
          refine zC.of0 (zX10_isOut hM hX'.1 _) (by omega) (Nat.zero_le _) (Nat.zero_le _) ?_
          rintro _ _ ⟨rfl, rfl⟩
          rw [(hf1.at (o := 36) rfl rfl).trans hN, nI_clamp (by omega), okI_nI (by omega), decide_eq_true hy, Bool.true_and]
          refine sX10_look_65 _ _ _ _ _ ?_
          simp (disch := omega) only [oIf, oInc, oIst, oNop, oPush, List.getElem?_cons_zero, List.getElem?_cons_succ, List.set_cons_zero, List.set_cons_succ, List.drop_succ_cons, List.drop_zero, List.take_succ_cons, List.take_zero, List.length_cons, List.length_nil, List.reverse_cons, List.reverse_nil, List.nil_append, List.cons_append, Option.toList_some, Option.toList_none, va_rf_s, true_and, and_true, true_implies, false_implies, not_true_eq_false, not_false_eq_true, Nat.reduceAdd, Nat.reduceLeDiff, Nat.le_add_left, Nat.zero_le, Nat.le_refl, znew, true_or, or_true, b01_t, b01_f, b01_ok, bool_ft, vp_b01, vp_b0, vp_b1, b01_eq0, b01_eq1, implies_true, nI_add, nI_clamp, zi_in, zi_le_t, zi_le_f, zi_lt_t, zi_lt_f, zi_eq_t, zi_eq_f, nI_leI, nI_ltI, nI_eq, z_in, pk_mul, zu_same, zu_rw, zu_ix, zi_ne0, zi_sub, zi_m1, Nat.add_sub_cancel, Nat.reduceMul, Nat.reduceSub]
          refine ⟨fun h0 => ?_, fun h0 => ?_⟩
          · have h0 : ¬ T (12 + y) = nI 0 := by simpa using h0
            have ih := ih S' x7 x8 hf1
            rw [lkO, if_neg h0] at ih; exact ih
          · have h0 : T (12 + y) = nI 0 := by simpa using h0
            rw [lkO, if_pos h0] at ih
            refine loopW y hy _ _ (fun S2 hf2 => ?_) 0 (by omega) S' hf1
            have e1 := (hf2.f (j := 18) rfl).trans hl
            have e2 : S2 (b + 19) lv = nI (tnw t) := by rw [hf2.at (o := 19) rfl rfl]; exact hnw
            have ih := fun x7 => ih S2 x7 (some (.int (lkW t T set v y))) hf2
            have hB6 := lkO_B (t := t) (T := T) (set := set) (v := v) (n := y) (by omega)
            have e146 : zW V YX10_look 146 [some (.ref b), some (.int (nI m)), some (.int v), some (.int set), some (.int (ac1 (lkO t T set v y))), some (.int (ac3 (lkO t T set v y))), some (.int (nI y)), some (.int (lkN t T set v y)), some (.int (nI (tnw t)))] [.int (lkW t T set v y)] (z, h, S2, L) 0 0 := by
              cases ha : lkO t T set v y with
              | none =>
                rw [ha] at ih
                rw [show ac1 none = -2 from rfl, show ac3 none = nI 0 from rfl]
                refine sX10_look_146 _ _ _ _ _ ?_
                simp (disch := omega) only [oIf, oIfc, oIld, oInc, oIst, oNop, m2lt, List.getElem?_cons_zero, List.getElem?_cons_succ, List.set_cons_zero, List.set_cons_succ, List.drop_succ_cons, List.drop_zero, List.take_succ_cons, List.take_zero, List.length_cons, List.length_nil, List.reverse_cons, List.reverse_nil, List.nil_append, List.cons_append, Option.toList_some, Option.toList_none, va_rf_s, true_and, and_true, true_implies, false_implies, not_true_eq_false, not_false_eq_true, Nat.reduceAdd, Nat.reduceLeDiff, Nat.le_add_left, Nat.zero_le, Nat.le_refl, znew, true_or, or_true, b01_t, b01_f, b01_ok, bool_ft, vp_b01, vp_b0, vp_b1, b01_eq0, b01_eq1, implies_true, nI_add, nI_clamp, zi_in, zi_le_t, zi_le_f, zi_lt_t, zi_lt_f, zi_eq_t, zi_eq_f, nI_leI, nI_ltI, nI_eq, z_in, pk_mul, zu_same, zu_rw, zu_ix, zi_ne0, zi_sub, zi_m1, Nat.add_sub_cancel, Nat.reduceMul, Nat.reduceSub]
                exact ih _
              | some q =>
                have hq := hB6 q.1 q.2 ha
                rw [ha] at ih
                rw [show ac1 (some q) = nI q.1 from rfl, show ac3 (some q) = q.2 from rfl]
                unfold minS at ih
                refine sX10_look_146 _ _ _ _ _ ?_
                simp (disch := omega) only [oIf, oIfc, oIld, oInc, oIst, oNop, List.getElem?_cons_zero, List.getElem?_cons_succ, List.set_cons_zero, List.set_cons_succ, List.drop_succ_cons, List.drop_zero, List.take_succ_cons, List.take_zero, List.length_cons, List.length_nil, List.reverse_cons, List.reverse_nil, List.nil_append, List.cons_append, Option.toList_some, Option.toList_none, va_rf_s, true_and, and_true, true_implies, false_implies, not_true_eq_false, not_false_eq_true, Nat.reduceAdd, Nat.reduceLeDiff, Nat.le_add_left, Nat.zero_le, Nat.le_refl, znew, true_or, or_true, b01_t, b01_f, b01_ok, bool_ft, vp_b01, vp_b0, vp_b1, b01_eq0, b01_eq1, implies_true, nI_add, nI_clamp, zi_in, zi_le_t, zi_le_f, zi_lt_t, zi_lt_f, zi_eq_t, zi_eq_f, nI_leI, nI_ltI, nI_eq, z_in, pk_mul, zu_same, zu_rw, zu_ix, zi_ne0, zi_sub, zi_m1, Nat.add_sub_cancel, Nat.reduceMul, Nat.reduceSub]
                refine ⟨fun h1 => ?_, fun h1 => ?_⟩
                · simp only [if_pos h1] at ih; exact ih _
                · simp only [if_neg h1] at ih; exact ih _
            refine sX10_look_77 _ _ _ _ _ ?_
            simp (disch := omega) only [oAld, oAld1, oBin, oCS, oCV, oGI, oGR, oIfc, oIld, oInc, oNop, oPush, hM.1, hM.r32, hM.t32, hM.n32, e1, e2, List.getElem?_cons_zero, List.getElem?_cons_succ, List.set_cons_zero, List.set_cons_succ, List.drop_succ_cons, List.drop_zero, List.take_succ_cons, List.take_zero, List.length_cons, List.length_nil, List.reverse_cons, List.reverse_nil, List.nil_append, List.cons_append, Option.toList_some, Option.toList_none, va_rf_s, true_and, and_true, true_implies, false_implies, not_true_eq_false, not_false_eq_true, Nat.reduceAdd, Nat.reduceLeDiff, Nat.le_add_left, Nat.zero_le, Nat.le_refl, znew, true_or, or_true, b01_t, b01_f, b01_ok, bool_ft, vp_b01, vp_b0, vp_b1, b01_eq0, b01_eq1, implies_true, nI_add, nI_clamp, zi_in, zi_le_t, zi_le_f, zi_lt_t, zi_lt_f, zi_eq_t, zi_eq_f, nI_leI, nI_ltI, nI_eq, z_in, pk_mul, zu_same, zu_rw, zu_ix, zi_ne0, zi_sub, zi_m1, Nat.add_sub_cancel, Nat.reduceMul, Nat.reduceSub]
            refine zC.of0 (zX10_bits _ _) (by omega) (Nat.zero_le _) (Nat.zero_le _) ?_
            rintro _ _ ⟨rfl, rfl⟩
            refine sX10_look_128 _ _ _ _ _ ?_
            simp (disch := omega) only [oBin, oCS, oIfc, oIld, oNop, List.getElem?_cons_zero, List.getElem?_cons_succ, List.set_cons_zero, List.set_cons_succ, List.drop_succ_cons, List.drop_zero, List.take_succ_cons, List.take_zero, List.length_cons, List.length_nil, List.reverse_cons, List.reverse_nil, List.nil_append, List.cons_append, Option.toList_some, Option.toList_none, va_rf_s, true_and, and_true, true_implies, false_implies, not_true_eq_false, not_false_eq_true, Nat.reduceAdd, Nat.reduceLeDiff, Nat.le_add_left, Nat.zero_le, Nat.le_refl, znew, true_or, or_true, b01_t, b01_f, b01_ok, bool_ft, vp_b01, vp_b0, vp_b1, b01_eq0, b01_eq1, implies_true, nI_add, nI_clamp, zi_in, zi_le_t, zi_le_f, zi_lt_t, zi_lt_f, zi_eq_t, zi_eq_f, nI_leI, nI_ltI, nI_eq, z_in, pk_mul, zu_same, zu_rw, zu_ix, zi_ne0, zi_sub, zi_m1, Nat.add_sub_cancel, Nat.reduceMul, Nat.reduceSub]
            refine ⟨fun h1 => ?_, fun h1 => ?_⟩
            · refine zC.of0 (zX10_bits _ _) (by omega) (Nat.zero_le _) (Nat.zero_le _) ?_
              rintro _ _ ⟨rfl, rfl⟩
              refine sX10_look_143 _ _ _ _ _ ?_
              simp (disch := omega) only [oBin, oIld, List.getElem?_cons_zero, List.getElem?_cons_succ, List.set_cons_zero, List.set_cons_succ, List.drop_succ_cons, List.drop_zero, List.take_succ_cons, List.take_zero, List.length_cons, List.length_nil, List.reverse_cons, List.reverse_nil, List.nil_append, List.cons_append, Option.toList_some, Option.toList_none, va_rf_s, true_and, and_true, true_implies, false_implies, not_true_eq_false, not_false_eq_true, Nat.reduceAdd, Nat.reduceLeDiff, Nat.le_add_left, Nat.zero_le, Nat.le_refl, znew, true_or, or_true, b01_t, b01_f, b01_ok, bool_ft, vp_b01, vp_b0, vp_b1, b01_eq0, b01_eq1, implies_true, nI_add, nI_clamp, zi_in, zi_le_t, zi_le_f, zi_lt_t, zi_lt_f, zi_eq_t, zi_eq_f, nI_leI, nI_ltI, nI_eq, z_in, pk_mul, zu_same, zu_rw, zu_ix, zi_ne0, zi_sub, zi_m1, Nat.add_sub_cancel, Nat.reduceMul, Nat.reduceSub]
              rw [show lkW t T set v y = bitsF 10 set - lkN t T set v y by rw [lkW, if_pos h1]] at e146
              exact e146
            · rw [show lkW t T set v y = lkN t T set v y by rw [lkW, if_neg h1]] at e146
              exact e146
      exact loopY 0 (by omega) S1 _ _ zfr.rf
end MN
