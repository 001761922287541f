/-! the model: the round, the best way to stand -/
def rdT (k c : Nat) : Nat := 7 * (k / 7 ||| 2 ^ c) + c
def rdI (t : ZT) (need k : Nat) : Nat → (Nat → Nat) → (Nat → Nat)
  | 0, g => g
  | c + 1, g => if (need.testBit c = true ∧ (k / 7).testBit c = false) ∧ rdI t need k c g k + farM t (nI 0) (nI 0) (k % 7) c < rdI t need k c g (rdT k c) then upN (rdI t need k c g) (rdT k c) (rdI t need k c g k + farM t (nI 0) (nI 0) (k % 7) c) else rdI t need k c g
def rdK (t : ZT) (need start : Nat) : Nat → Nat × (Nat → Nat)
  | 0 => (1000, fun k => if k = 7 * (need &&& 2 ^ start) + start then 0 else 1000)
  | k + 1 => if (rdK t need start k).2 k < 1000 then (if k / 7 = need ∧ (rdK t need start k).2 k < (rdK t need start k).1 then (rdK t need start k).2 k else (rdK t need start k).1, rdI t need k (tnc t) (rdK t need start k).2) else rdK t need start k
def needN (t : ZT) (T : Nat → Int32) : Nat := setN (fun c => !decide (whoR t T (nI c) = nI 0)) (tnc t)
def roundR (t : ZT) (T : Nat → Int32) : Int32 := if tnc t = 0 then -2 else if (rdK t (needN t T) (T 46).toNatClampNeg 896).1 < 1000 then nI (rdK t (needN t T) (T 46).toNatClampNeg 896).1 else -2
/-- what stands in the table: nothing above 1000, behind a number below it a corner -/
def rdB (t : ZT) (g : Nat → Nat) : Prop := ∀ k, g k ≤ 1000 ∧ (g k < 1000 → k % 7 < tnc t)
theorem or_lt {a c : Nat} (ha : a < 128) (hc : c < 7) : a ||| 2 ^ c < 128 :=
  Nat.or_lt_two_pow (n := 7) ha (Nat.pow_lt_pow_right (by omega) hc)
theorem rdI_B {t : ZT} {need k : Nat} (h7 : tnc t ≤ 7) {g : Nat → Nat} (h : rdB t g) : ∀ c, c ≤ tnc t → rdB t (rdI t need k c g)
  | 0, _ => h
  | c + 1, hc => by
    have ih := rdI_B (need := need) (k := k) h7 h c (by omega)
    rw [rdI]
    split
    · rename_i hcd
      intro j
      unfold upN
      split
      · rename_i hj
        have := (ih (rdT k c)).1
        refine ⟨by omega, fun _ => ?_⟩
        rw [hj, rdT]; omega
      · exact ih j
    · exact ih
theorem rdK_B {t : ZT} {need start : Nat} (h7 : tnc t ≤ 7) (hs : start < tnc t) : ∀ k, rdB t (rdK t need start k).2 ∧ (rdK t need start k).1 ≤ 1000
  | 0 => by
    refine ⟨fun k => ?_, Nat.le_refl _⟩
    show (if k = 7 * (need &&& 2 ^ start) + start then 0 else 1000) ≤ 1000 ∧ ((if k = 7 * (need &&& 2 ^ start) + start then 0 else 1000) < 1000 → k % 7 < tnc t)
    split
    · refine ⟨by omega, fun _ => ?_⟩
      omega
    · exact ⟨by omega, fun q => absurd q (by omega)⟩
  | k + 1 => by
    have ih := rdK_B (need := need) h7 hs k
    rw [rdK]
    split
    · refine ⟨rdI_B h7 ih.1 _ (Nat.le_refl _), ?_⟩
      show (if k / 7 = need ∧ (rdK t need start k).2 k < (rdK t need start k).1 then (rdK t need start k).2 k else (rdK t need start k).1) ≤ 1000
      split <;> omega
    · exact ih
theorem rd_bit (need q c : Nat) (hc : c < 7) : ((nI need &&& (nI q ^^^ (-1))) &&& nI (2 ^ c) = nI 0) = ¬ (need.testBit c = true ∧ q.testBit c = false) := by
  refine propext ⟨fun h hq => ?_, fun h => ?_⟩
  · have := (i_eq0 _).mp h c (by omega)
    rw [b_and, b_and, bt_not _ (by omega), bt_nI _ (by omega), bt_nI _ (by omega), bt_nI _ (by omega), Nat.testBit_two_pow, hq.1, hq.2] at this
    simp at this
  · apply (i_eq0 _).mpr
    intro i hi
    rw [b_and, b_and, bt_not _ hi, bt_nI _ hi, bt_nI _ hi, bt_nI _ hi, Nat.testBit_two_pow]
    by_cases he : c = i
    · subst he
      cases h1 : need.testBit c <;> cases h2 : q.testBit c <;> simp
      exact h ⟨h1, h2⟩
    · simp [he]
section MQ
variable {l : Launch} {E : zE} {b z : Nat} {h : Nat → Option zSh} {S : Nat → Nat → Int32} {L : Nat → Nat → Int64} {lv : Nat} {t : ZT} {T R : Nat → Int32}
theorem sh1N {c : Nat} (hc : c < 32) : nI 1 <<< (nI c &&& 31) = nI (2 ^ c) := bitF_N hc
/-- the table is gone through -/
theorem zX10_round_b {V : zV} (hM : isM h b) (hQ : mQ b S lv t T) {need start : Nat} (hn : need < 128) (hs : start < tnc t)
    (hVQ : ∀ S', mE b S S' → V.2.2.2.2.2.1 (some (.int (if (rdK t need start 896).1 < 1000 then nI (rdK t need start 896).1 else -2))) (z, h, S', L)) :
    ∀ k, k ≤ 896 → ∀ S' x5 x6 x7, mE b S S' → (∀ j, j < 896 → S' (b + 44) j = nI ((rdK t need start k).2 j)) → (∀ c, c < tnc t → ∀ o, o < 7 → S' (b + 45) (7 * c + o) = nI (farM t (nI 0) (nI 0) c o)) →
      zW V YX10_round 149 [some (.ref b), some (.int (nI need)), some (.int (nI start)), some (.int (nI (rdK t need start k).1)), some (.int (nI k)), x5, x6, x7] [] (z, h, S', L) 0 0 := by
  have h7 : tnc t ≤ 7 := hQ.1.1.2.1.2
  refine z_down ?_ (fun k hk ih => ?_)
  · intro S' x5 x6 x7 hE hg hf
    have hB := rdK_B (need := need) h7 hs 896
    have hVQ := hVQ S' hE
    refine sX10_round_149 _ _ _ _ _ ?_
    simp (disch := omega) only [oAld, oAld1, oDiv, oGR, oIfc, oIld, oInc, oIst, oNop, oPush, oRI, hM.1, hM.r64, hM.t64, hM.n64, List.getElem?_cons_zero, List.getElem?_cons_succ, List.set_cons_zero, List.set_cons_succ, List.drop_succ_cons, List.drop_zero, List.take_succ_cons, List.take_zero, List.length_cons, List.length_nil, List.reverse_cons, List.reverse_nil, List.nil_append, List.cons_append, Option.toList_some, Option.toList_none, va_rf_s, true_and, and_true, true_implies, false_implies, not_true_eq_false, not_false_eq_true, Nat.reduceAdd, Nat.reduceLeDiff, Nat.le_add_left, Nat.zero_le, Nat.le_refl, znew, true_or, or_true, b01_t, b01_f, b01_ok, bool_ft, vp_b01, vp_b0, vp_b1, b01_eq0, b01_eq1, implies_true, nI_add, nI_clamp, zi_in, zi_le_t, zi_le_f, zi_lt_t, zi_lt_f, zi_eq_t, zi_eq_f, nI_leI, nI_ltI, nI_eq, z_in, pk_mul, zu_same, zu_rw, zu_ix, zi_ne0, zi_sub, zi_m1, Nat.add_sub_cancel, Nat.reduceMul, Nat.reduceSub]
    refine ⟨fun h0 => ?_, fun h0 => ?_⟩
    · rw [if_pos h0] at hVQ; exact hVQ
    · rw [if_neg h0] at hVQ; exact hVQ
  · intro S' x5 x6 x7 hE hg hf
    have hB := rdK_B (need := need) h7 hs k
    have hst : rdK t need start (k + 1) = if (rdK t need start k).2 k < 1000 then (if k / 7 = need ∧ (rdK t need start k).2 k < (rdK t need start k).1 then (rdK t need start k).2 k else (rdK t need start k).1, rdI t need k (tnc t) (rdK t need start k).2) else rdK t need start k := rfl
    rw [hst] at ih
    have e1 := hg k hk
    have l1 := (hB.1 k).1
    generalize rdK t need start k = q at hB ih hg e1 l1 ⊢
    obtain ⟨best, g⟩ := q
    simp only [] at hB ih hg e1 l1 ⊢
    by_cases hlt : g k < 1000
    · rw [if_pos hlt] at ih
      have hk7 := (hB.1 k).2 hlt
      -- the corners
      have loopC : ∀ best', (∀ S' x5 x6 x7, mE b S S' → (∀ j, j < 896 → S' (b + 44) j = nI (rdI t need k (tnc t) g j)) → (∀ c, c < tnc t → ∀ o, o < 7 → S' (b + 45) (7 * c + o) = nI (farM t (nI 0) (nI 0) c o)) → zW V YX10_round 149 [some (.ref b), some (.int (nI need)), some (.int (nI start)), some (.int (nI best')), some (.int (nI (k + 1))), x5, x6, x7] [] (z, h, S', L) 0 0) →
          ∀ c, c ≤ tnc t → ∀ S' x6 x7, mE b S S' → (∀ j, j < 896 → S' (b + 44) j = nI (rdI t need k c g j)) → (∀ c, c < tnc t → ∀ o, o < 7 → S' (b + 45) (7 * c + o) = nI (farM t (nI 0) (nI 0) c o)) →
            zW V YX10_round 204 [some (.ref b), some (.int (nI need)), some (.int (nI start)), some (.int (nI best')), some (.int (nI k)), some (.int (nI c)), x6, x7] [] (z, h, S', L) 0 0 := by
        intro best' hn'
        refine z_down ?_ (fun c hc ihc => ?_)
        · intro S' x6 x7 hE hg hf
          obtain ⟨⟨hl, hlv⟩, ⟨hnc, -⟩, -⟩ := id (hQ.fr hE).1.1
          refine sX10_round_204 _ _ _ _ _ ?_
          simp (disch := omega) only [oAld, oAld1, oAst1, oBin, oDiv, oGI, oGR, oIf, oIfc, oIld, oInc, oIst, oNop, oPush, hM.1, hM.r23, hM.t23, hM.n23, hM.r64, hM.t64, hM.n64, hM.r65, hM.t65, hM.n65, hl, hnc, List.getElem?_cons_zero, List.getElem?_cons_succ, List.set_cons_zero, List.set_cons_succ, List.drop_succ_cons, List.drop_zero, List.take_succ_cons, List.take_zero, List.length_cons, List.length_nil, List.reverse_cons, List.reverse_nil, List.nil_append, List.cons_append, Option.toList_some, Option.toList_none, va_rf_s, true_and, and_true, true_implies, false_implies, not_true_eq_false, not_false_eq_true, Nat.reduceAdd, Nat.reduceLeDiff, Nat.le_add_left, Nat.zero_le, Nat.le_refl, znew, true_or, or_true, b01_t, b01_f, b01_ok, bool_ft, vp_b01, vp_b0, vp_b1, b01_eq0, b01_eq1, implies_true, nI_add, nI_clamp, zi_in, zi_le_t, zi_le_f, zi_lt_t, zi_lt_f, zi_eq_t, zi_eq_f, nI_leI, nI_ltI, nI_eq, z_in, pk_mul, zu_same, zu_rw, zu_ix, zi_ne0, zi_sub, zi_m1, Nat.add_sub_cancel, Nat.reduceMul, Nat.reduceSub]
          exact hn' S' _ _ _ hE hg hf
        · intro S' x6 x7 hE hg hf
          obtain ⟨⟨hl, hlv⟩, ⟨hnc, -⟩, -⟩ := id (hQ.fr hE).1.1
          have hBc := rdI_B (need := need) (k := k) h7 hB.1 c (by omega)
          have hor : k / 7 ||| 2 ^ c < 128 := or_lt (by omega) (by omega)
          have hsc : rdI t need k (c + 1) g = if (need.testBit c = true ∧ (k / 7).testBit c = false) ∧ rdI t need k c g k + farM t (nI 0) (nI 0) (k % 7) c < rdI t need k c g (rdT k c) then upN (rdI t need k c g) (rdT k c) (rdI t need k c g k + farM t (nI 0) (nI 0) (k % 7) c) else rdI t need k c g := rfl
          rw [hsc] at ihc
          have e2 := hg k hk
          have e3 : S' (b + 45) (7 * (k - k / 7 * 7) + c) = nI (farM t (nI 0) (nI 0) (k % 7) c) := by
            rw [show k - k / 7 * 7 = k % 7 by omega]; exact hf _ hk7 c (by omega)
          have e4 : S' (b + 44) (7 * (k / 7 ||| 2 ^ c) + c) = nI (rdI t need k c g (rdT k c)) := hg (rdT k c) (by rw [rdT]; omega)
          have l2 := (hBc k).1
          have l3 := farM_le (t := t) (free := nI 0) (shut := nI 0) (f := k % 7) c
          have l4 := (hBc (rdT k c)).1
          have hT : rdT k c = 7 * (k / 7 ||| 2 ^ c) + c := rfl
          generalize hA : rdI t need k c g = A at ihc hg e2 e4 l2 l4
          generalize hF : farM t (nI 0) (nI 0) (k % 7) c = F at ihc e3 l3
          refine sX10_round_204 _ _ _ _ _ ?_
          simp (disch := omega) only [oAld, oAld1, oAst1, oBin, oDiv, oGI, oGR, oIf, oIfc, oIld, oInc, oIst, oNop, oPush, hM.1, hM.r23, hM.t23, hM.n23, hM.r64, hM.t64, hM.n64, hM.r65, hM.t65, hM.n65, hl, hnc, pk_div, nx_or, sh1N, e2, e3, e4, rd_bit, List.getElem?_cons_zero, List.getElem?_cons_succ, List.set_cons_zero, List.set_cons_succ, List.drop_succ_cons, List.drop_zero, List.take_succ_cons, List.take_zero, List.length_cons, List.length_nil, List.reverse_cons, List.reverse_nil, List.nil_append, List.cons_append, Option.toList_some, Option.toList_none, va_rf_s, true_and, and_true, true_implies, false_implies, not_true_eq_false, not_false_eq_true, Nat.reduceAdd, Nat.reduceLeDiff, Nat.le_add_left, Nat.zero_le, Nat.le_refl, znew, true_or, or_true, b01_t, b01_f, b01_ok, bool_ft, vp_b01, vp_b0, vp_b1, b01_eq0, b01_eq1, implies_true, nI_add, nI_clamp, zi_in, zi_le_t, zi_le_f, zi_lt_t, zi_lt_f, zi_eq_t, zi_eq_f, nI_leI, nI_ltI, nI_eq, z_in, pk_mul, zu_same, zu_rw, zu_ix, zi_ne0, zi_sub, zi_m1, Nat.add_sub_cancel, Nat.reduceMul, Nat.reduceSub]
          refine ⟨fun h0 => ?_, fun h0 => ⟨fun h1 => ?_, fun h1 => ?_⟩⟩
          · refine ihc S' _ _ hE (fun j hj => ?_) hf
            rw [if_neg (fun q => h0 q.1)]; exact hg j hj
          · refine ihc S' _ _ hE (fun j hj => ?_) hf
            rw [if_neg (fun q => by omega)]; exact hg j hj
          · have h0 : need.testBit c = true ∧ (k / 7).testBit c = false := Classical.not_not.mp h0
            have hfr : zfr [44] [] b S' (zu S' (b + 44) (7 * (k / 7 ||| 2 ^ c) + c) (nI (A k + F))) := zfr.rf.row (by decide) (by decide)
            refine ihc _ _ _ (hE.q hfr rfl rfl rfl) (fun j hj => ?_) (fun c hc o ho => by rw [zu_rw _ _ (by omega)]; exact hf c hc o ho)
            rw [if_pos ⟨h0, by omega⟩, upN, hT]
            by_cases hj2 : j = 7 * (k / 7 ||| 2 ^ c) + c
            · rw [if_pos hj2, hj2, zu_same]
            · rw [if_neg hj2, zu_ix _ _ hj2]; exact hg j hj
      have l5 := hB.2
      refine sX10_round_149 _ _ _ _ _ ?_
      simp (disch := omega) only [oAld, oAld1, oDiv, oGR, oIfc, oIld, oInc, oIst, oNop, oPush, oRI, hM.1, hM.r64, hM.t64, hM.n64, e1, pk_div, List.getElem?_cons_zero, List.getElem?_cons_succ, List.set_cons_zero, List.set_cons_succ, List.drop_succ_cons, List.drop_zero, List.take_succ_cons, List.take_zero, List.length_cons, List.length_nil, List.reverse_cons, List.reverse_nil, List.nil_append, List.cons_append, Option.toList_some, Option.toList_none, va_rf_s, true_and, and_true, true_implies, false_implies, not_true_eq_false, not_false_eq_true, Nat.reduceAdd, Nat.reduceLeDiff, Nat.le_add_left, Nat.zero_le, Nat.le_refl, znew, true_or, or_true, b01_t, b01_f, b01_ok, bool_ft, vp_b01, vp_b0, vp_b1, b01_eq0, b01_eq1, implies_true, nI_add, nI_clamp, zi_in, zi_le_t, zi_le_f, zi_lt_t, zi_lt_f, zi_eq_t, zi_eq_f, nI_leI, nI_ltI, nI_eq, z_in, pk_mul, zu_same, zu_rw, zu_ix, zi_ne0, zi_sub, zi_m1, Nat.add_sub_cancel, Nat.reduceMul, Nat.reduceSub]
      refine ⟨fun h0 => ⟨fun h1 => ?_, fun h1 => ?_⟩, fun h0 => ?_⟩
      · refine loopC best (fun S' x5 x6 x7 hE hg hf => ?_) 0 (by omega) S' _ _ hE hg hf
        have ih := ih S' x5 x6 x7 hE hg hf
        rw [if_neg (fun q => by omega)] at ih; exact ih
      · refine loopC (g k) (fun S' x5 x6 x7 hE hg hf => ?_) 0 (by omega) S' _ _ hE hg hf
        have ih := ih S' x5 x6 x7 hE hg hf
        rw [if_pos ⟨h0, by omega⟩] at ih; exact ih
      · refine loopC best (fun S' x5 x6 x7 hE hg hf => ?_) 0 (by omega) S' _ _ hE hg hf
        have ih := ih S' x5 x6 x7 hE hg hf
        rw [if_neg (fun q => h0 q.1)] at ih; exact ih
    · rw [if_neg hlt] at ih
      have l5 := hB.2
      refine sX10_round_149 _ _ _ _ _ ?_
      simp (disch := omega) only [oAld, oAld1, oDiv, oGR, oIfc, oIld, oInc, oIst, oNop, oPush, oRI, hM.1, hM.r64, hM.t64, hM.n64, e1, List.getElem?_cons_zero, List.getElem?_cons_succ, List.set_cons_zero, List.set_cons_succ, List.drop_succ_cons, List.drop_zero, List.take_succ_cons, List.take_zero, List.length_cons, List.length_nil, List.reverse_cons, List.reverse_nil, List.nil_append, List.cons_append, Option.toList_some, Option.toList_none, va_rf_s, true_and, and_true, true_implies, false_implies, not_true_eq_false, not_false_eq_true, Nat.reduceAdd, Nat.reduceLeDiff, Nat.le_add_left, Nat.zero_le, Nat.le_refl, znew, true_or, or_true, b01_t, b01_f, b01_ok, bool_ft, vp_b01, vp_b0, vp_b1, b01_eq0, b01_eq1, implies_true, nI_add, nI_clamp, zi_in, zi_le_t, zi_le_f, zi_lt_t, zi_lt_f, zi_eq_t, zi_eq_f, nI_leI, nI_ltI, nI_eq, z_in, pk_mul, zu_same, zu_rw, zu_ix, zi_ne0, zi_sub, zi_m1, Nat.add_sub_cancel, Nat.reduceMul, Nat.reduceSub]
      exact ih S' _ _ _ hE hg hf
theorem zX10_round (hM : isM h b) (hQ : mQ b S lv t T) (h46 : tnc t ≠ 0 → ∃ c, c < tnc t ∧ T 46 = nI c) :
    zM l E 1 YX10_round [.ref b] (z, h, S, L) 0 0 (fun r X => ∃ S', X = (z, h, S', L) ∧ mE b S S' ∧ r = some (.int (roundR t T))) (fun _ _ => False) := by
  obtain ⟨hX, hZ, hN⟩ := id hQ
  obtain ⟨⟨hl, hlv⟩, ⟨hnc, h7⟩, -⟩ := id hX.1
  refine zM.go rfl rfl (Nat.le_of_ble_eq_true rfl) (ls := [some (.ref b), none, none, none, none, none, none, none]) rfl ?_
  intro V hVl hVE hVd hVc hVs hVQ hVX
  by_cases h0 : tnc t = 0
  · rw [h0] at hnc
    refine sX10_round_0 _ _ _ _ _ ?_
    simp (disch := omega) only [oAld, oAld1, oCV, oGI, oGR, oIf, oPush, oRI, hM.1, hM.r23, hM.t23, hM.n23, hl, hnc, List.getElem?_cons_zero, List.getElem?_cons_succ, List.set_cons_zero, List.set_cons_succ, List.drop_succ_cons, List.drop_zero, List.take_succ_cons, List.take_zero, List.length_cons, List.length_nil, List.reverse_cons, List.reverse_nil, List.nil_append, List.cons_append, Option.toList_some, Option.toList_none, va_rf_s, true_and, and_true, true_implies, false_implies, not_true_eq_false, not_false_eq_true, Nat.reduceAdd, Nat.reduceLeDiff, Nat.le_add_left, Nat.zero_le, Nat.le_refl, znew, true_or, or_true, b01_t, b01_f, b01_ok, bool_ft, vp_b01, vp_b0, vp_b1, b01_eq0, b01_eq1, implies_true, nI_add, nI_clamp, zi_in, zi_le_t, zi_le_f, zi_lt_t, zi_lt_f, zi_eq_t, zi_eq_f, nI_leI, nI_ltI, nI_eq, z_in, pk_mul, zu_same, zu_rw, zu_ix, zi_ne0, zi_sub, zi_m1, Nat.add_sub_cancel, Nat.reduceMul, Nat.reduceSub]
    exact hVQ _ _ ⟨S, rfl, mE.rf hZ, by rw [roundR, if_pos h0]⟩
  obtain ⟨start, hs, hst⟩ := h46 h0
  have hR : roundR t T = if (rdK t (needN t T) start 896).1 < 1000 then nI (rdK t (needN t T) start 896).1 else -2 := by rw [roundR, if_neg h0, hst, nI_clamp (by omega)]
  refine sX10_round_0 _ _ _ _ _ ?_
  simp (disch := omega) only [oAld, oAld1, oCV, oGI, oGR, oIf, oPush, oRI, hM.1, hM.r23, hM.t23, hM.n23, hl, hnc, List.getElem?_cons_zero, List.getElem?_cons_succ, List.set_cons_zero, List.set_cons_succ, List.drop_succ_cons, List.drop_zero, List.take_succ_cons, List.take_zero, List.length_cons, List.length_nil, List.reverse_cons, List.reverse_nil, List.nil_append, List.cons_append, Option.toList_some, Option.toList_none, va_rf_s, true_and, and_true, true_implies, false_implies, not_true_eq_false, not_false_eq_true, Nat.reduceAdd, Nat.reduceLeDiff, Nat.le_add_left, Nat.zero_le, Nat.le_refl, znew, true_or, or_true, b01_t, b01_f, b01_ok, bool_ft, vp_b01, vp_b0, vp_b1, b01_eq0, b01_eq1, implies_true, nI_add, nI_clamp, zi_in, zi_le_t, zi_le_f, zi_lt_t, zi_lt_f, zi_eq_t, zi_eq_f, nI_leI, nI_ltI, nI_eq, z_in, pk_mul, zu_same, zu_rw, zu_ix, zi_ne0, zi_sub, zi_m1, Nat.add_sub_cancel, Nat.reduceMul, Nat.reduceSub]
  refine zC.of0 (zG_copies hM hQ) (by omega) (Nat.zero_le _) (Nat.zero_le _) ?_
  rintro _ _ ⟨rfl, S1, rfl, hE1, hX1, hr1, hN1, -, -⟩
  have hnN : needN t T < 128 := Nat.lt_of_lt_of_le (setN_lt _ _) (Nat.pow_le_pow_right (by omega) h7 : 2 ^ tnc t ≤ 2 ^ 7)
  have hand : needN t T &&& 2 ^ start < 128 := Nat.lt_of_le_of_lt Nat.and_le_left hnN
  -- all is far
  have loop3 : ∀ k, k ≤ 896 → ∀ S', mE b S S' → (∀ j, j < k → S' (b + 44) j = nI 1000) → (∀ c, c < tnc t → ∀ o, o < 7 → S' (b + 45) (7 * c + o) = nI (farM t (nI 0) (nI 0) c o)) → zW V YX10_round 104 [some (.ref b), some (.int (nI (needN t T))), some (.int (nI start)), some (.int (nI k)), none, none, none, none] [] (z, h, S', L) 0 0 := by
    refine z_down ?_ (fun k hk ih => ?_)
    · intro S' hE hg hf
      have hfr : zfr [44] [] b S' (zu S' (b + 44) (7 * (needN t T &&& 2 ^ start) + start) (nI 0)) := zfr.rf.row (by decide) (by decide)
      refine sX10_round_104 _ _ _ _ _ ?_
      simp (disch := omega) only [oAld, oAst1, oBin, oGR, oIfc, oIld, oInc, oIst, oNop, oPush, hM.1, hM.r64, hM.t64, hM.n64, sh1N, nx_and, List.getElem?_cons_zero, List.getElem?_cons_succ, List.set_cons_zero, List.set_cons_succ, List.drop_succ_cons, List.drop_zero, List.take_succ_cons, List.take_zero, List.length_cons, List.length_nil, List.reverse_cons, List.reverse_nil, List.nil_append, List.cons_append, Option.toList_some, Option.toList_none, va_rf_s, true_and, and_true, true_implies, false_implies, not_true_eq_false, not_false_eq_true, Nat.reduceAdd, Nat.reduceLeDiff, Nat.le_add_left, Nat.zero_le, Nat.le_refl, znew, true_or, or_true, b01_t, b01_f, b01_ok, bool_ft, vp_b01, vp_b0, vp_b1, b01_eq0, b01_eq1, implies_true, nI_add, nI_clamp, zi_in, zi_le_t, zi_le_f, zi_lt_t, zi_lt_f, zi_eq_t, zi_eq_f, nI_leI, nI_ltI, nI_eq, z_in, pk_mul, zu_same, zu_rw, zu_ix, zi_ne0, zi_sub, zi_m1, Nat.add_sub_cancel, Nat.reduceMul, Nat.reduceSub]
      refine zX10_round_b hM hQ hnN hs (fun S' hE => hVQ _ _ ⟨S', rfl, hE, by rw [hR]⟩) 0 (by omega) _ _ _ _ (hE.q hfr rfl rfl rfl) (fun j hj => ?_) (fun c hc o ho => by rw [zu_rw _ _ (by omega)]; exact hf c hc o ho)
      show _ = nI (if j = 7 * (needN t T &&& 2 ^ start) + start then 0 else 1000)
      by_cases hj2 : j = 7 * (needN t T &&& 2 ^ start) + start
      · rw [if_pos hj2, hj2, zu_same]
      · rw [if_neg hj2, zu_ix _ _ hj2]; exact hg j hj
    · intro S' hE hg hf
      have hfr : zfr [44] [] b S' (zu S' (b + 44) k (nI 1000)) := zfr.rf.row (by decide) (by decide)
      refine sX10_round_104 _ _ _ _ _ ?_
      simp (disch := omega) only [oAld, oAst1, oBin, oGR, oIfc, oIld, oInc, oIst, oNop, oPush, hM.1, hM.r64, hM.t64, hM.n64, List.getElem?_cons_zero, List.getElem?_cons_succ, List.set_cons_zero, List.set_cons_succ, List.drop_succ_cons, List.drop_zero, List.take_succ_cons, List.take_zero, List.length_cons, List.length_nil, List.reverse_cons, List.reverse_nil, List.nil_append, List.cons_append, Option.toList_some, Option.toList_none, va_rf_s, true_and, and_true, true_implies, false_implies, not_true_eq_false, not_false_eq_true, Nat.reduceAdd, Nat.reduceLeDiff, Nat.le_add_left, Nat.zero_le, Nat.le_refl, znew, true_or, or_true, b01_t, b01_f, b01_ok, bool_ft, vp_b01, vp_b0, vp_b1, b01_eq0, b01_eq1, implies_true, nI_add, nI_clamp, zi_in, zi_le_t, zi_le_f, zi_lt_t, zi_lt_f, zi_eq_t, zi_eq_f, nI_leI, nI_ltI, nI_eq, z_in, pk_mul, zu_same, zu_rw, zu_ix, zi_ne0, zi_sub, zi_m1, Nat.add_sub_cancel, Nat.reduceMul, Nat.reduceSub]
      refine ih _ (hE.q hfr rfl rfl rfl) (fun j hj => ?_) (fun c hc o ho => by rw [zu_rw _ _ (by omega)]; exact hf c hc o ho)
      by_cases hj2 : j = k
      · rw [hj2, zu_same]
      · rw [zu_ix _ _ hj2]; exact hg j (by omega)
  generalize hp : (fun c => !decide (whoR t T (nI c) = nI 0)) = p
  have hnp : needN t T = setN p (tnc t) := by rw [needN, hp]
  have loop1 : ∀ c, c ≤ tnc t → ∀ S' x3, mE b S S' → S' (b + 37) = T → (∀ c', c' < c → ∀ o, o < 7 → S' (b + 45) (7 * c' + o) = nI (farM t (nI 0) (nI 0) c' o)) → zW V YX10_round 23 [some (.ref b), some (.int (setF p c)), some (.int (nI c)), x3, none, none, none, none] [] (z, h, S', L) 0 0 := by
    refine z_down ?_ (fun c hc ih => ?_)
    · intro S' x3 hE hr hf
      obtain ⟨⟨hl, hlv⟩, ⟨hnc, -⟩, -⟩ := id (hQ.fr hE).1.1
      refine sX10_round_23 _ _ _ _ _ ?_
      simp (disch := omega) only [oAld, oAld1, oCV, oGI, oGR, oIfc, oIld, oIst, oPush, hM.1, hM.r23, hM.t23, hM.n23, hM.r54, hM.t54, hM.n54, hl, hnc, hr, hst, List.getElem?_cons_zero, List.getElem?_cons_succ, List.set_cons_zero, List.set_cons_succ, List.drop_succ_cons, List.drop_zero, List.take_succ_cons, List.take_zero, List.length_cons, List.length_nil, List.reverse_cons, List.reverse_nil, List.nil_append, List.cons_append, Option.toList_some, Option.toList_none, va_rf_s, true_and, and_true, true_implies, false_implies, not_true_eq_false, not_false_eq_true, Nat.reduceAdd, Nat.reduceLeDiff, Nat.le_add_left, Nat.zero_le, Nat.le_refl, znew, true_or, or_true, b01_t, b01_f, b01_ok, bool_ft, vp_b01, vp_b0, vp_b1, b01_eq0, b01_eq1, implies_true, nI_add, nI_clamp, zi_in, zi_le_t, zi_le_f, zi_lt_t, zi_lt_f, zi_eq_t, zi_eq_f, nI_leI, nI_ltI, nI_eq, z_in, pk_mul, zu_same, zu_rw, zu_ix, zi_ne0, zi_sub, zi_m1, Nat.add_sub_cancel, Nat.reduceMul, Nat.reduceSub]
      rw [setF_N p (by omega), ← hnp]
      exact loop3 0 (by omega) S' hE (fun j hj => absurd hj (by omega)) hf
    · intro S' x3 hE hr hf
      have hX' := (hQ.fr hE).1
      obtain ⟨⟨hl, hlv⟩, ⟨hnc, -⟩, -⟩ := id hX'.1
      have hpc : p c = !decide (whoR t T (nI c) = nI 0) := by rw [← hp]
      have loop2 : ∀ o, o ≤ 7 → ∀ S', mE b S S' → S' (b + 37) = T → (∀ j, j < 7 → S' (b + 43) j = nI (farM t (nI 0) (nI 0) c j)) → (∀ c', c' < c → ∀ o, o < 7 → S' (b + 45) (7 * c' + o) = nI (farM t (nI 0) (nI 0) c' o)) → (∀ o', o' < o → S' (b + 45) (7 * c + o') = nI (farM t (nI 0) (nI 0) c o')) → zW V YX10_round 59 [some (.ref b), some (.int (setF p (c + 1))), some (.int (nI c)), some (.int (nI o)), none, none, none, none] [] (z, h, S', L) 0 0 := by
        refine z_down ?_ (fun o ho iho => ?_)
        · intro S' hE hr hg hf ho
          refine sX10_round_59 _ _ _ _ _ ?_
          simp (disch := omega) only [oAld, oAld1, oAst1, oBin, oGR, oIfc, oIld, oInc, oNop, oPush, hM.1, hM.r65, hM.t65, hM.n65, hM.r63, hM.t63, hM.n63, List.getElem?_cons_zero, List.getElem?_cons_succ, List.set_cons_zero, List.set_cons_succ, List.drop_succ_cons, List.drop_zero, List.take_succ_cons, List.take_zero, List.length_cons, List.length_nil, List.reverse_cons, List.reverse_nil, List.nil_append, List.cons_append, Option.toList_some, Option.toList_none, va_rf_s, true_and, and_true, true_implies, false_implies, not_true_eq_false, not_false_eq_true, Nat.reduceAdd, Nat.reduceLeDiff, Nat.le_add_left, Nat.zero_le, Nat.le_refl, znew, true_or, or_true, b01_t, b01_f, b01_ok, bool_ft, vp_b01, vp_b0, vp_b1, b01_eq0, b01_eq1, implies_true, nI_add, nI_clamp, zi_in, zi_le_t, zi_le_f, zi_lt_t, zi_lt_f, zi_eq_t, zi_eq_f, nI_leI, nI_ltI, nI_eq, z_in, pk_mul, zu_same, zu_rw, zu_ix, zi_ne0, zi_sub, zi_m1, Nat.add_sub_cancel, Nat.reduceMul, Nat.reduceSub]
          refine ih S' _ hE hr (fun c' hc' o hlo => ?_)
          by_cases he : c' = c
          · subst he; exact ho o hlo
          · exact hf c' (by omega) o hlo
        · intro S' hE hr hg hf hlo
          have e1 := hg o ho
          have hfr : zfr [45] [] b S' (zu S' (b + 45) (7 * c + o) (nI (farM t (nI 0) (nI 0) c o))) := zfr.rf.row (by decide) (by decide)
          refine sX10_round_59 _ _ _ _ _ ?_
          simp (disch := omega) only [oAld, oAld1, oAst1, oBin, oGR, oIfc, oIld, oInc, oNop, oPush, hM.1, hM.r65, hM.t65, hM.n65, hM.r63, hM.t63, hM.n63, e1, List.getElem?_cons_zero, List.getElem?_cons_succ, List.set_cons_zero, List.set_cons_succ, List.drop_succ_cons, List.drop_zero, List.take_succ_cons, List.take_zero, List.length_cons, List.length_nil, List.reverse_cons, List.reverse_nil, List.nil_append, List.cons_append, Option.toList_some, Option.toList_none, va_rf_s, true_and, and_true, true_implies, false_implies, not_true_eq_false, not_false_eq_true, Nat.reduceAdd, Nat.reduceLeDiff, Nat.le_add_left, Nat.zero_le, Nat.le_refl, znew, true_or, or_true, b01_t, b01_f, b01_ok, bool_ft, vp_b01, vp_b0, vp_b1, b01_eq0, b01_eq1, implies_true, nI_add, nI_clamp, zi_in, zi_le_t, zi_le_f, zi_lt_t, zi_lt_f, zi_eq_t, zi_eq_f, nI_leI, nI_ltI, nI_eq, z_in, pk_mul, zu_same, zu_rw, zu_ix, zi_ne0, zi_sub, zi_m1, Nat.add_sub_cancel, Nat.reduceMul, Nat.reduceSub]
          refine iho _ (hE.q hfr rfl rfl rfl) (by rw [zu_rw _ _ (by omega)]; exact hr) (fun j hj => by rw [zu_rw _ _ (by omega)]; exact hg j hj) (fun c' hc' o' ho' => by rw [zu_ix _ _ (by omega)]; exact hf c' hc' o' ho') (fun o' ho' => ?_)
          by_cases he : o' = o
          · subst he; rw [zu_same]
          · rw [zu_ix _ _ (by omega)]; exact hlo o' (by omega)
      refine sX10_round_23 _ _ _ _ _ ?_
      simp (disch := omega) only [oAld, oAld1, oCV, oGI, oGR, oIfc, oIld, oIst, oPush, hM.1, hM.r23, hM.t23, hM.n23, hM.r54, hM.t54, hM.n54, hl, hnc, List.getElem?_cons_zero, List.getElem?_cons_succ, List.set_cons_zero, List.set_cons_succ, List.drop_succ_cons, List.drop_zero, List.take_succ_cons, List.take_zero, List.length_cons, List.length_nil, List.reverse_cons, List.reverse_nil, List.nil_append, List.cons_append, Option.toList_some, Option.toList_none, va_rf_s, true_and, and_true, true_implies, false_implies, not_true_eq_false, not_false_eq_true, Nat.reduceAdd, Nat.reduceLeDiff, Nat.le_add_left, Nat.zero_le, Nat.le_refl, znew, true_or, or_true, b01_t, b01_f, b01_ok, bool_ft, vp_b01, vp_b0, vp_b1, b01_eq0, b01_eq1, implies_true, nI_add, nI_clamp, zi_in, zi_le_t, zi_le_f, zi_lt_t, zi_lt_f, zi_eq_t, zi_eq_f, nI_leI, nI_ltI, nI_eq, z_in, pk_mul, zu_same, zu_rw, zu_ix, zi_ne0, zi_sub, zi_m1, Nat.add_sub_cancel, Nat.reduceMul, Nat.reduceSub]
      refine zC.of0 (zX10_outAt hM hX'.1 _) (by omega) (Nat.zero_le _) (Nat.zero_le _) ?_
      rintro _ _ ⟨rfl, rfl⟩
      rw [hr]
      refine sX10_round_41 _ _ _ _ _ ?_
      simp (disch := omega) only [oAld, oBin, oCV, oIf, oIld, oIst, oPush, hM.1, List.getElem?_cons_zero, List.getElem?_cons_succ, List.set_cons_zero, List.set_cons_succ, List.drop_succ_cons, List.drop_zero, List.take_succ_cons, List.take_zero, List.length_cons, List.length_nil, List.reverse_cons, List.reverse_nil, List.nil_append, List.cons_append, Option.toList_some, Option.toList_none, va_rf_s, true_and, and_true, true_implies, false_implies, not_true_eq_false, not_false_eq_true, Nat.reduceAdd, Nat.reduceLeDiff, Nat.le_add_left, Nat.zero_le, Nat.le_refl, znew, true_or, or_true, b01_t, b01_f, b01_ok, bool_ft, vp_b01, vp_b0, vp_b1, b01_eq0, b01_eq1, implies_true, nI_add, nI_clamp, zi_in, zi_le_t, zi_le_f, zi_lt_t, zi_lt_f, zi_eq_t, zi_eq_f, nI_leI, nI_ltI, nI_eq, z_in, pk_mul, zu_same, zu_rw, zu_ix, zi_ne0, zi_sub, zi_m1, Nat.add_sub_cancel, Nat.reduceMul, Nat.reduceSub]
      refine ⟨fun h0 => ?_, fun h0 => ?_⟩
      · have e : setF p (c + 1) = setF p c := setF_f (by rw [hpc]; unfold whoR; rw [h0]; decide)
        refine zC.of0 (zX10_fillsFar hM hX' (show c < 7 by omega) _ _) (by omega) (Nat.zero_le _) (Nat.zero_le _) ?_
        rintro _ _ ⟨rfl, S2, rfl, hf2, hg2⟩
        refine sX10_round_57 _ _ _ _ _ ?_
        simp (disch := omega) only [oIst, oPush, List.getElem?_cons_zero, List.getElem?_cons_succ, List.set_cons_zero, List.set_cons_succ, List.drop_succ_cons, List.drop_zero, List.take_succ_cons, List.take_zero, List.length_cons, List.length_nil, List.reverse_cons, List.reverse_nil, List.nil_append, List.cons_append, Option.toList_some, Option.toList_none, va_rf_s, true_and, and_true, true_implies, false_implies, not_true_eq_false, not_false_eq_true, Nat.reduceAdd, Nat.reduceLeDiff, Nat.le_add_left, Nat.zero_le, Nat.le_refl, znew, true_or, or_true, b01_t, b01_f, b01_ok, bool_ft, vp_b01, vp_b0, vp_b1, b01_eq0, b01_eq1, implies_true, nI_add, nI_clamp, zi_in, zi_le_t, zi_le_f, zi_lt_t, zi_lt_f, zi_eq_t, zi_eq_f, nI_leI, nI_ltI, nI_eq, z_in, pk_mul, zu_same, zu_rw, zu_ix, zi_ne0, zi_sub, zi_m1, Nat.add_sub_cancel, Nat.reduceMul, Nat.reduceSub]
        rw [← e]
        exact loop2 0 (by omega) S2 (hE.q hf2 rfl rfl rfl) ((hf2.at (o := 37) rfl rfl).trans hr) hg2 (fun c' hc' o ho => by rw [hf2.at (o := 45) rfl rfl]; exact hf c' hc' o ho) (fun o' ho' => absurd ho' (by omega))
      · have e : setF p (c + 1) = setF p c ||| bitF c := setF_t (by rw [hpc]; unfold whoR; simp [h0])
        refine zC.of0 (zX10_fillsFar hM hX' (show c < 7 by omega) _ _) (by omega) (Nat.zero_le _) (Nat.zero_le _) ?_
        rintro _ _ ⟨rfl, S2, rfl, hf2, hg2⟩
        refine sX10_round_57 _ _ _ _ _ ?_
        simp (disch := omega) only [oIst, oPush, List.getElem?_cons_zero, List.getElem?_cons_succ, List.set_cons_zero, List.set_cons_succ, List.drop_succ_cons, List.drop_zero, List.take_succ_cons, List.take_zero, List.length_cons, List.length_nil, List.reverse_cons, List.reverse_nil, List.nil_append, List.cons_append, Option.toList_some, Option.toList_none, va_rf_s, true_and, and_true, true_implies, false_implies, not_true_eq_false, not_false_eq_true, Nat.reduceAdd, Nat.reduceLeDiff, Nat.le_add_left, Nat.zero_le, Nat.le_refl, znew, true_or, or_true, b01_t, b01_f, b01_ok, bool_ft, vp_b01, vp_b0, vp_b1, b01_eq0, b01_eq1, implies_true, nI_add, nI_clamp, zi_in, zi_le_t, zi_le_f, zi_lt_t, zi_lt_f, zi_eq_t, zi_eq_f, nI_leI, nI_ltI, nI_eq, z_in, pk_mul, zu_same, zu_rw, zu_ix, zi_ne0, zi_sub, zi_m1, Nat.add_sub_cancel, Nat.reduceMul, Nat.reduceSub]
        rw [show setF p c ||| nI 1 <<< (nI c &&& 31) = setF p (c + 1) from e.symm]
        exact loop2 0 (by omega) S2 (hE.q hf2 rfl rfl rfl) ((hf2.at (o := 37) rfl rfl).trans hr) hg2 (fun c' hc' o ho => by rw [hf2.at (o := 45) rfl rfl]; exact hf c' hc' o ho) (fun o' ho' => absurd ho' (by omega))
  refine sX10_round_19 _ _ _ _ _ ?_
  simp (disch := omega) only [oIst, oPush, List.getElem?_cons_zero, List.getElem?_cons_succ, List.set_cons_zero, List.set_cons_succ, List.drop_succ_cons, List.drop_zero, List.take_succ_cons, List.take_zero, List.length_cons, List.length_nil, List.reverse_cons, List.reverse_nil, List.nil_append, List.cons_append, Option.toList_some, Option.toList_none, va_rf_s, true_and, and_true, true_implies, false_implies, not_true_eq_false, not_false_eq_true, Nat.reduceAdd, Nat.reduceLeDiff, Nat.le_add_left, Nat.zero_le, Nat.le_refl, znew, true_or, or_true, b01_t, b01_f, b01_ok, bool_ft, vp_b01, vp_b0, vp_b1, b01_eq0, b01_eq1, implies_true, nI_add, nI_clamp, zi_in, zi_le_t, zi_le_f, zi_lt_t, zi_lt_f, zi_eq_t, zi_eq_f, nI_leI, nI_ltI, nI_eq, z_in, pk_mul, zu_same, zu_rw, zu_ix, zi_ne0, zi_sub, zi_m1, Nat.add_sub_cancel, Nat.reduceMul, Nat.reduceSub]
  exact loop1 0 (by omega) S1 _ hE1 hr1 (fun c hc => absurd hc (by omega))
end MQ
