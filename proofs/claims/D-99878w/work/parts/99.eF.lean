/-! the component: a token's number and text; frames of the component's shapes; lists grow -/
theorem isTw.fr {h h' : Nat → Option zSh} {w : Nat} (hW : isTw h w) (hh : ∀ a, w ≤ a → a < w + 10 → h' a = h a) : isTw h' w := by
  have ft : ∀ b, w ≤ b → b < w + 10 → zt h' b = zt h b ∧ zn h' b = zn h b ∧ zr h' b = zr h b := fun b h1 h2 => by unfold zt zn zr; rw [hh b h1 h2]; exact ⟨rfl, rfl, rfl⟩
  obtain ⟨h1, h2, h3, h4, h5⟩ := hW
  refine ⟨by rw [(ft w (by omega) (by omega)).1]; exact h1, fun q hq => by rw [(ft w (by omega) (by omega)).2.2]; exact h2 q hq, fun q hq => ?_, by rw [(ft _ (by omega) (by omega)).1]; exact h4, by rw [(ft _ (by omega) (by omega)).2.2]; exact h5⟩
  have hb : q.1 < 10 := by
    have : ∀ q ∈ [(1, 6), (2, 6), (3, 6), (4, 6), (5, 5), (6, 5), (7, 6), (9, 9)], q.1 < 10 := by decide
    exact this q hq
  rw [(ft _ (by omega) (by omega)).1, (ft _ (by omega) (by omega)).2.1]; exact h3 q hq
theorem isC.fr {h h' : Nat → Option zSh} {c : Nat} (hB : isC h c) (hh : ∀ a, c ≤ a → a < c + 606 → a ≠ c → a ≠ c + 9 → h' a = h a) (h0 : zt h' c = zt h c ∧ ∀ k, k ≠ 3 → zr h' c k = zr h c k) (h9 : zt h' (c + 9) = zt h (c + 9) ∧ ∀ k, k ≠ 2 → zr h' (c + 9) k = zr h (c + 9) k) : isC h' c := by
  have ft : ∀ b, c ≤ b → b < c + 606 → b ≠ c → b ≠ c + 9 → zt h' b = zt h b ∧ zn h' b = zn h b ∧ zr h' b = zr h b := fun b h1 h2 h3 h4 => by unfold zt zn zr; rw [hh b h1 h2 h3 h4]; exact ⟨rfl, rfl, rfl⟩
  obtain ⟨a1, a2, a3, ⟨a4, a5, a6, a7⟩, ⟨a8, a9⟩, b1, ⟨b2, b3, b4⟩, b5, b6, b7, b8⟩ := hB
  refine ⟨h0.1.trans a1, fun q hq => ?_, fun q hq => ?_, ⟨a4.fr (fun a h1 h2 => hh a (by omega) (by omega) (by omega) (by omega)), a5.fr (fun a h1 h2 => hh a (by omega) (by omega) (by omega) (by omega)), fun k hk => ?_, fun k hk => ?_⟩, ⟨?_, ?_⟩, fun k hk => ?_, ⟨?_, ?_, ?_⟩, fun q hq => ?_, fun q hq => ?_, ?_, ?_⟩
  · have : ∀ q ∈ [(0, 1), (1, 2), (2, 9), (7, 16), (8, 26), (9, 36), (10, 37), (11, 68), (12, 69), (13, 70), (14, 71), (16, 72), (17, 73), (18, 74), (20, 203), (21, 204), (22, 205)], q.1 ≠ 3 := by decide
    rw [h0.2 _ (this q hq)]; exact a2 q hq
  · have : ∀ q ∈ [(36, 7, 40), (37, 7, 3), (70, 2, 3), (71, 0, 6), (72, 0, 7), (73, 0, 7), (74, 10, 128), (203, 0, 20), (204, 0, 20), (205, 2, 20)], 10 ≤ q.1 ∧ q.1 < 606 := by decide
    have hb := this q hq
    rw [(ft _ (by omega) (by omega) (by omega) (by omega)).1, (ft _ (by omega) (by omega) (by omega) (by omega)).2.1]; exact a3 q hq
  · obtain ⟨q1, q2⟩ := a6 k hk
    exact ⟨by rw [(ft _ (by omega) (by omega) (by omega) (by omega)).2.2]; exact q1, q2.fr (fun a h1 h2 => hh a (by omega) (by omega) (by omega) (by omega))⟩
  · obtain ⟨q1, q2⟩ := a7 k hk
    exact ⟨by rw [(ft _ (by omega) (by omega) (by omega) (by omega)).2.2]; exact q1, q2.fr (fun a h1 h2 => hh a (by omega) (by omega) (by omega) (by omega))⟩
  · rw [(ft _ (by omega) (by omega) (by omega) (by omega)).1]; exact a8
  · rw [(ft _ (by omega) (by omega) (by omega) (by omega)).1]; exact a9
  · obtain ⟨q1, q2, q3⟩ := b1 k hk
    exact ⟨by rw [(ft _ (by omega) (by omega) (by omega) (by omega)).2.2]; exact q1, by rw [(ft _ (by omega) (by omega) (by omega) (by omega)).1]; exact q2, by rw [(ft _ (by omega) (by omega) (by omega) (by omega)).2.1]; exact q3⟩
  · rw [(ft _ (by omega) (by omega) (by omega) (by omega)).1]; exact b2
  · rw [(ft _ (by omega) (by omega) (by omega) (by omega)).1]; exact b3
  · exact h9.1.trans b4
  · rw [(ft _ (by omega) (by omega) (by omega) (by omega)).2.2]; exact b5 q hq
  · have : ∀ q ∈ [(3, 5, 23), (4, 1, 2000), (5, 1, 2001), (6, 3, 2001), (7, 3, 2001), (8, 3, 2001)], 1 ≤ q.1 ∧ q.1 < 9 := by decide
    have hb := this q hq
    rw [(ft _ (by omega) (by omega) (by omega) (by omega)).1, (ft _ (by omega) (by omega) (by omega) (by omega)).2.1]; exact b6 q hq
  · rw [h9.2 0 (by omega)]; exact b7
  · rw [h9.2 1 (by omega)]; exact b8
section EF
variable {l : Launch} {E : zE} {z : Nat} {h : Nat → Option zSh} {S : Nat → Nat → Int32} {L : Nat → Nat → Int64} {c : Nat} {P : List Int32} {adK adV : Nat → Nat} {oF : Option Nat}
theorem zX2_number (hB : isC h c) (hP : cP S c P) (hBy : isBy P) {j p n : Nat} (hj : j < 2001) (h6 : S (c + 6) j = nI p) (h7 : S (c + 7) j = nI (p + n)) (hn : n ≤ 4) (hpn : p + n ≤ P.length) (hd : ∀ i, i < n → isD (by8 P (p + i)) = true) : zM l E 0 YX2_number [.ref (c + 2), .int (nI j)] (z, h, S, L) 0 0 (fun r X => r = some (.int (nI (dgV P p n))) ∧ X = (z, h, S, L)) (fun _ _ => False) := by
  obtain ⟨p1, p2, p3⟩ := hP
  refine zM.go rfl rfl (Nat.le_of_ble_eq_true rfl) (ls := [some (.ref (c + 2)), some (.int (nI j)), none, none]) rfl ?_
  intro V hVl hVE hVd hVc hVs hVQ hVX
  have bnd : ∀ i, i ≤ n → dgV P p i ≤ 9999 := fun i hi => by
    have := dgV_lt (P := P) (i := p) i (fun q hq => hd q (by omega))
    have h2 : 10 ^ i ≤ 10 ^ 4 := Nat.pow_le_pow_right (by omega) (by omega)
    omega
  have loop : ∀ i, i ≤ n → zW V YX2_number 9 [some (.ref (c + 2)), some (.int (nI j)), some (.int (nI (dgV P p i))), some (.int (nI (p + i)))] [] (z, h, S, L) 0 0 := by
    refine z_down ?_ (fun i hi ih => ?_)
    · refine sX2_number_9 _ _ _ _ _ ?_
      simp (disch := omega) only [oAld, oAld1, oBin, oGR, oIfc, oIld, oInc, oIst, oNop, oPush, oRI, hB.tk, hB.tr5, hB.tt5, hB.tn5, hB.tr1, hB.tt1, hB.tn1, h7, List.getElem?_cons_zero, List.getElem?_cons_succ, List.set_cons_zero, List.set_cons_succ, List.drop_succ_cons, List.drop_zero, List.take_succ_cons, List.take_zero, List.length_cons, List.length_nil, List.reverse_cons, List.reverse_nil, List.nil_append, List.cons_append, Option.toList_some, Option.toList_none, va_rf_s, true_and, and_true, true_implies, false_implies, not_true_eq_false, not_false_eq_true, Nat.reduceAdd, Nat.reduceLeDiff, Nat.le_add_left, Nat.zero_le, Nat.le_refl, znew, true_or, or_true, b01_t, b01_f, b01_ok, bool_ft, vp_b01, vp_b0, vp_b1, b01_eq0, b01_eq1, implies_true, nI_add, nI_clamp, zi_in, zi_le_t, zi_le_f, zi_lt_t, zi_lt_f, zi_eq_t, zi_eq_f, nI_leI, nI_ltI, nI_eq, z_in, pk_mul, zu_same, zu_rw, zu_ix, zi_ne0, zi_sub, zi_m1, Nat.add_sub_cancel, Nat.reduceMul, Nat.reduceSub]
      exact hVQ _ _ ⟨rfl, rfl⟩
    · have hr := of_decide_eq_true (hd i hi)
      have et : S (c + 4) (p + i) = nI (by8 P (p + i)) := by
        rw [p3 _ (by omega)]
        rcases ctK hBy (p + i) with ⟨q, -⟩ | ⟨-, q⟩
        · unfold ctB at q; rw [if_pos (by omega)] at q; exact q
        · omega
      have b1 := bnd i (by omega)
      have e1 : dgV P p (i + 1) = 10 * dgV P p i + (by8 P (p + i) - 48) := rfl
      rw [e1] at ih
      generalize dgV P p i = v at b1 ih
      generalize by8 P (p + i) = u at hr et ih
      have e2 : 10 * v + u - 48 = 10 * v + (u - 48) := by omega
      refine sX2_number_9 _ _ _ _ _ ?_
      simp (disch := omega) only [oAld, oAld1, oBin, oGR, oIfc, oIld, oInc, oIst, oNop, oPush, oRI, hB.tk, hB.tr5, hB.tt5, hB.tn5, hB.tr1, hB.tt1, hB.tn1, h7, et, e2, List.getElem?_cons_zero, List.getElem?_cons_succ, List.set_cons_zero, List.set_cons_succ, List.drop_succ_cons, List.drop_zero, List.take_succ_cons, List.take_zero, List.length_cons, List.length_nil, List.reverse_cons, List.reverse_nil, List.nil_append, List.cons_append, Option.toList_some, Option.toList_none, va_rf_s, true_and, and_true, true_implies, false_implies, not_true_eq_false, not_false_eq_true, Nat.reduceAdd, Nat.reduceLeDiff, Nat.le_add_left, Nat.zero_le, Nat.le_refl, znew, true_or, or_true, b01_t, b01_f, b01_ok, bool_ft, vp_b01, vp_b0, vp_b1, b01_eq0, b01_eq1, implies_true, nI_add, nI_clamp, zi_in, zi_le_t, zi_le_f, zi_lt_t, zi_lt_f, zi_eq_t, zi_eq_f, nI_leI, nI_ltI, nI_eq, z_in, pk_mul, zu_same, zu_rw, zu_ix, zi_ne0, zi_sub, zi_m1, Nat.add_sub_cancel, Nat.reduceMul, Nat.reduceSub]
      exact ih
  refine sX2_number_0 _ _ _ _ _ ?_
  simp (disch := omega) only [oAld, oAld1, oGR, oIld, oIst, oPush, hB.tk, hB.tr4, hB.tt4, hB.tn4, h6, List.getElem?_cons_zero, List.getElem?_cons_succ, List.set_cons_zero, List.set_cons_succ, List.drop_succ_cons, List.drop_zero, List.take_succ_cons, List.take_zero, List.length_cons, List.length_nil, List.reverse_cons, List.reverse_nil, List.nil_append, List.cons_append, Option.toList_some, Option.toList_none, va_rf_s, true_and, and_true, true_implies, false_implies, not_true_eq_false, not_false_eq_true, Nat.reduceAdd, Nat.reduceLeDiff, Nat.le_add_left, Nat.zero_le, Nat.le_refl, znew, true_or, or_true, b01_t, b01_f, b01_ok, bool_ft, vp_b01, vp_b0, vp_b1, b01_eq0, b01_eq1, implies_true, nI_add, nI_clamp, zi_in, zi_le_t, zi_le_f, zi_lt_t, zi_lt_f, zi_eq_t, zi_eq_f, nI_leI, nI_ltI, nI_eq, z_in, pk_mul, zu_same, zu_rw, zu_ix, zi_ne0, zi_sub, zi_m1, Nat.add_sub_cancel, Nat.reduceMul, Nat.reduceSub]
  exact loop 0 (by omega)
theorem zX2_text (hB : isC h c) (hcz : c + 606 ≤ z) (hP : cP S c P) (hBy : isBy P) (hc : csZ E) (he : seN E) {j p n : Nat} (hj : j < 2001) (h6 : S (c + 6) j = nI p) (h7 : S (c + 7) j = nI (p + n)) (hn : n ≤ 8) (hpn : p + n ≤ P.length) (hd : ∀ i, i < n → isL (by8 P (p + i)) = true) : zM l E 6 YX2_text [.ref (c + 2), .int (nI j)] (z, h, S, L) 4 32 (fun r X => r = some (.ref (z + 2)) ∧ ∃ h' S' L', X = (z + 4, h', S', L') ∧ gw (fun _ => False) (z, h, S, L) (z + 4, h', S', L') ∧ isSt h' S' (fun a => z ≤ a ∧ a < z + 4) (z + 2) (nmL P p n)) (fun _ _ => False) := by
  obtain ⟨p1, p2, p3⟩ := hP
  refine zM.go rfl rfl (Nat.le_of_ble_eq_true rfl) (ls := [some (.ref (c + 2)), some (.int (nI j)), none, none]) rfl ?_
  intro V hVl hVE hVd hVc hVs hVQ hVX
  refine sX2_text_0 _ _ _ _ _ ?_
  simp (disch := omega) only [oCI, oDup, oNew, hVc, hVs, List.getElem?_cons_zero, List.getElem?_cons_succ, List.set_cons_zero, List.set_cons_succ, List.drop_succ_cons, List.drop_zero, List.take_succ_cons, List.take_zero, List.length_cons, List.length_nil, List.reverse_cons, List.reverse_nil, List.nil_append, List.cons_append, Option.toList_some, Option.toList_none, va_rf_s, true_and, and_true, true_implies, false_implies, not_true_eq_false, not_false_eq_true, Nat.reduceAdd, Nat.reduceLeDiff, Nat.le_add_left, Nat.zero_le, Nat.le_refl, true_or, or_true, b01_t, b01_f, b01_ok, bool_ft, vp_b01, vp_b0, vp_b1, b01_eq0, b01_eq1, implies_true, zneq, hN_ts, hN_to, hN_ns, hN_no, hN_rs, hN_ro, SN_s, SN_o, zur_t, zur_n, zur_rs, zur_rk, zur_ro, nI_add, nI_clamp, zi_in, zi_le_t, zi_le_f, zi_lt_t, zi_lt_f, zi_eq_t, zi_eq_f, nI_leI, nI_ltI, nI_eq, z_in, pk_mul, zu_same, zu_rw, zu_ix, zi_ne0, zi_sub, zi_m1, Nat.add_sub_cancel, Nat.reduceMul, Nat.reduceSub]
  refine zC.ofN (zJ12_init (sb := z) (z := z + 1) (by rw [hVE]; exact hc) hN_ts (by omega) (by rw [SN_s])) (by omega) (by omega) (by omega) ?_
  rintro _ _ ⟨rfl, h1, S1, L1, rfl, g1, b1⟩
  have o1 : ∀ a, a < z → h1 a = h a ∧ S1 a = S a ∧ L1 a = L a := fun a ha => by
    have q := g1.2 a (show a < z + 1 by omega)
    have q1 := q.1 (show ¬ a = z by omega)
    exact ⟨q1.1.trans (hN_o (by omega)), q1.2.trans (SN_o (by omega)), q.2.trans (LN_o (by omega))⟩
  have hB1 : isC h1 c := hB.fr (fun a q1 q2 _ _ => (o1 a (by omega)).1) ⟨by unfold zt; rw [(o1 c (by omega)).1], fun k _ => by unfold zr; rw [(o1 c (by omega)).1]⟩ ⟨by unfold zt; rw [(o1 (c + 9) (by omega)).1], fun k _ => by unfold zr; rw [(o1 (c + 9) (by omega)).1]⟩
  have loop : ∀ i, i ≤ n → ∀ S', (∀ a, a ≠ z → a ≠ z + 1 → S' a = S1 a) → isSb h1 S' z (z + 1) (nmL P p i) → zW V YX2_text 15 [some (.ref (c + 2)), some (.int (nI j)), some (.ref z), some (.int (nI (p + i)))] [] (z + 2, h1, S', L1) 2 20 := by
    refine z_down ?_ (fun i hi ih => ?_)
    · intro S' hS hb
      have hB := hB1
      have e7 : S' (c + 7) j = nI (p + n) := by rw [hS _ (by omega) (by omega), (o1 _ (by omega)).2.1]; exact h7
      have hs1 := hb.1
      have hlen : (nmL P p n).length = n := nmL_len n
      refine sX2_text_15 _ _ _ _ _ ?_
      simp (disch := omega) only [oAld, oAld1, oCV, oGR, oIfc, oIld, oUn, hB.tk, hB.tr5, hB.tt5, hB.tn5, hB.tr1, hB.tt1, hB.tn1, e7, hs1, List.getElem?_cons_zero, List.getElem?_cons_succ, List.set_cons_zero, List.set_cons_succ, List.drop_succ_cons, List.drop_zero, List.take_succ_cons, List.take_zero, List.length_cons, List.length_nil, List.reverse_cons, List.reverse_nil, List.nil_append, List.cons_append, Option.toList_some, Option.toList_none, va_rf_s, true_and, and_true, true_implies, false_implies, not_true_eq_false, not_false_eq_true, Nat.reduceAdd, Nat.reduceLeDiff, Nat.le_add_left, Nat.zero_le, Nat.le_refl, znew, true_or, or_true, b01_t, b01_f, b01_ok, bool_ft, vp_b01, vp_b0, vp_b1, b01_eq0, b01_eq1, implies_true, nI_add, nI_clamp, zi_in, zi_le_t, zi_le_f, zi_lt_t, zi_lt_f, zi_eq_t, zi_eq_f, nI_leI, nI_ltI, nI_eq, z_in, pk_mul, zu_same, zu_rw, zu_ix, zi_ne0, zi_sub, zi_m1, Nat.add_sub_cancel, Nat.reduceMul, Nat.reduceSub]
      refine zC.ofN (zJ12_toString (by rw [hVE]; exact hc) (by omega) (by omega) hb) (by omega) (by omega) (by omega) ?_
      rintro _ _ ⟨rfl, h2, S2, L2, rfl, g2, t2⟩
      refine sX2_text_47 _ _ _ _ _ ?_
      simp (disch := omega) only [oRA, hVc, hVs, List.getElem?_cons_zero, List.getElem?_cons_succ, List.set_cons_zero, List.set_cons_succ, List.drop_succ_cons, List.drop_zero, List.take_succ_cons, List.take_zero, List.length_cons, List.length_nil, List.reverse_cons, List.reverse_nil, List.nil_append, List.cons_append, Option.toList_some, Option.toList_none, va_rf_s, true_and, and_true, true_implies, false_implies, not_true_eq_false, not_false_eq_true, Nat.reduceAdd, Nat.reduceLeDiff, Nat.le_add_left, Nat.zero_le, Nat.le_refl, znew, true_or, or_true, b01_t, b01_f, b01_ok, bool_ft, vp_b01, vp_b0, vp_b1, b01_eq0, b01_eq1, implies_true, nI_add, nI_clamp, zi_in, zi_le_t, zi_le_f, zi_lt_t, zi_lt_f, zi_eq_t, zi_eq_f, nI_leI, nI_ltI, nI_eq, z_in, pk_mul, zu_same, zu_rw, zu_ix, zi_ne0, zi_sub, zi_m1, Nat.add_sub_cancel, Nat.reduceMul, Nat.reduceSub]
      refine ⟨hVQ _ _ ⟨rfl, h2, S2, L2, rfl, ⟨by show z ≤ z + 4; omega, fun a ha => ?_⟩, t2.fr (fun _ _ => rfl) (fun _ _ => rfl) (fun a ha => by omega)⟩, by omega⟩
      have ha' : a < z := ha
      have q := g2.2 a (show a < z + 2 by omega)
      have q1 := q.1 (fun x => x)
      obtain ⟨r1, r2, r3⟩ := o1 a ha'
      exact ⟨fun _ => ⟨q1.1.trans r1, q1.2.trans ((hS a (by omega) (by omega)).trans r2)⟩, q.2.trans r3⟩
    · intro S' hS hb
      have hB := hB1
      have e7 : S' (c + 7) j = nI (p + n) := by rw [hS _ (by omega) (by omega), (o1 _ (by omega)).2.1]; exact h7
      have hr := of_decide_eq_true (hd i hi)
      have et : S' (c + 4) (p + i) = nI (by8 P (p + i) - 96 + 96) := by
        rw [hS _ (by omega) (by omega), (o1 _ (by omega)).2.1, p3 _ (by omega)]
        rcases ctK hBy (p + i) with ⟨q, -⟩ | ⟨-, q⟩
        · unfold ctB at q; rw [if_pos (by omega)] at q; rw [q]; congr 1; omega
        · omega
      have hs1 := hb.1
      have hwl : (nmL P p i).length < 8 := by rw [nmL_len]; omega
      have e1 : nmL P p (i + 1) = nmL P p i ++ [by8 P (p + i) - 96] := rfl
      rw [e1] at ih
      have hu26 : by8 P (p + i) - 96 + 96 < 128 ∧ by8 P (p + i) - 96 ≤ 26 := by omega
      generalize by8 P (p + i) - 96 = u at et ih hu26
      refine sX2_text_15 _ _ _ _ _ ?_
      simp (disch := omega) only [oAld, oAld1, oCV, oGR, oIfc, oIld, oUn, hB.tk, hB.tr5, hB.tt5, hB.tn5, hB.tr1, hB.tt1, hB.tn1, e7, hs1, et, i_c2, List.getElem?_cons_zero, List.getElem?_cons_succ, List.set_cons_zero, List.set_cons_succ, List.drop_succ_cons, List.drop_zero, List.take_succ_cons, List.take_zero, List.length_cons, List.length_nil, List.reverse_cons, List.reverse_nil, List.nil_append, List.cons_append, Option.toList_some, Option.toList_none, va_rf_s, true_and, and_true, true_implies, false_implies, not_true_eq_false, not_false_eq_true, Nat.reduceAdd, Nat.reduceLeDiff, Nat.le_add_left, Nat.zero_le, Nat.le_refl, znew, true_or, or_true, b01_t, b01_f, b01_ok, bool_ft, vp_b01, vp_b0, vp_b1, b01_eq0, b01_eq1, implies_true, nI_add, nI_clamp, zi_in, zi_le_t, zi_le_f, zi_lt_t, zi_lt_f, zi_eq_t, zi_eq_f, nI_leI, nI_ltI, nI_eq, z_in, pk_mul, zu_same, zu_rw, zu_ix, zi_ne0, zi_sub, zi_m1, Nat.add_sub_cancel, Nat.reduceMul, Nat.reduceSub]
      refine zC.ofN (zJ12_append (by rw [hVE]; exact hc) (by rw [hVE]; exact he) hb hwl hu26.2) (by omega) (by omega) (by omega) ?_
      rintro _ _ ⟨rfl, S2, rfl, g2, b2⟩
      refine sX2_text_36 _ _ _ _ _ ?_
      simp (disch := omega) only [oInc, oNop, oPop, List.getElem?_cons_zero, List.getElem?_cons_succ, List.set_cons_zero, List.set_cons_succ, List.drop_succ_cons, List.drop_zero, List.take_succ_cons, List.take_zero, List.length_cons, List.length_nil, List.reverse_cons, List.reverse_nil, List.nil_append, List.cons_append, Option.toList_some, Option.toList_none, va_rf_s, true_and, and_true, true_implies, false_implies, not_true_eq_false, not_false_eq_true, Nat.reduceAdd, Nat.reduceLeDiff, Nat.le_add_left, Nat.zero_le, Nat.le_refl, znew, true_or, or_true, b01_t, b01_f, b01_ok, bool_ft, vp_b01, vp_b0, vp_b1, b01_eq0, b01_eq1, implies_true, nI_add, nI_clamp, zi_in, zi_le_t, zi_le_f, zi_lt_t, zi_lt_f, zi_eq_t, zi_eq_f, nI_leI, nI_ltI, nI_eq, z_in, pk_mul, zu_same, zu_rw, zu_ix, zi_ne0, zi_sub, zi_m1, Nat.add_sub_cancel, Nat.reduceMul, Nat.reduceSub]
      exact ih S2 (fun a q1 q2 => (g2 a q1 q2).trans (hS a q1 q2)) b2
  have hB := hB1
  have e6 : S1 (c + 6) j = nI p := by rw [(o1 _ (by omega)).2.1]; exact h6
  refine sX2_text_7 _ _ _ _ _ ?_
  simp (disch := omega) only [oAld, oAld1, oAst, oGR, oIld, oIst, hB.tk, hB.tr4, hB.tt4, hB.tn4, e6, List.getElem?_cons_zero, List.getElem?_cons_succ, List.set_cons_zero, List.set_cons_succ, List.drop_succ_cons, List.drop_zero, List.take_succ_cons, List.take_zero, List.length_cons, List.length_nil, List.reverse_cons, List.reverse_nil, List.nil_append, List.cons_append, Option.toList_some, Option.toList_none, va_rf_s, true_and, and_true, true_implies, false_implies, not_true_eq_false, not_false_eq_true, Nat.reduceAdd, Nat.reduceLeDiff, Nat.le_add_left, Nat.zero_le, Nat.le_refl, znew, true_or, or_true, b01_t, b01_f, b01_ok, bool_ft, vp_b01, vp_b0, vp_b1, b01_eq0, b01_eq1, implies_true, nI_add, nI_clamp, zi_in, zi_le_t, zi_le_f, zi_lt_t, zi_lt_f, zi_eq_t, zi_eq_f, nI_leI, nI_ltI, nI_eq, z_in, pk_mul, zu_same, zu_rw, zu_ix, zi_ne0, zi_sub, zi_m1, Nat.add_sub_cancel, Nat.reduceMul, Nat.reduceSub]
  exact loop 0 (by omega) S1 (fun _ _ _ => rfl) b1
/-- a list grows by one; dE: the list of no length that all begin with -/
abbrev dfZ (E : zE) (dE : Nat) : Prop := zsZ E "java/util/ArrayList" "DEFAULTCAPACITY_EMPTY_ELEMENTDATA" "[Ljava/lang/Object;" (.ref dE) ∧ ∃ f, zsT E (zty 9) dE 0 f
def lsG (z : Nat) (h : Nat → Option zSh) (S : Nat → Nat → Int32) (L : Nat → Nat → Int64) (a n e v : Nat) (X : zX) : Prop := ∃ z' h' S' L' e', X = (z', h', S', L') ∧ ((n = 0 ∧ e' = z ∧ z' = z + 1) ∨ (n ≠ 0 ∧ e' = e ∧ z' = z)) ∧ (∀ b, b < z → b ≠ a → (n ≠ 0 → b ≠ e) → h' b = h b) ∧ (∀ b, b < z → b ≠ a → S' b = S b) ∧ (∀ b, b < z → L' b = L b) ∧ zt h' a = 29 ∧ S' a 2 = nI (n + 1) ∧ zr h' a 1 = some e' ∧ (zt h' e' = 9 ∧ zn h' e' = 10) ∧ (∀ i, i < n → zr h' e' i = zr h e i) ∧ zr h' e' n = some v
theorem zJ5_grow {a dE : Nat} (hd : dfZ E dE) (ht : zt h a = 29) (hz : a < z) (h2 : S a 2 = nI 0) (hr : zr h a 1 = some dE) : zM l E 2 YJ5_grow [.ref a] (z, h, S, L) 1 10 (fun r X => r = some (.ref z) ∧ X = (z + 1, zur (hN h z (9, 10, fun _ => none)) a 1 (some z), SN S z, LN L z)) (fun _ _ => False) := by
  have base : ∀ l' E', dfZ E' dE → zM l' E' 1 YJ5_grow_2 [.ref a, .int (nI 1)] (z, h, S, L) 1 10 (fun r X => r = some (.ref z) ∧ X = (z + 1, zur (hN h z (9, 10, fun _ => none)) a 1 (some z), SN S z, LN L z)) (fun _ _ => False) := by
    intro l' E' hd
    refine zM.go rfl rfl (Nat.le_of_ble_eq_true rfl) (ls := [some (.ref a), some (.int (nI 1)), none, none]) rfl ?_
    intro V hVl hVE hVd hVc hVs hVQ hVX
    obtain ⟨d1, f, d2⟩ := hd
    have hL0 : zsL V.2.1 h 9 dE 0 := Or.inl ⟨f, by rw [hVE]; exact d2⟩
    rw [← hVE] at d1
    have hm : maxF (nI 10) (nI 1) = nI 10 := by decide
    have hp : (nI 10 < (0 : Int32)) = False := eq_false (by decide)
    refine sJ5_grow_2_0 (by omega) (n4 := 0) (v14 := .ref dE) _ _ _ _ _ ?_
    simp (disch := omega) only [oAld, oBot, oDupR, oGR, oGetS, oIf, oIfA, oIld, oIst, oLenO, oM2, oNewa, oPR, oPush, oRA, ht, hr, hL0, d1, hm, hp, hVc, hVs, List.getElem?_cons_zero, List.getElem?_cons_succ, List.set_cons_zero, List.set_cons_succ, List.drop_succ_cons, List.drop_zero, List.take_succ_cons, List.take_zero, List.length_cons, List.length_nil, List.reverse_cons, List.reverse_nil, List.nil_append, List.cons_append, Option.toList_some, Option.toList_none, va_rf_s, true_and, and_true, true_implies, false_implies, not_true_eq_false, not_false_eq_true, Nat.reduceAdd, Nat.reduceLeDiff, Nat.le_add_left, Nat.zero_le, Nat.le_refl, true_or, or_true, b01_t, b01_f, b01_ok, bool_ft, vp_b01, vp_b0, vp_b1, b01_eq0, b01_eq1, implies_true, zneq, hN_ts, hN_to, hN_ns, hN_no, hN_rs, hN_ro, SN_s, SN_o, zur_t, zur_n, zur_rs, zur_rk, zur_ro, nI_add, nI_clamp, zi_in, zi_le_t, zi_le_f, zi_lt_t, zi_lt_f, zi_eq_t, zi_eq_f, nI_leI, nI_ltI, nI_eq, z_in, pk_mul, zu_same, zu_rw, zu_ix, zi_ne0, zi_sub, zi_m1, Nat.add_sub_cancel, Nat.reduceMul, Nat.reduceSub]
    exact hVQ _ _ ⟨rfl, rfl⟩
  refine zM.go rfl rfl (Nat.le_of_ble_eq_true rfl) (ls := [some (.ref a)]) rfl ?_
  intro V hVl hVE hVd hVc hVs hVQ hVX
  refine sJ5_grow_0 _ _ _ _ _ ?_
  simp (disch := omega) only [oAld, oBin, oCV, oGI, oPush, ht, h2, List.getElem?_cons_zero, List.getElem?_cons_succ, List.set_cons_zero, List.set_cons_succ, List.drop_succ_cons, List.drop_zero, List.take_succ_cons, List.take_zero, List.length_cons, List.length_nil, List.reverse_cons, List.reverse_nil, List.nil_append, List.cons_append, Option.toList_some, Option.toList_none, va_rf_s, true_and, and_true, true_implies, false_implies, not_true_eq_false, not_false_eq_true, Nat.reduceAdd, Nat.reduceLeDiff, Nat.le_add_left, Nat.zero_le, Nat.le_refl, znew, true_or, or_true, b01_t, b01_f, b01_ok, bool_ft, vp_b01, vp_b0, vp_b1, b01_eq0, b01_eq1, implies_true, nI_add, nI_clamp, zi_in, zi_le_t, zi_le_f, zi_lt_t, zi_lt_f, zi_eq_t, zi_eq_f, nI_leI, nI_ltI, nI_eq, z_in, pk_mul, zu_same, zu_rw, zu_ix, zi_ne0, zi_sub, zi_m1, Nat.add_sub_cancel, Nat.reduceMul, Nat.reduceSub]
  refine zC.ofN (base _ _ (by rw [hVE]; exact hd)) (by omega) (by omega) (by omega) ?_
  rintro _ _ ⟨rfl, rfl⟩
  refine sJ5_grow_10 _ _ _ _ _ ?_
  simp (disch := omega) only [oRA, hVc, hVs, List.getElem?_cons_zero, List.getElem?_cons_succ, List.set_cons_zero, List.set_cons_succ, List.drop_succ_cons, List.drop_zero, List.take_succ_cons, List.take_zero, List.length_cons, List.length_nil, List.reverse_cons, List.reverse_nil, List.nil_append, List.cons_append, Option.toList_some, Option.toList_none, va_rf_s, true_and, and_true, true_implies, false_implies, not_true_eq_false, not_false_eq_true, Nat.reduceAdd, Nat.reduceLeDiff, Nat.le_add_left, Nat.zero_le, Nat.le_refl, znew, true_or, or_true, b01_t, b01_f, b01_ok, bool_ft, vp_b01, vp_b0, vp_b1, b01_eq0, b01_eq1, implies_true, nI_add, nI_clamp, zi_in, zi_le_t, zi_le_f, zi_lt_t, zi_lt_f, zi_eq_t, zi_eq_f, nI_leI, nI_ltI, nI_eq, z_in, pk_mul, zu_same, zu_rw, zu_ix, zi_ne0, zi_sub, zi_m1, Nat.add_sub_cancel, Nat.reduceMul, Nat.reduceSub]
  exact hVQ _ _ ⟨rfl, rfl⟩
theorem zJ5_add {a n e v dE k : Nat} (hd : dfZ E dE) (ht : zt h a = 29) (hz : a < z) (h2 : S a 2 = nI n) (hn : n < 10) (hv : zt h v = 20 + k) (hk : k ∈ [17, 18, 19, 20]) (hvz : v < z) (he : (n = 0 ∧ zr h a 1 = some dE) ∨ (n ≠ 0 ∧ zr h a 1 = some e ∧ zt h e = 9 ∧ zn h e = 10 ∧ e < z)) : zM l E 4 YJ5_add [.ref a, .ref v] (z, h, S, L) 1 10 (fun r X => r = some (.int (nI 1)) ∧ lsG z h S L a n e v X) (fun _ _ => False) := by
  refine zM.go rfl rfl (Nat.le_of_ble_eq_true rfl) (ls := [some (.ref a), some (.ref v)]) rfl ?_
  intro V hVl hVE hVd hVc hVs hVQ hVX
  rcases he with ⟨rfl, he⟩ | ⟨hn0, he, e1, e2, e3⟩
  · have base : ∀ l' E' S, dfZ E' dE → S a 2 = nI 0 → zM l' E' 3 YJ5_add_2 [.ref a, .ref v, .ref dE, .int (nI 0)] (z, h, S, L) 1 10 (fun r X => r = none ∧ X = (z + 1, zur (zur (hN h z (9, 10, fun _ => none)) a 1 (some z)) z 0 (some v), zu (SN S z) a 2 (nI 1), LN L z)) (fun _ _ => False) := by
      intro l' E' S hd h2
      refine zM.go rfl rfl (Nat.le_of_ble_eq_true rfl) (ls := [some (.ref a), some (.ref v), some (.ref dE), some (.int (nI 0))]) rfl ?_
      intro V hVl hVE hVd hVc hVs hVQ hVX
      have hL0 : zsL V.2.1 h 9 dE 0 := Or.inl (by obtain ⟨-, f, d2⟩ := hd; exact ⟨f, by rw [hVE]; exact d2⟩)
      refine sJ5_add_2_0 (n2 := 0) _ _ _ _ _ ?_
      simp (disch := omega) only [oAld, oAst9s, oBin, oCV, oIfc, oIld, oLenO, oPI, oPush, oRV, hL0, ht, List.getElem?_cons_zero, List.getElem?_cons_succ, List.set_cons_zero, List.set_cons_succ, List.drop_succ_cons, List.drop_zero, List.take_succ_cons, List.take_zero, List.length_cons, List.length_nil, List.reverse_cons, List.reverse_nil, List.nil_append, List.cons_append, Option.toList_some, Option.toList_none, va_rf_s, true_and, and_true, true_implies, false_implies, not_true_eq_false, not_false_eq_true, Nat.reduceAdd, Nat.reduceLeDiff, Nat.le_add_left, Nat.zero_le, Nat.le_refl, znew, true_or, or_true, b01_t, b01_f, b01_ok, bool_ft, vp_b01, vp_b0, vp_b1, b01_eq0, b01_eq1, implies_true, nI_add, nI_clamp, zi_in, zi_le_t, zi_le_f, zi_lt_t, zi_lt_f, zi_eq_t, zi_eq_f, nI_leI, nI_ltI, nI_eq, z_in, pk_mul, zu_same, zu_rw, zu_ix, zi_ne0, zi_sub, zi_m1, Nat.add_sub_cancel, Nat.reduceMul, Nat.reduceSub]
      refine zC.ofN (zJ5_grow (by rw [hVE]; exact hd) ht hz h2 he) (by omega) (by omega) (by omega) ?_
      rintro _ _ ⟨rfl, rfl⟩
      have hin : vp_in (nI 0) 10 := (z_in (by omega) (by omega)).mpr (by omega)
      have tz : zt (zur (hN h z (9, 10, fun _ => none)) a 1 (some z)) z = 9 := by rw [zur_t]; exact hN_ts
      have nz : zn (zur (hN h z (9, 10, fun _ => none)) a 1 (some z)) z = 10 := by rw [zur_n]; exact hN_ns
      have tv : zt (zur (hN h z (9, 10, fun _ => none)) a 1 (some z)) v = 20 + k := by rw [zur_t, hN_to (by omega)]; exact hv
      have ta : zt (zur (zur (hN h z (9, 10, fun _ => none)) a 1 (some z)) z 0 (some v)) a = 29 := by rw [zur_t, zur_t, hN_to (by omega)]; exact ht
      refine sJ5_add_2_10 _ _ _ _ _ ?_
      simp (disch := omega) only [oAld, oAst, oAst9s, oBin, oIld, oPI, oPush, oRV, tz, nz, ta, hVc, hVs, List.getElem?_cons_zero, List.getElem?_cons_succ, List.set_cons_zero, List.set_cons_succ, List.drop_succ_cons, List.drop_zero, List.take_succ_cons, List.take_zero, List.length_cons, List.length_nil, List.reverse_cons, List.reverse_nil, List.nil_append, List.cons_append, Option.toList_some, Option.toList_none, va_rf_s, true_and, and_true, true_implies, false_implies, not_true_eq_false, not_false_eq_true, Nat.reduceAdd, Nat.reduceLeDiff, Nat.le_add_left, Nat.zero_le, Nat.le_refl, znew, true_or, or_true, b01_t, b01_f, b01_ok, bool_ft, vp_b01, vp_b0, vp_b1, b01_eq0, b01_eq1, implies_true, nI_add, nI_clamp, zi_in, zi_le_t, zi_le_f, zi_lt_t, zi_lt_f, zi_eq_t, zi_eq_f, nI_leI, nI_ltI, nI_eq, z_in, pk_mul, zu_same, zu_rw, zu_ix, zi_ne0, zi_sub, zi_m1, Nat.add_sub_cancel, Nat.reduceMul, Nat.reduceSub]
      exact ⟨k, hk, tv, hVQ _ _ ⟨rfl, rfl⟩⟩
    refine sJ5_add_0 _ _ _ _ _ ?_
    simp (disch := omega) only [oAld, oBin, oCV, oDup, oGI, oGR, oPI, oPush, ht, he, h2, List.getElem?_cons_zero, List.getElem?_cons_succ, List.set_cons_zero, List.set_cons_succ, List.drop_succ_cons, List.drop_zero, List.take_succ_cons, List.take_zero, List.length_cons, List.length_nil, List.reverse_cons, List.reverse_nil, List.nil_append, List.cons_append, Option.toList_some, Option.toList_none, va_rf_s, true_and, and_true, true_implies, false_implies, not_true_eq_false, not_false_eq_true, Nat.reduceAdd, Nat.reduceLeDiff, Nat.le_add_left, Nat.zero_le, Nat.le_refl, znew, true_or, or_true, b01_t, b01_f, b01_ok, bool_ft, vp_b01, vp_b0, vp_b1, b01_eq0, b01_eq1, implies_true, nI_add, nI_clamp, zi_in, zi_le_t, zi_le_f, zi_lt_t, zi_lt_f, zi_eq_t, zi_eq_f, nI_leI, nI_ltI, nI_eq, z_in, pk_mul, zu_same, zu_rw, zu_ix, zi_ne0, zi_sub, zi_m1, Nat.add_sub_cancel, Nat.reduceMul, Nat.reduceSub]
    refine zC.ofN (base _ _ _ (by rw [hVE]; exact hd) (by rw [zu_ix _ _ (by omega)]; exact h2)) (by omega) (by omega) (by omega) ?_
    rintro _ _ ⟨rfl, rfl⟩
    refine sJ5_add_23 _ _ _ _ _ ?_
    simp (disch := omega) only [oPush, oRZ, hVc, hVs, List.getElem?_cons_zero, List.getElem?_cons_succ, List.set_cons_zero, List.set_cons_succ, List.drop_succ_cons, List.drop_zero, List.take_succ_cons, List.take_zero, List.length_cons, List.length_nil, List.reverse_cons, List.reverse_nil, List.nil_append, List.cons_append, Option.toList_some, Option.toList_none, va_rf_s, true_and, and_true, true_implies, false_implies, not_true_eq_false, not_false_eq_true, Nat.reduceAdd, Nat.reduceLeDiff, Nat.le_add_left, Nat.zero_le, Nat.le_refl, znew, true_or, or_true, b01_t, b01_f, b01_ok, bool_ft, vp_b01, vp_b0, vp_b1, b01_eq0, b01_eq1, implies_true, nI_add, nI_clamp, zi_in, zi_le_t, zi_le_f, zi_lt_t, zi_lt_f, zi_eq_t, zi_eq_f, nI_leI, nI_ltI, nI_eq, z_in, pk_mul, zu_same, zu_rw, zu_ix, zi_ne0, zi_sub, zi_m1, Nat.add_sub_cancel, Nat.reduceMul, Nat.reduceSub]
    refine hVQ _ _ ⟨rfl, _, _, _, _, z, rfl, Or.inl ⟨rfl, rfl, rfl⟩, fun b h1 h3 _ => ?_, fun b h1 h3 => ?_, fun b h1 => LN_o (by omega), ?_, zu_same _ _ _ _, ?_, ⟨?_, ?_⟩, fun i hi => absurd hi (by omega), zur_rs⟩
    · rw [zur_ne (by omega), zur_ne h3, hN_o (by omega)]
    · rw [zu_rw _ _ h3, SN_o (by omega), zu_rw _ _ h3]
    · rw [zur_t, zur_t, hN_to (by omega)]; exact ht
    · rw [zur_ro (by omega)]; exact zur_rs
    · rw [zur_t, zur_t]; exact hN_ts
    · rw [zur_n, zur_n]; exact hN_ns
  · have hae : a ≠ e := fun q => by rw [q, e1] at ht; exact absurd ht (by omega)
    have base : ∀ l' E' S, zM l' E' 3 YJ5_add_2 [.ref a, .ref v, .ref e, .int (nI n)] (z, h, S, L) 1 10 (fun r X => r = none ∧ X = (z, zur h e n (some v), zu S a 2 (nI (n + 1)), L)) (fun _ _ => False) := by
      intro l' E' S
      refine zM.go rfl rfl (Nat.le_of_ble_eq_true rfl) (ls := [some (.ref a), some (.ref v), some (.ref e), some (.int (nI n))]) rfl ?_
      intro V hVl hVE hVd hVc hVs hVQ hVX
      have hL0 : zsL V.2.1 h 9 e 10 := Or.inr ⟨e1, e2⟩
      have ta : zt (zur h e n (some v)) a = 29 := by rw [zur_t]; exact ht
      refine sJ5_add_2_0 (n2 := 10) _ _ _ _ _ ?_
      simp (disch := omega) only [oAld, oAst9s, oBin, oCV, oIfc, oIld, oLenO, oPI, oPush, oRV, hL0, e1, e2, ht, ta, hVc, hVs, List.getElem?_cons_zero, List.getElem?_cons_succ, List.set_cons_zero, List.set_cons_succ, List.drop_succ_cons, List.drop_zero, List.take_succ_cons, List.take_zero, List.length_cons, List.length_nil, List.reverse_cons, List.reverse_nil, List.nil_append, List.cons_append, Option.toList_some, Option.toList_none, va_rf_s, true_and, and_true, true_implies, false_implies, not_true_eq_false, not_false_eq_true, Nat.reduceAdd, Nat.reduceLeDiff, Nat.le_add_left, Nat.zero_le, Nat.le_refl, znew, true_or, or_true, b01_t, b01_f, b01_ok, bool_ft, vp_b01, vp_b0, vp_b1, b01_eq0, b01_eq1, implies_true, nI_add, nI_clamp, zi_in, zi_le_t, zi_le_f, zi_lt_t, zi_lt_f, zi_eq_t, zi_eq_f, nI_leI, nI_ltI, nI_eq, z_in, pk_mul, zu_same, zu_rw, zu_ix, zi_ne0, zi_sub, zi_m1, Nat.add_sub_cancel, Nat.reduceMul, Nat.reduceSub]
      exact ⟨k, hk, hv, hVQ _ _ ⟨rfl, rfl⟩⟩
    refine sJ5_add_0 _ _ _ _ _ ?_
    simp (disch := omega) only [oAld, oBin, oCV, oDup, oGI, oGR, oPI, oPush, ht, he, h2, List.getElem?_cons_zero, List.getElem?_cons_succ, List.set_cons_zero, List.set_cons_succ, List.drop_succ_cons, List.drop_zero, List.take_succ_cons, List.take_zero, List.length_cons, List.length_nil, List.reverse_cons, List.reverse_nil, List.nil_append, List.cons_append, Option.toList_some, Option.toList_none, va_rf_s, true_and, and_true, true_implies, false_implies, not_true_eq_false, not_false_eq_true, Nat.reduceAdd, Nat.reduceLeDiff, Nat.le_add_left, Nat.zero_le, Nat.le_refl, znew, true_or, or_true, b01_t, b01_f, b01_ok, bool_ft, vp_b01, vp_b0, vp_b1, b01_eq0, b01_eq1, implies_true, nI_add, nI_clamp, zi_in, zi_le_t, zi_le_f, zi_lt_t, zi_lt_f, zi_eq_t, zi_eq_f, nI_leI, nI_ltI, nI_eq, z_in, pk_mul, zu_same, zu_rw, zu_ix, zi_ne0, zi_sub, zi_m1, Nat.add_sub_cancel, Nat.reduceMul, Nat.reduceSub]
    refine zC.ofN (base _ _ _) (by omega) (by omega) (by omega) ?_
    rintro _ _ ⟨rfl, rfl⟩
    refine sJ5_add_23 _ _ _ _ _ ?_
    simp (disch := omega) only [oPush, oRZ, hVc, hVs, List.getElem?_cons_zero, List.getElem?_cons_succ, List.set_cons_zero, List.set_cons_succ, List.drop_succ_cons, List.drop_zero, List.take_succ_cons, List.take_zero, List.length_cons, List.length_nil, List.reverse_cons, List.reverse_nil, List.nil_append, List.cons_append, Option.toList_some, Option.toList_none, va_rf_s, true_and, and_true, true_implies, false_implies, not_true_eq_false, not_false_eq_true, Nat.reduceAdd, Nat.reduceLeDiff, Nat.le_add_left, Nat.zero_le, Nat.le_refl, znew, true_or, or_true, b01_t, b01_f, b01_ok, bool_ft, vp_b01, vp_b0, vp_b1, b01_eq0, b01_eq1, implies_true, nI_add, nI_clamp, zi_in, zi_le_t, zi_le_f, zi_lt_t, zi_lt_f, zi_eq_t, zi_eq_f, nI_leI, nI_ltI, nI_eq, z_in, pk_mul, zu_same, zu_rw, zu_ix, zi_ne0, zi_sub, zi_m1, Nat.add_sub_cancel, Nat.reduceMul, Nat.reduceSub]
    refine hVQ _ _ ⟨rfl, _, _, _, _, e, rfl, Or.inr ⟨hn0, rfl, rfl⟩, fun b h1 h3 h4 => ?_, fun b h1 h3 => ?_, fun b h1 => rfl, ?_, zu_same _ _ _ _, ?_, ⟨?_, ?_⟩, fun i hi => ?_, zur_rs⟩
    · rw [zur_ne (h4 hn0)]
    · rw [zu_rw _ _ h3, zu_rw _ _ h3]
    · rw [zur_t]; exact ht
    · rw [zur_ro hae]; exact he
    · rw [zur_t]; exact e1
    · rw [zur_n]; exact e2
    · rw [zur_rk (by omega)]
end EF
