/-! the component is made: as far as its first text -/
/-- what stands when the first text is made -/
def x0A (c dE : Nat) (adK : Nat → Nat) (h h' : Nat → Option zSh) (S S' : Nat → Nat → Int32) (L L' : Nat → Nat → Int64) : Prop := (zt h' c = 20 ∧ zr h' c 0 = some (c + 1) ∧ zr h' c 1 = some (c + 2) ∧ zr h' c 2 = some (c + 9)) ∧ zt h' (c + 1) = 21 ∧
  (zt h' (c + 2) = 22 ∧ (∀ q ∈ [(0, 1), (1, 2), (3, 3), (4, 4), (5, 5), (6, 6)], zr h' (c + 2) q.1 = some (c + 2 + q.2)) ∧ (∀ q ∈ [(1, 5, 23), (2, 1, 2000), (3, 1, 2001), (4, 3, 2001), (5, 3, 2001), (6, 3, 2001)], zt h' (c + 2 + q.1) = q.2.1 ∧ zn h' (c + 2 + q.1) = q.2.2) ∧ (∀ k, k < 23 → zr h' (c + 2 + 1) k = some (adK k))) ∧
  (zt h' (c + 9) = 23 ∧ zr h' (c + 9) 0 = some (c + 2) ∧ zr h' (c + 9) 1 = some (c + 1)) ∧ txP (c + 16) h' S' (c + 10) dE (fun _ => 0) (fun _ _ => 0) x0 ∧ (∀ a, a < c → h' a = h a ∧ S' a = S a ∧ L' a = L a) ∧ S' c = S c ∧ ∀ j, S' (c + 2) j = nI 0
section GG
variable {V : zV} {E : zE} {h : Nat → Option zSh} {S : Nat → Nat → Int32} {L : Nat → Nat → Int64} {c m u w dE : Nat} {adK : Nat → Nat}
theorem zrc {h h' : Nat → Option zSh} {a : Nat} (e : h' a = h a) : zt h' a = zt h a ∧ zn h' a = zn h a ∧ ∀ k, zr h' a k = zr h a k := by unfold zt zn zr; rw [e]; exact ⟨rfl, rfl, fun _ => rfl⟩
theorem x0_A (hd : dfZ V.2.1 dE) (hk : thZ V.2.1 m u w) (hw : kwR V.2.1 adK) (hVd : V.2.2.1 = 20) (hVc : V.2.2.2.1 = 605) (hVs : V.2.2.2.2.1 = 14104) (ht : zt h c = 20)
    (K : ∀ h' S' L', x0A c dE adK h h' S S' L L' → zW V YX0_init 53 [some (.ref c), none] [.ref (c + 10), .ref c] (c + 16, h', S', L') 15 10074) : zW V YX0_init 0 [some (.ref c), none] [] (c + 1, h, S, L) 0 0 := by
  refine sX0_init_0 (by omega) _ _ _ _ _ ?_
  simp (disch := omega) only [oAld, oCI, oDup, oNew, oObj, hVc, hVs, List.getElem?_cons_zero, List.getElem?_cons_succ, List.set_cons_zero, List.set_cons_succ, List.drop_succ_cons, List.drop_zero, List.take_succ_cons, List.take_zero, List.length_cons, List.length_nil, List.reverse_cons, List.reverse_nil, List.nil_append, List.cons_append, Option.toList_some, Option.toList_none, va_rf_s, true_and, and_true, true_implies, false_implies, not_true_eq_false, not_false_eq_true, Nat.reduceAdd, Nat.reduceLeDiff, Nat.le_add_left, Nat.zero_le, Nat.le_refl, true_or, or_true, b01_t, b01_f, b01_ok, bool_ft, vp_b01, vp_b0, vp_b1, b01_eq0, b01_eq1, implies_true, zneq, hN_ts, hN_to, hN_ns, hN_no, hN_rs, hN_ro, SN_s, SN_o, zur_t, zur_n, zur_rs, zur_rk, zur_ro, nI_add, nI_clamp, zi_in, zi_le_t, zi_le_f, zi_lt_t, zi_lt_f, zi_eq_t, zi_eq_f, nI_leI, nI_ltI, nI_eq, z_in, pk_mul, zu_same, zu_rw, zu_ix, zi_ne0, zi_sub, zi_m1, Nat.add_sub_cancel, Nat.reduceMul, Nat.reduceSub]
  refine zC.ofN (zX1_init (a := c + 1) hN_ts hk) (by omega) (by omega) (by omega) ?_
  rintro _ _ ⟨rfl, h1, rfl, t1, f1⟩
  have c1 := zrc ((f1 c (by omega)).trans (hN_o (by omega)))
  have tc1 : zt h1 c = 20 := c1.1.trans ht
  refine sX0_init_12 _ _ _ _ _ ?_
  simp (disch := omega) only [oAld, oCI, oDup, oNew, oPR, tc1, hVc, hVs, List.getElem?_cons_zero, List.getElem?_cons_succ, List.set_cons_zero, List.set_cons_succ, List.drop_succ_cons, List.drop_zero, List.take_succ_cons, List.take_zero, List.length_cons, List.length_nil, List.reverse_cons, List.reverse_nil, List.nil_append, List.cons_append, Option.toList_some, Option.toList_none, va_rf_s, true_and, and_true, true_implies, false_implies, not_true_eq_false, not_false_eq_true, Nat.reduceAdd, Nat.reduceLeDiff, Nat.le_add_left, Nat.zero_le, Nat.le_refl, true_or, or_true, b01_t, b01_f, b01_ok, bool_ft, vp_b01, vp_b0, vp_b1, b01_eq0, b01_eq1, implies_true, zneq, hN_ts, hN_to, hN_ns, hN_no, hN_rs, hN_ro, SN_s, SN_o, zur_t, zur_n, zur_rs, zur_rk, zur_ro, nI_add, nI_clamp, zi_in, zi_le_t, zi_le_f, zi_lt_t, zi_lt_f, zi_eq_t, zi_eq_f, nI_leI, nI_ltI, nI_eq, z_in, pk_mul, zu_same, zu_rw, zu_ix, zi_ne0, zi_sub, zi_m1, Nat.add_sub_cancel, Nat.reduceMul, Nat.reduceSub]
  refine zC.ofN (zX2_init (a := c + 1 + 1) rfl hN_ts hw) (by omega) (by omega) (by omega) ?_
  rintro _ _ ⟨rfl, h2, S2, L2, rfl, a1, a2, a3, a4, a5, a6⟩
  have c2 := zrc ((a5 c (by omega)).trans (hN_o (by omega)))
  have tc2 : zt h2 c = 20 := by rw [c2.1, zur_t]; exact tc1
  have rc2 : zr h2 c 0 = some (c + 1) := by rw [c2.2.2]; exact zur_rs
  refine sX0_init_23 _ _ _ _ _ ?_
  simp (disch := omega) only [oAld, oCI, oDup, oGR, oNew, oPR, tc2, rc2, hVc, hVs, List.getElem?_cons_zero, List.getElem?_cons_succ, List.set_cons_zero, List.set_cons_succ, List.drop_succ_cons, List.drop_zero, List.take_succ_cons, List.take_zero, List.length_cons, List.length_nil, List.reverse_cons, List.reverse_nil, List.nil_append, List.cons_append, Option.toList_some, Option.toList_none, va_rf_s, true_and, and_true, true_implies, false_implies, not_true_eq_false, not_false_eq_true, Nat.reduceAdd, Nat.reduceLeDiff, Nat.le_add_left, Nat.zero_le, Nat.le_refl, true_or, or_true, b01_t, b01_f, b01_ok, bool_ft, vp_b01, vp_b0, vp_b1, b01_eq0, b01_eq1, implies_true, zneq, hN_ts, hN_to, hN_ns, hN_no, hN_rs, hN_ro, SN_s, SN_o, zur_t, zur_n, zur_rs, zur_rk, zur_ro, nI_add, nI_clamp, zi_in, zi_le_t, zi_le_f, zi_lt_t, zi_lt_f, zi_eq_t, zi_eq_f, nI_leI, nI_ltI, nI_eq, z_in, pk_mul, zu_same, zu_rw, zu_ix, zi_ne0, zi_sub, zi_m1, Nat.add_sub_cancel, Nat.reduceMul, Nat.reduceSub]
  refine zC.ofN (zX3_init hN_ts) (by omega) (by omega) (by omega) ?_
  rintro _ _ ⟨rfl, rfl⟩
  refine sX0_init_42 _ _ _ _ _ ?_
  simp (disch := omega) only [oAld, oCI, oDup, oNew, oPR, tc2, rc2, hVc, hVs, List.getElem?_cons_zero, List.getElem?_cons_succ, List.set_cons_zero, List.set_cons_succ, List.drop_succ_cons, List.drop_zero, List.take_succ_cons, List.take_zero, List.length_cons, List.length_nil, List.reverse_cons, List.reverse_nil, List.nil_append, List.cons_append, Option.toList_some, Option.toList_none, va_rf_s, true_and, and_true, true_implies, false_implies, not_true_eq_false, not_false_eq_true, Nat.reduceAdd, Nat.reduceLeDiff, Nat.le_add_left, Nat.zero_le, Nat.le_refl, true_or, or_true, b01_t, b01_f, b01_ok, bool_ft, vp_b01, vp_b0, vp_b1, b01_eq0, b01_eq1, implies_true, zneq, hN_ts, hN_to, hN_ns, hN_no, hN_rs, hN_ro, SN_s, SN_o, zur_t, zur_n, zur_rs, zur_rk, zur_ro, nI_add, nI_clamp, zi_in, zi_le_t, zi_le_f, zi_lt_t, zi_lt_f, zi_eq_t, zi_eq_f, nI_leI, nI_ltI, nI_eq, z_in, pk_mul, zu_same, zu_rw, zu_ix, zi_ne0, zi_sub, zi_m1, Nat.add_sub_cancel, Nat.reduceMul, Nat.reduceSub]
  refine zC.ofN (zX4_init (ta := c + 1 + 1 + 7 + 1) (eA := fun _ => 0) (B := fun _ _ => 0) hd rfl hN_ts SN_s) (by omega) (by omega) (by omega) ?_
  rintro _ _ ⟨rfl, h4, S4, L4, rfl, o4, t4⟩
  have e4 : ∀ a, a < c + 10 → h4 a = zur (zur (zur (hN (zur h2 c 1 (some (c + 1 + 1))) (c + 1 + 1 + 7) (23, 0, fun _ => none)) (c + 1 + 1 + 7) 0 (some (c + 1 + 1))) (c + 1 + 1 + 7) 1 (some (c + 1))) c 2 (some (c + 1 + 1 + 7)) a := fun a ha => (o4 a (by omega)).1.trans (hN_o (by omega))
  have e2 : ∀ a, a < c + 9 → a ≠ c → h4 a = h2 a := fun a ha hne => (e4 a (by omega)).trans (by rw [zur_ne hne, zur_ne (by omega), zur_ne (by omega), hN_o (by omega), zur_ne hne])
  have s4 : ∀ a, a < c + 9 → S4 a = S2 a ∧ L4 a = L2 a := fun a ha => ⟨(o4 a (by omega)).2.1.trans (by rw [SN_o (by omega), SN_o (by omega)]), (o4 a (by omega)).2.2.trans (by rw [LN_o (by omega), LN_o (by omega)])⟩
  have ec := zrc (e4 c (by omega))
  have e9 := zrc (e4 (c + 9) (by omega))
  refine K h4 S4 L4 ⟨⟨?_, ?_, ?_, ?_⟩, ?_, ⟨?_, fun q hq => ?_, fun q hq => ?_, fun k hk => ?_⟩, ⟨?_, ?_, ?_⟩, t4, fun a ha => ⟨?_, ?_, ?_⟩, ?_, fun j => ?_⟩
  · rw [ec.1, zur_t, zur_t, zur_t, hN_to (by omega), zur_t]; exact tc2
  · rw [ec.2.2, zur_rk (by omega), zur_ro (by omega), zur_ro (by omega), hN_ro (by omega), zur_rk (by omega)]; exact rc2
  · rw [ec.2.2, zur_rk (by omega), zur_ro (by omega), zur_ro (by omega), hN_ro (by omega)]; exact zur_rs
  · rw [ec.2.2]; exact zur_rs
  · rw [(zrc (e2 (c + 1) (by omega) (by omega))).1, (zrc (a5 (c + 1) (by omega))).1, hN_to (by omega), zur_t]; exact t1
  · rw [(zrc (e2 (c + 2) (by omega) (by omega))).1]; exact a1
  · rw [(zrc (e2 (c + 2) (by omega) (by omega))).2.2]; exact a2 q hq
  · have : ∀ q ∈ [(1, 5, 23), (2, 1, 2000), (3, 1, 2001), (4, 3, 2001), (5, 3, 2001), (6, 3, 2001)], q.1 < 7 := by decide
    have hb := this q hq
    rw [(zrc (e2 (c + 2 + q.1) (by omega) (by omega))).1, (zrc (e2 (c + 2 + q.1) (by omega) (by omega))).2.1]; exact a3 q hq
  · rw [(zrc (e2 (c + 2 + 1) (by omega) (by omega))).2.2]; exact a4 k hk
  · rw [e9.1, zur_t, zur_t, zur_t]; exact hN_ts
  · rw [e9.2.2, zur_ro (by omega), zur_rk (by omega)]; exact zur_rs
  · rw [e9.2.2, zur_ro (by omega)]; exact zur_rs
  · rw [e2 a (by omega) (by omega), a5 a (by omega), hN_o (by omega), zur_ne (by omega), f1 a (by omega), hN_o (by omega)]
  · rw [(s4 a (by omega)).1, (a6 a (by omega)).1, SN_o (by omega), SN_o (by omega)]
  · rw [(s4 a (by omega)).2, (a6 a (by omega)).2, LN_o (by omega), LN_o (by omega)]
  · rw [(s4 c (by omega)).1, (a6 c (by omega)).1, SN_o (by omega), SN_o (by omega)]
  · rw [(s4 (c + 2) (by omega)).1, (a6 (c + 2) (by omega)).1]
    exact congrFun SN_s j
end GG
