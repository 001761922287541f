/-! the component: read -/
/-- what read leaves alone -/
def r0F (c z : Nat) (X X' : zX) : Prop := z ≤ X'.1 ∧ (∀ a, a < z → (a ≠ c → a ≠ c + 9 → X'.2.1 a = X.2.1 a) ∧ (a < c ∨ c + 606 ≤ a → X'.2.2.1 a = X.2.2.1 a) ∧ X'.2.2.2 a = X.2.2.2 a) ∧ (∀ j, j ≠ 4 → j ≠ 5 → j ≠ 19 → X'.2.2.1 c j = X.2.2.1 c j) ∧ X'.2.2.1 (c + 2) 2 = nI 0
/-- what read answers -/
def r0Q (c z D ta : Nat) (t : ZT) (q0 : Nat → Int32) (A : zTA) (T : Nat → Int32) (P : List Int32) (X : zX) (r : Option Value) (X' : zX) : Prop := r0F c z X X' ∧
  ((∃ n pl, pTxt P = .error (n, pl) ∧ r = some (.int (nI n)) ∧ X'.2.2.1 c 4 = nI pl ∧ cQ X'.2.1 X'.2.2.1 c X'.1 D ta t q0 A T ∧ (∀ a, c + 10 ≤ a → a < z → X'.2.2.1 a = X.2.2.1 a) ∧ ∀ j, j ≠ 4 → X'.2.2.1 c j = X.2.2.1 c j) ∨
   ∃ x A', pTxt P = .ok x ∧ r = some (.int (nI 0)) ∧ X'.2.2.1 c 4 = -1 ∧ cQ X'.2.1 X'.2.2.1 c X'.1 400 z (tZ x) (rZ x) A' (rZ x) ∧ X'.2.2.1 c 5 = nI 0 ∧ X'.2.2.1 c 19 = nI 0 ∧ ∀ s, s < 3 → X'.2.2.1 (c + 70) s = nI 0)
theorem zM.goH {l : Launch} {E : zE} {d mc ms : Nat} {Y : zY} {av : List Value} {X : zX} {Q : Option Value → zX → Prop} {QX : Nat → zX → Prop} {ls : List (Option Value)} {h0 : Nat × Nat × Nat × Nat} {hs : List (Nat × Nat × Nat × Nat)} (hh : Y.2.2.2.2 = h0 :: hs) (hy : plainName Y.1.cls = true) (hn : (lg_sl av).length ≤ Y.2.2.1) (hls : zent av Y.2.2.1 = ls)
    (H : ∀ V : zV, V.1 = l → V.2.1 = E → V.2.2.1 = d → V.2.2.2.1 = mc → V.2.2.2.2.1 = ms → (∀ r X, Q r X → V.2.2.2.2.2.1 r X) → (∀ q X, QX q X → V.2.2.2.2.2.2 q X) → zW V Y 0 ls [] X 0 0) : zM l E d Y av X mc ms Q QX :=
  zM.ofWH hh hy hn hls (H _ rfl rfl rfl rfl rfl (fun _ _ h => h) (fun _ _ h => h))
section GB
variable {l : Launch} {E : zE} {z : Nat} {h : Nat → Option zSh} {S : Nat → Nat → Int32} {L : Nat → Nat → Int64} {c : Nat} {P : List Int32} {adK adV : Nat → Nat} {oF : Option Nat} {dE : Nat} {D ta : Nat} {t : ZT} {q0 T : Nat → Int32} {A : zTA}
theorem zX0_read (hc : csZ E) (hs : siZ E oF) (he : seN E) (hd : dfZ E dE) (hK : cKw E h c adK adV) (hQ : cQ h S c z D ta t q0 A T) (hcz : c + 606 ≤ z) (hP : cP S c P) (hBy : isBy P) : zM l E 126 YX0_read [.ref c] (z, h, S, L) 2412 16064 (r0Q c z D ta t q0 A T P (z, h, S, L)) (fun _ _ => False) := by
  obtain ⟨hB, hTa, hX, hTw, hI, hI2⟩ := hQ
  have hB0 := hB
  refine zM.goH rfl rfl (Nat.le_of_ble_eq_true rfl) (ls := [some (.ref c), none, none]) rfl ?_
  intro V hVl hVE hVd hVc hVs hVQ hVX
  refine sX0_read_0 (hT12 := zTh_read (by omega) (by omega)) _ _ _ _ _ ?_
  simp (disch := omega) only [oAld, oCV, oGR, oIst, oPI, oPush, hB.k, hB.r2, hB.pk, List.getElem?_cons_zero, List.getElem?_cons_succ, List.set_cons_zero, List.set_cons_succ, List.drop_succ_cons, List.drop_zero, List.take_succ_cons, List.take_zero, List.length_cons, List.length_nil, List.reverse_cons, List.reverse_nil, List.nil_append, List.cons_append, Option.toList_some, Option.toList_none, va_rf_s, true_and, and_true, true_implies, false_implies, not_true_eq_false, not_false_eq_true, Nat.reduceAdd, Nat.reduceLeDiff, Nat.le_add_left, Nat.zero_le, Nat.le_refl, znew, true_or, or_true, b01_t, b01_f, b01_ok, bool_ft, vp_b01, vp_b0, vp_b1, b01_eq0, b01_eq1, implies_true, nI_add, nI_clamp, zi_in, zi_le_t, zi_le_f, zi_lt_t, zi_lt_f, zi_eq_t, zi_eq_f, nI_leI, nI_ltI, nI_eq, z_in, pk_mul, zu_same, zu_rw, zu_ix, zi_ne0, zi_sub, zi_m1, Nat.add_sub_cancel, Nat.reduceMul, Nat.reduceSub]
  have hS0 : ∀ a, a ≠ c → zu S c 4 (-1) a = S a := fun a ha => zu_rw _ _ ha
  have hc0 : ∀ j, j ≠ 4 → zu S c 4 (-1) c j = S c j := fun j hj => zu_ix _ _ hj
  have h40 : zu S c 4 (-1) c 4 = -1 := zu_same _ _ _ _
  generalize zu S c 4 (-1) = S0 at hS0 hc0 h40
  have hP0 : cP S0 c P := ⟨by rw [hS0 _ (by omega)]; exact hP.1, hP.2.1, fun i hi => by rw [hS0 _ (by omega)]; exact hP.2.2 i hi⟩
  refine zC.of (zX3_read (by rw [hVE]; exact hc) (by rw [hVE]; exact hs) (by rw [hVE]; exact he) (by rw [hVE]; exact hd) (by rw [hVE]; exact hK) hB hcz hP0 hBy) (by omega) (by omega) (by omega) ?_ ?_
  · rintro _ _ ⟨rfl, x, z1, h1, S1, L1, eA, B, hT, rfl, ⟨f1, f2, f3, f4, f5⟩, hp, hb⟩
    have f1 : z ≤ z1 := f1
    have hO := pTxt_OK hT
    have fh : ∀ a, a < z → a ≠ c + 9 → h1 a = h a := fun a ha hne => (f2 a ha).1 hne
    have fS : ∀ a, a < z → a ≠ c + 1 → a ≠ c + 2 → ¬ (c + 5 ≤ a ∧ a ≤ c + 9) → S1 a = S0 a := fun a ha h1 h2 h3 => (f2 a ha).2.1 h1 h2 h3
    have fL : ∀ a, a < z → L1 a = L a := fun a ha => (f2 a ha).2.2
    have hB1 : isC h1 c := hB.fr (fun a a1 a2 a3 a4 => fh a (by omega) a4) ⟨by unfold zt; rw [fh c (by omega) (by omega)], fun k _ => by unfold zr; rw [fh c (by omega) (by omega)]⟩ ⟨f4, f5⟩
    have hX1 := hp.tx (c := c) hO hcz
    have r7 : zr h1 c 7 = some (c + 16) := hB1.r7
    have hW := hB1.tn
    have hB := hB1
    refine sX0_read_15 (hT26 := zTh_read (by omega) (by omega)) _ _ _ _ _ ?_
    simp (disch := omega) only [oAld, oCV, oGR, oPR, hB.k, hTa, hB.r7, hW.k, hB1.k, zur_t, zur_rs, zur_rk, r7, hB1.tn.k, List.getElem?_cons_zero, List.getElem?_cons_succ, List.set_cons_zero, List.set_cons_succ, List.drop_succ_cons, List.drop_zero, List.take_succ_cons, List.take_zero, List.length_cons, List.length_nil, List.reverse_cons, List.reverse_nil, List.nil_append, List.cons_append, Option.toList_some, Option.toList_none, va_rf_s, true_and, and_true, true_implies, false_implies, not_true_eq_false, not_false_eq_true, Nat.reduceAdd, Nat.reduceLeDiff, Nat.le_add_left, Nat.zero_le, Nat.le_refl, znew, true_or, or_true, b01_t, b01_f, b01_ok, bool_ft, vp_b01, vp_b0, vp_b1, b01_eq0, b01_eq1, implies_true, nI_add, nI_clamp, zi_in, zi_le_t, zi_le_f, zi_lt_t, zi_lt_f, zi_eq_t, zi_eq_f, nI_leI, nI_ltI, nI_eq, z_in, pk_mul, zu_same, zu_rw, zu_ix, zi_ne0, zi_sub, zi_m1, Nat.add_sub_cancel, Nat.reduceMul, Nat.reduceSub]
    have hh2 : ∀ a, a ≠ c → zur h1 c 3 (some z) a = h1 a := fun a ha => zur_ne ha
    have hB2 : isC (zur h1 c 3 (some z)) c := hB1.fr (fun a a1 a2 a3 a4 => zur_ne a3) ⟨zur_t, fun k hk => zur_rk hk⟩ ⟨zur_t, fun k _ => zur_ro (by omega)⟩
    have r3 : zr (zur h1 c 3 (some z)) c 3 = some z := zur_rs
    generalize zur h1 c 3 (some z) = h2 at hh2 hB2 r3
    have hX2 : isTx h2 S1 (okR c z1) 400 z (tZ x) (rZ x) ((z + 1, z + 2, z + 3, z + 4, z + 5), (B 0, B 1, B 2, B 3)) := hX1.fr (fun _ _ => rfl) (fun a ha => hh2 a (fun e => ha.1 (by rw [e]; unfold Rg; omega))) (fun _ ha => ha)
    refine zC.ofN (zX5_begins hB2.tn hX2 (fun a ha => by have := ha.1; unfold Rg at this; omega) (rZ_r0 hO)) (by omega) (by omega) (by omega) ?_
    rintro _ _ ⟨rfl, S2, rfl, g1, g2⟩
    have hB := hB2
    refine sX0_read_29 _ _ _ _ _ ?_
    simp (disch := omega) only [oAld, oIst, oPI, oPush, hB.k, List.getElem?_cons_zero, List.getElem?_cons_succ, List.set_cons_zero, List.set_cons_succ, List.drop_succ_cons, List.drop_zero, List.take_succ_cons, List.take_zero, List.length_cons, List.length_nil, List.reverse_cons, List.reverse_nil, List.nil_append, List.cons_append, Option.toList_some, Option.toList_none, va_rf_s, true_and, and_true, true_implies, false_implies, not_true_eq_false, not_false_eq_true, Nat.reduceAdd, Nat.reduceLeDiff, Nat.le_add_left, Nat.zero_le, Nat.le_refl, znew, true_or, or_true, b01_t, b01_f, b01_ok, bool_ft, vp_b01, vp_b0, vp_b1, b01_eq0, b01_eq1, implies_true, nI_add, nI_clamp, zi_in, zi_le_t, zi_le_f, zi_lt_t, zi_lt_f, zi_eq_t, zi_eq_f, nI_leI, nI_ltI, nI_eq, z_in, pk_mul, zu_same, zu_rw, zu_ix, zi_ne0, zi_sub, zi_m1, Nat.add_sub_cancel, Nat.reduceMul, Nat.reduceSub]
    refine sX0_read_41 _ _ _ _ _ ?_
    simp (disch := omega) only [oAld, oAst1, oGR, oIfc, oIld, oInc, oNop, oPI, oPush, oRI, hB.k, hB.r1, hB.tk, hB.r13, hB.t13, hB.n13, hB2.t13, hB2.n13, List.getElem?_cons_zero, List.getElem?_cons_succ, List.set_cons_zero, List.set_cons_succ, List.drop_succ_cons, List.drop_zero, List.take_succ_cons, List.take_zero, List.length_cons, List.length_nil, List.reverse_cons, List.reverse_nil, List.nil_append, List.cons_append, Option.toList_some, Option.toList_none, va_rf_s, true_and, and_true, true_implies, false_implies, not_true_eq_false, not_false_eq_true, Nat.reduceAdd, Nat.reduceLeDiff, Nat.le_add_left, Nat.zero_le, Nat.le_refl, znew, true_or, or_true, b01_t, b01_f, b01_ok, bool_ft, vp_b01, vp_b0, vp_b1, b01_eq0, b01_eq1, implies_true, nI_add, nI_clamp, zi_in, zi_le_t, zi_le_f, zi_lt_t, zi_lt_f, zi_eq_t, zi_eq_f, nI_leI, nI_ltI, nI_eq, z_in, pk_mul, zu_same, zu_rw, zu_ix, zi_ne0, zi_sub, zi_m1, Nat.add_sub_cancel, Nat.reduceMul, Nat.reduceSub]
    refine sX0_read_41 _ _ _ _ _ ?_
    simp (disch := omega) only [oAld, oAst1, oGR, oIfc, oIld, oInc, oNop, oPI, oPush, oRI, hB.k, hB.r1, hB.tk, hB.r13, hB.t13, hB.n13, hB2.t13, hB2.n13, List.getElem?_cons_zero, List.getElem?_cons_succ, List.set_cons_zero, List.set_cons_succ, List.drop_succ_cons, List.drop_zero, List.take_succ_cons, List.take_zero, List.length_cons, List.length_nil, List.reverse_cons, List.reverse_nil, List.nil_append, List.cons_append, Option.toList_some, Option.toList_none, va_rf_s, true_and, and_true, true_implies, false_implies, not_true_eq_false, not_false_eq_true, Nat.reduceAdd, Nat.reduceLeDiff, Nat.le_add_left, Nat.zero_le, Nat.le_refl, znew, true_or, or_true, b01_t, b01_f, b01_ok, bool_ft, vp_b01, vp_b0, vp_b1, b01_eq0, b01_eq1, implies_true, nI_add, nI_clamp, zi_in, zi_le_t, zi_le_f, zi_lt_t, zi_lt_f, zi_eq_t, zi_eq_f, nI_leI, nI_ltI, nI_eq, z_in, pk_mul, zu_same, zu_rw, zu_ix, zi_ne0, zi_sub, zi_m1, Nat.add_sub_cancel, Nat.reduceMul, Nat.reduceSub]
    refine sX0_read_41 _ _ _ _ _ ?_
    simp (disch := omega) only [oAld, oAst1, oGR, oIfc, oIld, oInc, oNop, oPI, oPush, oRI, hB.k, hB.r1, hB.tk, hB.r13, hB.t13, hB.n13, hB2.t13, hB2.n13, List.getElem?_cons_zero, List.getElem?_cons_succ, List.set_cons_zero, List.set_cons_succ, List.drop_succ_cons, List.drop_zero, List.take_succ_cons, List.take_zero, List.length_cons, List.length_nil, List.reverse_cons, List.reverse_nil, List.nil_append, List.cons_append, Option.toList_some, Option.toList_none, va_rf_s, true_and, and_true, true_implies, false_implies, not_true_eq_false, not_false_eq_true, Nat.reduceAdd, Nat.reduceLeDiff, Nat.le_add_left, Nat.zero_le, Nat.le_refl, znew, true_or, or_true, b01_t, b01_f, b01_ok, bool_ft, vp_b01, vp_b0, vp_b1, b01_eq0, b01_eq1, implies_true, nI_add, nI_clamp, zi_in, zi_le_t, zi_le_f, zi_lt_t, zi_lt_f, zi_eq_t, zi_eq_f, nI_leI, nI_ltI, nI_eq, z_in, pk_mul, zu_same, zu_rw, zu_ix, zi_ne0, zi_sub, zi_m1, Nat.add_sub_cancel, Nat.reduceMul, Nat.reduceSub]
    refine sX0_read_41 _ _ _ _ _ ?_
    simp (disch := omega) only [oAld, oAst1, oGR, oIfc, oIld, oInc, oNop, oPI, oPush, oRI, hB.k, hB.r1, hB.tk, hB.r13, hB.t13, hB.n13, hB2.tk, List.getElem?_cons_zero, List.getElem?_cons_succ, List.set_cons_zero, List.set_cons_succ, List.drop_succ_cons, List.drop_zero, List.take_succ_cons, List.take_zero, List.length_cons, List.length_nil, List.reverse_cons, List.reverse_nil, List.nil_append, List.cons_append, Option.toList_some, Option.toList_none, va_rf_s, true_and, and_true, true_implies, false_implies, not_true_eq_false, not_false_eq_true, Nat.reduceAdd, Nat.reduceLeDiff, Nat.le_add_left, Nat.zero_le, Nat.le_refl, znew, true_or, or_true, b01_t, b01_f, b01_ok, bool_ft, vp_b01, vp_b0, vp_b1, b01_eq0, b01_eq1, implies_true, nI_add, nI_clamp, zi_in, zi_le_t, zi_le_f, zi_lt_t, zi_lt_f, zi_eq_t, zi_eq_f, nI_leI, nI_ltI, nI_eq, z_in, pk_mul, zu_same, zu_rw, zu_ix, zi_ne0, zi_sub, zi_m1, Nat.add_sub_cancel, Nat.reduceMul, Nat.reduceSub]
    have n1 : ∀ a, a ≠ c → a ≠ c + 70 → a ≠ c + 2 → zu (zu (zu (zu (zu (zu S2 c 5 (nI 0)) c 19 (nI 0)) (c + 70) 0 (nI 0)) (c + 70) 1 (nI 0)) (c + 70) 2 (nI 0)) (c + 2) 2 (nI 0) a = S2 a := fun a p1 p2 p3 => by rw [zu_rw _ _ p3, zu_rw _ _ p2, zu_rw _ _ p2, zu_rw _ _ p2, zu_rw _ _ p1, zu_rw _ _ p1]
    have n0 : zu (zu (zu (zu (zu (zu S2 c 5 (nI 0)) c 19 (nI 0)) (c + 70) 0 (nI 0)) (c + 70) 1 (nI 0)) (c + 70) 2 (nI 0)) (c + 2) 2 (nI 0) c = zu (zu S2 c 5 (nI 0)) c 19 (nI 0) c := by rw [zu_rw _ _ (by omega), zu_rw _ _ (by omega), zu_rw _ _ (by omega), zu_rw _ _ (by omega)]
    have n2 : ∀ s, s < 3 → zu (zu (zu (zu (zu (zu S2 c 5 (nI 0)) c 19 (nI 0)) (c + 70) 0 (nI 0)) (c + 70) 1 (nI 0)) (c + 70) 2 (nI 0)) (c + 2) 2 (nI 0) (c + 70) s = nI 0 := fun s hs => by
      rw [zu_rw _ _ (by omega)]
      by_cases e2 : s = 2
      · rw [e2, zu_same]
      rw [zu_ix _ _ e2]
      by_cases e1 : s = 1
      · rw [e1, zu_same]
      rw [zu_ix _ _ e1, show s = 0 by omega, zu_same]
    have n4 : zu (zu (zu (zu (zu (zu S2 c 5 (nI 0)) c 19 (nI 0)) (c + 70) 0 (nI 0)) (c + 70) 1 (nI 0)) (c + 70) 2 (nI 0)) (c + 2) 2 (nI 0) (c + 2) 2 = nI 0 := zu_same _ _ _ _
    generalize zu (zu (zu (zu (zu (zu S2 c 5 (nI 0)) c 19 (nI 0)) (c + 70) 0 (nI 0)) (c + 70) 1 (nI 0)) (c + 70) 2 (nI 0)) (c + 2) 2 (nI 0) = S3 at n1 n0 n2 n4
    have m5 : S3 c 5 = nI 0 := by rw [n0, zu_ix _ _ (by omega), zu_same]
    have m19 : S3 c 19 = nI 0 := by rw [n0, zu_same]
    have mj : ∀ j, j ≠ 5 → j ≠ 19 → S3 c j = S0 c j := fun j p1 p2 => by rw [n0, zu_ix _ _ p2, zu_ix _ _ p1, g1 c (by omega), fS c (by omega) (by omega) (by omega) (by omega)]
    refine ⟨hVQ _ _ ⟨⟨f1, fun a ha => ⟨fun p1 p2 => (hh2 a p1).trans (fh a ha p2), fun hcs => ?_, fL a ha⟩, fun j p1 p2 p3 => (mj j p2 p3).trans (hc0 j p1), n4⟩, Or.inr ⟨x, _, hT, rfl, (mj 4 (by omega) (by omega)).trans h40, ⟨hB2, r3, hX2.fr (fun a ha => ?_) (fun _ _ => rfl) (fun _ q => q), g2.fr (fun o ho => n1 _ (by omega) (by omega) (by omega)), rZ_I hO, tZ_I hO⟩, m5, m19, n2⟩⟩, by omega, by omega⟩
    · show S3 a = S a
      rw [n1 a (by omega) (by omega) (by omega), g1 a (by omega), fS a ha (by omega) (by omega) (by omega), hS0 a (by omega)]
    · have := ha.1
      unfold Rg at this
      show S3 a = S1 a
      rw [n1 a (by omega) (by omega) (by omega), g1 a (by omega)]
  · rintro _ _ ⟨⟨en, ep⟩, z1, h1, S1, L1, hT, rfl, rfl, ⟨f1, f2, f3, f4, f5⟩, hE⟩
    have f1 : z ≤ z1 := f1
    have fh : ∀ a, a < z → a ≠ c + 9 → h1 a = h a := fun a ha hne => (f2 a ha).1 hne
    have fS : ∀ a, a < z → a ≠ c + 1 → a ≠ c + 2 → ¬ (c + 5 ≤ a ∧ a ≤ c + 9) → S1 a = S0 a := fun a ha h1 h2 h3 => (f2 a ha).2.1 h1 h2 h3
    have fL : ∀ a, a < z → L1 a = L a := fun a ha => (f2 a ha).2.2
    have hB1 : isC h1 c := hB.fr (fun a a1 a2 a3 a4 => fh a (by omega) a4) ⟨by unfold zt; rw [fh c (by omega) (by omega)], fun k _ => by unfold zr; rw [fh c (by omega) (by omega)]⟩ ⟨f4, f5⟩
    obtain ⟨e6, e7, -⟩ := hE
    have e6 : S1 (c + 1) 6 = nI en := e6
    have e7 : S1 (c + 1) 7 = nI ep := e7
    have hB := hB1
    refine sX0_read_62 _ _ _ _ _ ?_
    simp (disch := omega) only [oAld, oAst, oGI, oGR, oIld, oIst, oPI, oPush, oRI, hB.k, hB.r1, hB.tk, hB1.k, hB1.fk, e6, e7, hB1.r1, hB1.tk, List.getElem?_cons_zero, List.getElem?_cons_succ, List.set_cons_zero, List.set_cons_succ, List.drop_succ_cons, List.drop_zero, List.take_succ_cons, List.take_zero, List.length_cons, List.length_nil, List.reverse_cons, List.reverse_nil, List.nil_append, List.cons_append, Option.toList_some, Option.toList_none, va_rf_s, true_and, and_true, true_implies, false_implies, not_true_eq_false, not_false_eq_true, Nat.reduceAdd, Nat.reduceLeDiff, Nat.le_add_left, Nat.zero_le, Nat.le_refl, znew, true_or, or_true, b01_t, b01_f, b01_ok, bool_ft, vp_b01, vp_b0, vp_b1, b01_eq0, b01_eq1, implies_true, nI_add, nI_clamp, zi_in, zi_le_t, zi_le_f, zi_lt_t, zi_lt_f, zi_eq_t, zi_eq_f, nI_leI, nI_ltI, nI_eq, z_in, pk_mul, zu_same, zu_rw, zu_ix, zi_ne0, zi_sub, zi_m1, Nat.add_sub_cancel, Nat.reduceMul, Nat.reduceSub]
    have n1 : ∀ a, a ≠ c → a ≠ c + 2 → zu (zu S1 c 4 (nI ep)) (c + 2) 2 (nI 0) a = S1 a := fun a p1 p3 => by rw [zu_rw _ _ p3, zu_rw _ _ p1]
    have n0 : zu (zu S1 c 4 (nI ep)) (c + 2) 2 (nI 0) c = zu S1 c 4 (nI ep) c := zu_rw _ _ (by omega)
    have n4 : zu (zu S1 c 4 (nI ep)) (c + 2) 2 (nI 0) (c + 2) 2 = nI 0 := zu_same _ _ _ _
    generalize zu (zu S1 c 4 (nI ep)) (c + 2) 2 (nI 0) = S3 at n1 n0 n4
    have m4 : S3 c 4 = nI ep := by rw [n0, zu_same]
    have mj : ∀ j, j ≠ 4 → S3 c j = S c j := fun j p1 => by rw [n0, zu_ix _ _ p1, fS c (by omega) (by omega) (by omega) (by omega), hc0 j p1]
    have mS : ∀ a, a < z → a ≠ c → a ≠ c + 1 → a ≠ c + 2 → ¬ (c + 5 ≤ a ∧ a ≤ c + 9) → S3 a = S a := fun a ha p1 p2 p3 p4 => by rw [n1 a p1 p3, fS a ha p2 p3 p4, hS0 a p1]
    refine ⟨hVQ _ _ ⟨⟨f1, fun a ha => ⟨fun p1 p2 => fh a ha p2, fun hcs => mS a ha (by omega) (by omega) (by omega) (by omega), fL a ha⟩, fun j p1 p2 p3 => mj j p1, n4⟩, Or.inl ⟨en, ep, hT, rfl, m4, ⟨hB1, ?_, hX.fr (fun a ha => ?_) (fun a ha => ?_) (fun a ha => ⟨ha.1, Nat.lt_of_lt_of_le ha.2 f1⟩), hTw.fr (fun o ho => mS _ (by omega) (by omega) (by omega) (by omega) (by omega)), hI, hI2⟩, fun a p1 p2 => mS a p2 (by omega) (by omega) (by omega) (by omega), mj⟩⟩, by omega, by omega⟩
    · show zr h1 c 3 = some ta
      have : zr h1 c = zr h c := by unfold zr; rw [fh c (by omega) (by omega)]
      rw [this]; exact hTa
    · have p1 := ha.1
      have p2 := ha.2
      unfold Rg at p1
      exact mS a p2 (by omega) (by omega) (by omega) (by omega)
    · have p1 := ha.1
      have p2 := ha.2
      unfold Rg at p1
      exact fh a p2 (by omega)
end GB
