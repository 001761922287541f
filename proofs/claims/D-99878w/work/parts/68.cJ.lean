/-! the component: its objects -/
/-- the component at c -/
def isC (h : Nat → Option zSh) (c : Nat) : Prop := zt h c = 20 ∧ (∀ q ∈ [(0, 1), (1, 2), (2, 9), (7, 16), (8, 26), (9, 36), (10, 37), (11, 68), (12, 69), (13, 70), (14, 71), (16, 72), (17, 73), (18, 74), (20, 203), (21, 204), (22, 205)], zr h c q.1 = some (c + q.2)) ∧ (∀ q ∈ [(36, 7, 40), (37, 7, 3), (70, 2, 3), (71, 0, 6), (72, 0, 7), (73, 0, 7), (74, 10, 128), (203, 0, 20), (204, 0, 20), (205, 2, 20)], zt h (c + q.1) = q.2.1 ∧ zn h (c + q.1) = q.2.2) ∧
  (isTw h (c + 16) ∧ isTw h (c + 26) ∧ (∀ k, k < 40 → zr h (c + 36) k = some (c + 206 + 10 * k) ∧ isTw h (c + 206 + 10 * k)) ∧ ∀ k, k < 3 → zr h (c + 37) k = some (c + 38 + 10 * k) ∧ isTw h (c + 38 + 10 * k)) ∧ (zt h (c + 68) = 27 ∧ zt h (c + 69) = 28) ∧ (∀ k, k < 128 → zr h (c + 74) k = some (c + 75 + k) ∧ zt h (c + 75 + k) = 0 ∧ zn h (c + 75 + k) = 7) ∧
  (zt h (c + 1) = 21 ∧ zt h (c + 2) = 22 ∧ zt h (c + 9) = 23) ∧ (∀ q ∈ [(0, 3), (1, 4), (3, 5), (4, 6), (5, 7), (6, 8)], zr h (c + 2) q.1 = some (c + q.2)) ∧ (∀ q ∈ [(3, 5, 23), (4, 1, 2000), (5, 1, 2001), (6, 3, 2001), (7, 3, 2001), (8, 3, 2001)], zt h (c + q.1) = q.2.1 ∧ zn h (c + q.1) = q.2.2) ∧ zr h (c + 9) 0 = some (c + 2) ∧ zr h (c + 9) 1 = some (c + 1)
section J0
variable {h : Nat → Option zSh} {c : Nat}
theorem isC.k (hB : isC h c) : zt h c = 20 := hB.1
theorem isC.r0 (hB : isC h c) : zr h c 0 = some (c + 1) := hB.2.1 (0, 1) (by decide)
theorem isC.r1 (hB : isC h c) : zr h c 1 = some (c + 2) := hB.2.1 (1, 2) (by decide)
theorem isC.r2 (hB : isC h c) : zr h c 2 = some (c + 9) := hB.2.1 (2, 9) (by decide)
theorem isC.r7 (hB : isC h c) : zr h c 7 = some (c + 16) := hB.2.1 (7, 16) (by decide)
theorem isC.r8 (hB : isC h c) : zr h c 8 = some (c + 26) := hB.2.1 (8, 26) (by decide)
theorem isC.r9 (hB : isC h c) : zr h c 9 = some (c + 36) := hB.2.1 (9, 36) (by decide)
theorem isC.r10 (hB : isC h c) : zr h c 10 = some (c + 37) := hB.2.1 (10, 37) (by decide)
theorem isC.r11 (hB : isC h c) : zr h c 11 = some (c + 68) := hB.2.1 (11, 68) (by decide)
theorem isC.r12 (hB : isC h c) : zr h c 12 = some (c + 69) := hB.2.1 (12, 69) (by decide)
theorem isC.r13 (hB : isC h c) : zr h c 13 = some (c + 70) := hB.2.1 (13, 70) (by decide)
theorem isC.r14 (hB : isC h c) : zr h c 14 = some (c + 71) := hB.2.1 (14, 71) (by decide)
theorem isC.r16 (hB : isC h c) : zr h c 16 = some (c + 72) := hB.2.1 (16, 72) (by decide)
theorem isC.r17 (hB : isC h c) : zr h c 17 = some (c + 73) := hB.2.1 (17, 73) (by decide)
theorem isC.r18 (hB : isC h c) : zr h c 18 = some (c + 74) := hB.2.1 (18, 74) (by decide)
theorem isC.r20 (hB : isC h c) : zr h c 20 = some (c + 203) := hB.2.1 (20, 203) (by decide)
theorem isC.r21 (hB : isC h c) : zr h c 21 = some (c + 204) := hB.2.1 (21, 204) (by decide)
theorem isC.r22 (hB : isC h c) : zr h c 22 = some (c + 205) := hB.2.1 (22, 205) (by decide)
theorem isC.t9 (hB : isC h c) : zt h (c + 36) = 7 := (hB.2.2.1 (36, 7, 40) (by decide)).1
theorem isC.n9 (hB : isC h c) : zn h (c + 36) = 40 := (hB.2.2.1 (36, 7, 40) (by decide)).2
theorem isC.t10 (hB : isC h c) : zt h (c + 37) = 7 := (hB.2.2.1 (37, 7, 3) (by decide)).1
theorem isC.n10 (hB : isC h c) : zn h (c + 37) = 3 := (hB.2.2.1 (37, 7, 3) (by decide)).2
theorem isC.t13 (hB : isC h c) : zt h (c + 70) = 2 := (hB.2.2.1 (70, 2, 3) (by decide)).1
theorem isC.n13 (hB : isC h c) : zn h (c + 70) = 3 := (hB.2.2.1 (70, 2, 3) (by decide)).2
theorem isC.t14 (hB : isC h c) : zt h (c + 71) = 0 := (hB.2.2.1 (71, 0, 6) (by decide)).1
theorem isC.n14 (hB : isC h c) : zn h (c + 71) = 6 := (hB.2.2.1 (71, 0, 6) (by decide)).2
theorem isC.t16 (hB : isC h c) : zt h (c + 72) = 0 := (hB.2.2.1 (72, 0, 7) (by decide)).1
theorem isC.n16 (hB : isC h c) : zn h (c + 72) = 7 := (hB.2.2.1 (72, 0, 7) (by decide)).2
theorem isC.t17 (hB : isC h c) : zt h (c + 73) = 0 := (hB.2.2.1 (73, 0, 7) (by decide)).1
theorem isC.n17 (hB : isC h c) : zn h (c + 73) = 7 := (hB.2.2.1 (73, 0, 7) (by decide)).2
theorem isC.t18 (hB : isC h c) : zt h (c + 74) = 10 := (hB.2.2.1 (74, 10, 128) (by decide)).1
theorem isC.n18 (hB : isC h c) : zn h (c + 74) = 128 := (hB.2.2.1 (74, 10, 128) (by decide)).2
theorem isC.t20 (hB : isC h c) : zt h (c + 203) = 0 := (hB.2.2.1 (203, 0, 20) (by decide)).1
theorem isC.n20 (hB : isC h c) : zn h (c + 203) = 20 := (hB.2.2.1 (203, 0, 20) (by decide)).2
theorem isC.t21 (hB : isC h c) : zt h (c + 204) = 0 := (hB.2.2.1 (204, 0, 20) (by decide)).1
theorem isC.n21 (hB : isC h c) : zn h (c + 204) = 20 := (hB.2.2.1 (204, 0, 20) (by decide)).2
theorem isC.t22 (hB : isC h c) : zt h (c + 205) = 2 := (hB.2.2.1 (205, 2, 20) (by decide)).1
theorem isC.n22 (hB : isC h c) : zn h (c + 205) = 20 := (hB.2.2.1 (205, 2, 20) (by decide)).2
theorem isC.tn (hB : isC h c) : isTw h (c + 16) := hB.2.2.2.1.1
theorem isC.tr (hB : isC h c) : isTw h (c + 26) := hB.2.2.2.1.2.1
theorem isC.pa (hB : isC h c) {k : Nat} (hk : k < 40) : zr h (c + 36) k = some (c + 206 + 10 * k) ∧ isTw h (c + 206 + 10 * k) := hB.2.2.2.1.2.2.1 k hk
theorem isC.sl (hB : isC h c) {k : Nat} (hk : k < 3) : zr h (c + 37) k = some (c + 38 + 10 * k) ∧ isTw h (c + 38 + 10 * k) := hB.2.2.2.1.2.2.2 k hk
theorem isC.dr (hB : isC h c) : zt h (c + 68) = 27 := hB.2.2.2.2.1.1
theorem isC.si (hB : isC h c) : zt h (c + 69) = 28 := hB.2.2.2.2.1.2
theorem isC.fw (hB : isC h c) {k : Nat} (hk : k < 128) : zr h (c + 74) k = some (c + 75 + k) ∧ zt h (c + 75 + k) = 0 ∧ zn h (c + 75 + k) = 7 := hB.2.2.2.2.2.1 k hk
theorem isC.fk (hB : isC h c) : zt h (c + 1) = 21 := hB.2.2.2.2.2.2.1.1
theorem isC.tk (hB : isC h c) : zt h (c + 2) = 22 := hB.2.2.2.2.2.2.1.2.1
theorem isC.pk (hB : isC h c) : zt h (c + 9) = 23 := hB.2.2.2.2.2.2.1.2.2
theorem isC.tr1 (hB : isC h c) : zr h (c + 2) 1 = some (c + 4) := hB.2.2.2.2.2.2.2.1 (1, 4) (by decide)
theorem isC.tt1 (hB : isC h c) : zt h (c + 4) = 1 := (hB.2.2.2.2.2.2.2.2.1 (4, 1, 2000) (by decide)).1
theorem isC.tn1 (hB : isC h c) : zn h (c + 4) = 2000 := (hB.2.2.2.2.2.2.2.2.1 (4, 1, 2000) (by decide)).2
end J0
theorem okR.w {c z w : Nat} (h1 : c + 16 ≤ w) (h2 : w + 10 ≤ c + 606) : okW (okR c z) w := by
  intro a ha
  have h3 : ¬ Rg c a := ha.1
  unfold Rg at h3
  omega
/-- a question's state -/
def cQ (h : Nat → Option zSh) (S : Nat → Nat → Int32) (c z D ta : Nat) (t : ZT) (q0 : Nat → Int32) (A : zTA) (T : Nat → Int32) : Prop := isC h c ∧ zr h c 3 = some ta ∧ isTx h S (okR c z) D ta t q0 A ∧ tw S (c + 16) t (tsd t) T ∧ rI t T ∧ tI t
/-- a question's frame -/
def cqF (c : Nat) (S S' : Nat → Nat → Int32) : Prop := (∀ a, a ≠ c → ¬ (c + 24 ≤ a ∧ a < c + 36) → ¬ (c + 71 ≤ a ∧ a < c + 203) → S' a = S a) ∧ ∀ j, j ≠ 15 → S' c j = S c j
theorem cqF.rf {c : Nat} {S : Nat → Nat → Int32} : cqF c S S := ⟨fun _ _ _ _ => rfl, fun _ _ => rfl⟩
theorem cqF.tr {c : Nat} {S S' S'' : Nat → Nat → Int32} (h : cqF c S S') (h' : cqF c S' S'') : cqF c S S'' := ⟨fun a h1 h2 h3 => (h'.1 a h1 h2 h3).trans (h.1 a h1 h2 h3), fun j hj => (h'.2 j hj).trans (h.2 j hj)⟩
theorem cqF.of {c : Nat} {S S' : Nat → Nat → Int32} (h : ∀ a, ¬ (c + 24 ≤ a ∧ a < c + 36) → ¬ (c + 71 ≤ a ∧ a < c + 203) → S' a = S a) : cqF c S S' := ⟨fun a _ h2 h3 => h a h2 h3, fun j _ => by rw [h c (by omega) (by omega)]⟩
theorem cQ.fr {h : Nat → Option zSh} {S S' : Nat → Nat → Int32} {c z D ta : Nat} {t : ZT} {q0 : Nat → Int32} {A : zTA} {T : Nat → Int32} (hQ : cQ h S c z D ta t q0 A T) (hF : cqF c S S') : cQ h S' c z D ta t q0 A T := by
  obtain ⟨h1, h2, h3, h4, h5, h6⟩ := hQ
  refine ⟨h1, h2, h3.fr (fun a ha => ?_) (fun _ _ => rfl) (fun _ ha => ha), h4.fr (fun o ho => hF.1 _ (by omega) (by omega) (by omega)), h5, h6⟩
  have h7 : ¬ Rg c a := ha.1
  unfold Rg at h7
  exact hF.1 a (by omega) (by omega) (by omega)
/-- the town's asked one alone -/
theorem cqF.g {c : Nat} {S S' : Nat → Nat → Int32} (h : gF (c + 16) S S') : cqF c S S' := cqF.of (fun a h1 _ => h a (by omega) (by omega))
/-- the trial town -/
theorem cqF.t {c : Nat} {S S' : Nat → Nat → Int32} (h : twF (c + 26) S S') : cqF c S S' := cqF.of (fun a h1 _ => h a (by omega))
section CJ
variable {l : Launch} {E : zE} {z : Nat} {h : Nat → Option zSh} {S : Nat → Nat → Int32} {L : Nat → Nat → Int64} {c D ta : Nat} {t : ZT} {q0 T : Nat → Int32} {A : zTA}
theorem zX0_isIn (v a b : Int32) (X : zX) : zM l E 0 YX0_isIn [.int v, .int a, .int b] X 0 0 (fun r X' => r = some (.int (b01 (decide (a ≤ v ∧ v ≤ b)))) ∧ X' = X) (fun _ _ => False) := by
  refine zM.go rfl rfl (Nat.le_of_ble_eq_true rfl) (ls := [some (.int v), some (.int a), some (.int b)]) rfl ?_
  intro V hVl hVE hVd hVc hVs hVQ hVX
  refine sX0_isIn_0 _ _ _ _ _ ?_
  simp (disch := omega) only [oIfc, oIld, oNop, oPush, oRZ, List.getElem?_cons_zero, List.getElem?_cons_succ, List.set_cons_zero, List.set_cons_succ, List.drop_succ_cons, List.drop_zero, List.take_succ_cons, List.take_zero, List.length_cons, List.length_nil, List.reverse_cons, List.reverse_nil, List.nil_append, List.cons_append, Option.toList_some, Option.toList_none, va_rf_s, true_and, and_true, true_implies, false_implies, not_true_eq_false, not_false_eq_true, Nat.reduceAdd, Nat.reduceLeDiff, Nat.le_add_left, Nat.zero_le, Nat.le_refl, znew, true_or, or_true, b01_t, b01_f, b01_ok, bool_ft, vp_b01, vp_b0, vp_b1, b01_eq0, b01_eq1, implies_true, nI_add, nI_clamp, zi_in, zi_le_t, zi_le_f, zi_lt_t, zi_lt_f, zi_eq_t, zi_eq_f, nI_leI, nI_ltI, nI_eq, z_in, pk_mul, zu_same, zu_rw, zu_ix, zi_ne0, zi_sub, zi_m1, Nat.add_sub_cancel, Nat.reduceMul, Nat.reduceSub]
  refine ⟨fun h1 => hVQ _ _ ⟨?_, rfl⟩, fun h1 => ⟨fun h2 => hVQ _ _ ⟨?_, rfl⟩, fun h2 => hVQ _ _ ⟨?_, rfl⟩⟩⟩
  · rw [decide_eq_false (fun q => absurd q.1 (Int32.not_le.mpr h1))]; rfl
  · rw [decide_eq_false (fun q => absurd q.2 (Int32.not_le.mpr h2))]; rfl
  · rw [decide_eq_true ⟨Int32.not_lt.mp h1, Int32.not_lt.mp h2⟩]; rfl
theorem zX0_corners (hQ : cQ h S c z D ta t q0 A T) : zM l E 1 YX0_corners [.ref c] (z, h, S, L) 0 0 (fun r X => r = some (.int (nI (tnc t))) ∧ X = (z, h, S, L)) (fun _ _ => False) := by
  obtain ⟨hB, hTa, hX, hT, hI, hTI⟩ := hQ
  refine zM.go rfl rfl (Nat.le_of_ble_eq_true rfl) (ls := [some (.ref c)]) rfl ?_
  intro V hVl hVE hVd hVc hVs hVQ hVX
  refine sX0_corners_0 _ _ _ _ _ ?_
  simp (disch := omega) only [oAld, oCV, oGR, hB.k, hTa, hX.k, hX.r0, hX.z0, hX.z1, hX.z2, hX.z3, List.getElem?_cons_zero, List.getElem?_cons_succ, List.set_cons_zero, List.set_cons_succ, List.drop_succ_cons, List.drop_zero, List.take_succ_cons, List.take_zero, List.length_cons, List.length_nil, List.reverse_cons, List.reverse_nil, List.nil_append, List.cons_append, Option.toList_some, Option.toList_none, va_rf_s, true_and, and_true, true_implies, false_implies, not_true_eq_false, not_false_eq_true, Nat.reduceAdd, Nat.reduceLeDiff, Nat.le_add_left, Nat.zero_le, Nat.le_refl, znew, true_or, or_true, b01_t, b01_f, b01_ok, bool_ft, vp_b01, vp_b0, vp_b1, b01_eq0, b01_eq1, implies_true, nI_add, nI_clamp, zi_in, zi_le_t, zi_le_f, zi_lt_t, zi_lt_f, zi_eq_t, zi_eq_f, nI_leI, nI_ltI, nI_eq, z_in, pk_mul, zu_same, zu_rw, zu_ix, zi_ne0, zi_sub, zi_m1, Nat.add_sub_cancel, Nat.reduceMul, Nat.reduceSub]
  refine zC.of0 (zJ5_size hX.l0) (by omega) (Nat.zero_le _) (Nat.zero_le _) ?_
  rintro _ _ ⟨rfl, rfl⟩
  refine sX0_corners_10 _ _ _ _ _ ?_
  simp (disch := omega) only [oRI, List.getElem?_cons_zero, List.getElem?_cons_succ, List.set_cons_zero, List.set_cons_succ, List.drop_succ_cons, List.drop_zero, List.take_succ_cons, List.take_zero, List.length_cons, List.length_nil, List.reverse_cons, List.reverse_nil, List.nil_append, List.cons_append, Option.toList_some, Option.toList_none, va_rf_s, true_and, and_true, true_implies, false_implies, not_true_eq_false, not_false_eq_true, Nat.reduceAdd, Nat.reduceLeDiff, Nat.le_add_left, Nat.zero_le, Nat.le_refl, znew, true_or, or_true, b01_t, b01_f, b01_ok, bool_ft, vp_b01, vp_b0, vp_b1, b01_eq0, b01_eq1, implies_true, nI_add, nI_clamp, zi_in, zi_le_t, zi_le_f, zi_lt_t, zi_lt_f, zi_eq_t, zi_eq_f, nI_leI, nI_ltI, nI_eq, z_in, pk_mul, zu_same, zu_rw, zu_ix, zi_ne0, zi_sub, zi_m1, Nat.add_sub_cancel, Nat.reduceMul, Nat.reduceSub]
  exact hVQ _ _ ⟨rfl, rfl⟩
theorem zX0_streets (hQ : cQ h S c z D ta t q0 A T) : zM l E 1 YX0_streets [.ref c] (z, h, S, L) 0 0 (fun r X => r = some (.int (nI (tns t))) ∧ X = (z, h, S, L)) (fun _ _ => False) := by
  obtain ⟨hB, hTa, hX, hT, hI, hTI⟩ := hQ
  refine zM.go rfl rfl (Nat.le_of_ble_eq_true rfl) (ls := [some (.ref c)]) rfl ?_
  intro V hVl hVE hVd hVc hVs hVQ hVX
  refine sX0_streets_0 _ _ _ _ _ ?_
  simp (disch := omega) only [oAld, oCV, oGR, hB.k, hTa, hX.k, hX.r1, hX.z0, hX.z1, hX.z2, hX.z3, List.getElem?_cons_zero, List.getElem?_cons_succ, List.set_cons_zero, List.set_cons_succ, List.drop_succ_cons, List.drop_zero, List.take_succ_cons, List.take_zero, List.length_cons, List.length_nil, List.reverse_cons, List.reverse_nil, List.nil_append, List.cons_append, Option.toList_some, Option.toList_none, va_rf_s, true_and, and_true, true_implies, false_implies, not_true_eq_false, not_false_eq_true, Nat.reduceAdd, Nat.reduceLeDiff, Nat.le_add_left, Nat.zero_le, Nat.le_refl, znew, true_or, or_true, b01_t, b01_f, b01_ok, bool_ft, vp_b01, vp_b0, vp_b1, b01_eq0, b01_eq1, implies_true, nI_add, nI_clamp, zi_in, zi_le_t, zi_le_f, zi_lt_t, zi_lt_f, zi_eq_t, zi_eq_f, nI_leI, nI_ltI, nI_eq, z_in, pk_mul, zu_same, zu_rw, zu_ix, zi_ne0, zi_sub, zi_m1, Nat.add_sub_cancel, Nat.reduceMul, Nat.reduceSub]
  refine zC.of0 (zJ5_size hX.l1) (by omega) (Nat.zero_le _) (Nat.zero_le _) ?_
  rintro _ _ ⟨rfl, rfl⟩
  refine sX0_streets_10 _ _ _ _ _ ?_
  simp (disch := omega) only [oRI, List.getElem?_cons_zero, List.getElem?_cons_succ, List.set_cons_zero, List.set_cons_succ, List.drop_succ_cons, List.drop_zero, List.take_succ_cons, List.take_zero, List.length_cons, List.length_nil, List.reverse_cons, List.reverse_nil, List.nil_append, List.cons_append, Option.toList_some, Option.toList_none, va_rf_s, true_and, and_true, true_implies, false_implies, not_true_eq_false, not_false_eq_true, Nat.reduceAdd, Nat.reduceLeDiff, Nat.le_add_left, Nat.zero_le, Nat.le_refl, znew, true_or, or_true, b01_t, b01_f, b01_ok, bool_ft, vp_b01, vp_b0, vp_b1, b01_eq0, b01_eq1, implies_true, nI_add, nI_clamp, zi_in, zi_le_t, zi_le_f, zi_lt_t, zi_lt_f, zi_eq_t, zi_eq_f, nI_leI, nI_ltI, nI_eq, z_in, pk_mul, zu_same, zu_rw, zu_ix, zi_ne0, zi_sub, zi_m1, Nat.add_sub_cancel, Nat.reduceMul, Nat.reduceSub]
  exact hVQ _ _ ⟨rfl, rfl⟩
theorem zX0_youngs (hQ : cQ h S c z D ta t q0 A T) : zM l E 1 YX0_youngs [.ref c] (z, h, S, L) 0 0 (fun r X => r = some (.int (nI (tny t))) ∧ X = (z, h, S, L)) (fun _ _ => False) := by
  obtain ⟨hB, hTa, hX, hT, hI, hTI⟩ := hQ
  refine zM.go rfl rfl (Nat.le_of_ble_eq_true rfl) (ls := [some (.ref c)]) rfl ?_
  intro V hVl hVE hVd hVc hVs hVQ hVX
  refine sX0_youngs_0 _ _ _ _ _ ?_
  simp (disch := omega) only [oAld, oCV, oGR, hB.k, hTa, hX.k, hX.r2, hX.z0, hX.z1, hX.z2, hX.z3, List.getElem?_cons_zero, List.getElem?_cons_succ, List.set_cons_zero, List.set_cons_succ, List.drop_succ_cons, List.drop_zero, List.take_succ_cons, List.take_zero, List.length_cons, List.length_nil, List.reverse_cons, List.reverse_nil, List.nil_append, List.cons_append, Option.toList_some, Option.toList_none, va_rf_s, true_and, and_true, true_implies, false_implies, not_true_eq_false, not_false_eq_true, Nat.reduceAdd, Nat.reduceLeDiff, Nat.le_add_left, Nat.zero_le, Nat.le_refl, znew, true_or, or_true, b01_t, b01_f, b01_ok, bool_ft, vp_b01, vp_b0, vp_b1, b01_eq0, b01_eq1, implies_true, nI_add, nI_clamp, zi_in, zi_le_t, zi_le_f, zi_lt_t, zi_lt_f, zi_eq_t, zi_eq_f, nI_leI, nI_ltI, nI_eq, z_in, pk_mul, zu_same, zu_rw, zu_ix, zi_ne0, zi_sub, zi_m1, Nat.add_sub_cancel, Nat.reduceMul, Nat.reduceSub]
  refine zC.of0 (zJ5_size hX.l2) (by omega) (Nat.zero_le _) (Nat.zero_le _) ?_
  rintro _ _ ⟨rfl, rfl⟩
  refine sX0_youngs_10 _ _ _ _ _ ?_
  simp (disch := omega) only [oRI, List.getElem?_cons_zero, List.getElem?_cons_succ, List.set_cons_zero, List.set_cons_succ, List.drop_succ_cons, List.drop_zero, List.take_succ_cons, List.take_zero, List.length_cons, List.length_nil, List.reverse_cons, List.reverse_nil, List.nil_append, List.cons_append, Option.toList_some, Option.toList_none, va_rf_s, true_and, and_true, true_implies, false_implies, not_true_eq_false, not_false_eq_true, Nat.reduceAdd, Nat.reduceLeDiff, Nat.le_add_left, Nat.zero_le, Nat.le_refl, znew, true_or, or_true, b01_t, b01_f, b01_ok, bool_ft, vp_b01, vp_b0, vp_b1, b01_eq0, b01_eq1, implies_true, nI_add, nI_clamp, zi_in, zi_le_t, zi_le_f, zi_lt_t, zi_lt_f, zi_eq_t, zi_eq_f, nI_leI, nI_ltI, nI_eq, z_in, pk_mul, zu_same, zu_rw, zu_ix, zi_ne0, zi_sub, zi_m1, Nat.add_sub_cancel, Nat.reduceMul, Nat.reduceSub]
  exact hVQ _ _ ⟨rfl, rfl⟩
theorem zX0_allWords (hQ : cQ h S c z D ta t q0 A T) : zM l E 1 YX0_allWords [.ref c] (z, h, S, L) 0 0 (fun r X => r = some (.int (nI (tnw t))) ∧ X = (z, h, S, L)) (fun _ _ => False) := by
  obtain ⟨hB, hTa, hX, hT, hI, hTI⟩ := hQ
  refine zM.go rfl rfl (Nat.le_of_ble_eq_true rfl) (ls := [some (.ref c)]) rfl ?_
  intro V hVl hVE hVd hVc hVs hVQ hVX
  refine sX0_allWords_0 _ _ _ _ _ ?_
  simp (disch := omega) only [oAld, oCV, oGR, hB.k, hTa, hX.k, hX.r3, hX.z0, hX.z1, hX.z2, hX.z3, List.getElem?_cons_zero, List.getElem?_cons_succ, List.set_cons_zero, List.set_cons_succ, List.drop_succ_cons, List.drop_zero, List.take_succ_cons, List.take_zero, List.length_cons, List.length_nil, List.reverse_cons, List.reverse_nil, List.nil_append, List.cons_append, Option.toList_some, Option.toList_none, va_rf_s, true_and, and_true, true_implies, false_implies, not_true_eq_false, not_false_eq_true, Nat.reduceAdd, Nat.reduceLeDiff, Nat.le_add_left, Nat.zero_le, Nat.le_refl, znew, true_or, or_true, b01_t, b01_f, b01_ok, bool_ft, vp_b01, vp_b0, vp_b1, b01_eq0, b01_eq1, implies_true, nI_add, nI_clamp, zi_in, zi_le_t, zi_le_f, zi_lt_t, zi_lt_f, zi_eq_t, zi_eq_f, nI_leI, nI_ltI, nI_eq, z_in, pk_mul, zu_same, zu_rw, zu_ix, zi_ne0, zi_sub, zi_m1, Nat.add_sub_cancel, Nat.reduceMul, Nat.reduceSub]
  refine zC.of0 (zJ5_size hX.l3) (by omega) (Nat.zero_le _) (Nat.zero_le _) ?_
  rintro _ _ ⟨rfl, rfl⟩
  refine sX0_allWords_10 _ _ _ _ _ ?_
  simp (disch := omega) only [oRI, List.getElem?_cons_zero, List.getElem?_cons_succ, List.set_cons_zero, List.set_cons_succ, List.drop_succ_cons, List.drop_zero, List.take_succ_cons, List.take_zero, List.length_cons, List.length_nil, List.reverse_cons, List.reverse_nil, List.nil_append, List.cons_append, Option.toList_some, Option.toList_none, va_rf_s, true_and, and_true, true_implies, false_implies, not_true_eq_false, not_false_eq_true, Nat.reduceAdd, Nat.reduceLeDiff, Nat.le_add_left, Nat.zero_le, Nat.le_refl, znew, true_or, or_true, b01_t, b01_f, b01_ok, bool_ft, vp_b01, vp_b0, vp_b1, b01_eq0, b01_eq1, implies_true, nI_add, nI_clamp, zi_in, zi_le_t, zi_le_f, zi_lt_t, zi_lt_f, zi_eq_t, zi_eq_f, nI_leI, nI_ltI, nI_eq, z_in, pk_mul, zu_same, zu_rw, zu_ix, zi_ne0, zi_sub, zi_m1, Nat.add_sub_cancel, Nat.reduceMul, Nat.reduceSub]
  exact hVQ _ _ ⟨rfl, rfl⟩
theorem zX0_isCorner (hQ : cQ h S c z D ta t q0 A T) (v : Int32) : zM l E 2 YX0_isCorner [.ref c, .int v] (z, h, S, L) 0 0 (fun r X => r = some (.int (b01 (okI v (tnc t)))) ∧ X = (z, h, S, L)) (fun _ _ => False) := by
  obtain ⟨hB, hTa, hX, hT, hI, hTI⟩ := id hQ
  have hb := hX.b.1
  refine zM.go rfl rfl (Nat.le_of_ble_eq_true rfl) (ls := [some (.ref c), some (.int v)]) rfl ?_
  intro V hVl hVE hVd hVc hVs hVQ hVX
  refine sX0_isCorner_0 _ _ _ _ _ ?_
  simp (disch := omega) only [oAld, oCV, oIld, oPush, hB.k, List.getElem?_cons_zero, List.getElem?_cons_succ, List.set_cons_zero, List.set_cons_succ, List.drop_succ_cons, List.drop_zero, List.take_succ_cons, List.take_zero, List.length_cons, List.length_nil, List.reverse_cons, List.reverse_nil, List.nil_append, List.cons_append, Option.toList_some, Option.toList_none, va_rf_s, true_and, and_true, true_implies, false_implies, not_true_eq_false, not_false_eq_true, Nat.reduceAdd, Nat.reduceLeDiff, Nat.le_add_left, Nat.zero_le, Nat.le_refl, znew, true_or, or_true, b01_t, b01_f, b01_ok, bool_ft, vp_b01, vp_b0, vp_b1, b01_eq0, b01_eq1, implies_true, nI_add, nI_clamp, zi_in, zi_le_t, zi_le_f, zi_lt_t, zi_lt_f, zi_eq_t, zi_eq_f, nI_leI, nI_ltI, nI_eq, z_in, pk_mul, zu_same, zu_rw, zu_ix, zi_ne0, zi_sub, zi_m1, Nat.add_sub_cancel, Nat.reduceMul, Nat.reduceSub]
  refine zC.of0 (zX0_corners hQ) (by omega) (Nat.zero_le _) (Nat.zero_le _) ?_
  rintro _ _ ⟨rfl, rfl⟩
  refine sX0_isCorner_6 _ _ _ _ _ ?_
  simp (disch := omega) only [oBin, oCS, oPush, List.getElem?_cons_zero, List.getElem?_cons_succ, List.set_cons_zero, List.set_cons_succ, List.drop_succ_cons, List.drop_zero, List.take_succ_cons, List.take_zero, List.length_cons, List.length_nil, List.reverse_cons, List.reverse_nil, List.nil_append, List.cons_append, Option.toList_some, Option.toList_none, va_rf_s, true_and, and_true, true_implies, false_implies, not_true_eq_false, not_false_eq_true, Nat.reduceAdd, Nat.reduceLeDiff, Nat.le_add_left, Nat.zero_le, Nat.le_refl, znew, true_or, or_true, b01_t, b01_f, b01_ok, bool_ft, vp_b01, vp_b0, vp_b1, b01_eq0, b01_eq1, implies_true, nI_add, nI_clamp, zi_in, zi_le_t, zi_le_f, zi_lt_t, zi_lt_f, zi_eq_t, zi_eq_f, nI_leI, nI_ltI, nI_eq, z_in, pk_mul, zu_same, zu_rw, zu_ix, zi_ne0, zi_sub, zi_m1, Nat.add_sub_cancel, Nat.reduceMul, Nat.reduceSub]
  refine zC.of0 (zX0_isIn _ _ _ _) (by omega) (Nat.zero_le _) (Nat.zero_le _) ?_
  rintro _ _ ⟨rfl, rfl⟩
  refine sX0_isCorner_11 _ _ _ _ _ ?_
  simp (disch := omega) only [oRZ, okI_dec, List.getElem?_cons_zero, List.getElem?_cons_succ, List.set_cons_zero, List.set_cons_succ, List.drop_succ_cons, List.drop_zero, List.take_succ_cons, List.take_zero, List.length_cons, List.length_nil, List.reverse_cons, List.reverse_nil, List.nil_append, List.cons_append, Option.toList_some, Option.toList_none, va_rf_s, true_and, and_true, true_implies, false_implies, not_true_eq_false, not_false_eq_true, Nat.reduceAdd, Nat.reduceLeDiff, Nat.le_add_left, Nat.zero_le, Nat.le_refl, znew, true_or, or_true, b01_t, b01_f, b01_ok, bool_ft, vp_b01, vp_b0, vp_b1, b01_eq0, b01_eq1, implies_true, nI_add, nI_clamp, zi_in, zi_le_t, zi_le_f, zi_lt_t, zi_lt_f, zi_eq_t, zi_eq_f, nI_leI, nI_ltI, nI_eq, z_in, pk_mul, zu_same, zu_rw, zu_ix, zi_ne0, zi_sub, zi_m1, Nat.add_sub_cancel, Nat.reduceMul, Nat.reduceSub]
  exact hVQ _ _ ⟨rfl, rfl⟩
theorem zX0_isStreet (hQ : cQ h S c z D ta t q0 A T) (v : Int32) : zM l E 2 YX0_isStreet [.ref c, .int v] (z, h, S, L) 0 0 (fun r X => r = some (.int (b01 (okI v (tns t)))) ∧ X = (z, h, S, L)) (fun _ _ => False) := by
  obtain ⟨hB, hTa, hX, hT, hI, hTI⟩ := id hQ
  have hb := hX.b.2.1
  refine zM.go rfl rfl (Nat.le_of_ble_eq_true rfl) (ls := [some (.ref c), some (.int v)]) rfl ?_
  intro V hVl hVE hVd hVc hVs hVQ hVX
  refine sX0_isStreet_0 _ _ _ _ _ ?_
  simp (disch := omega) only [oAld, oCV, oIld, oPush, hB.k, List.getElem?_cons_zero, List.getElem?_cons_succ, List.set_cons_zero, List.set_cons_succ, List.drop_succ_cons, List.drop_zero, List.take_succ_cons, List.take_zero, List.length_cons, List.length_nil, List.reverse_cons, List.reverse_nil, List.nil_append, List.cons_append, Option.toList_some, Option.toList_none, va_rf_s, true_and, and_true, true_implies, false_implies, not_true_eq_false, not_false_eq_true, Nat.reduceAdd, Nat.reduceLeDiff, Nat.le_add_left, Nat.zero_le, Nat.le_refl, znew, true_or, or_true, b01_t, b01_f, b01_ok, bool_ft, vp_b01, vp_b0, vp_b1, b01_eq0, b01_eq1, implies_true, nI_add, nI_clamp, zi_in, zi_le_t, zi_le_f, zi_lt_t, zi_lt_f, zi_eq_t, zi_eq_f, nI_leI, nI_ltI, nI_eq, z_in, pk_mul, zu_same, zu_rw, zu_ix, zi_ne0, zi_sub, zi_m1, Nat.add_sub_cancel, Nat.reduceMul, Nat.reduceSub]
  refine zC.of0 (zX0_streets hQ) (by omega) (Nat.zero_le _) (Nat.zero_le _) ?_
  rintro _ _ ⟨rfl, rfl⟩
  refine sX0_isStreet_6 _ _ _ _ _ ?_
  simp (disch := omega) only [oBin, oCS, oPush, List.getElem?_cons_zero, List.getElem?_cons_succ, List.set_cons_zero, List.set_cons_succ, List.drop_succ_cons, List.drop_zero, List.take_succ_cons, List.take_zero, List.length_cons, List.length_nil, List.reverse_cons, List.reverse_nil, List.nil_append, List.cons_append, Option.toList_some, Option.toList_none, va_rf_s, true_and, and_true, true_implies, false_implies, not_true_eq_false, not_false_eq_true, Nat.reduceAdd, Nat.reduceLeDiff, Nat.le_add_left, Nat.zero_le, Nat.le_refl, znew, true_or, or_true, b01_t, b01_f, b01_ok, bool_ft, vp_b01, vp_b0, vp_b1, b01_eq0, b01_eq1, implies_true, nI_add, nI_clamp, zi_in, zi_le_t, zi_le_f, zi_lt_t, zi_lt_f, zi_eq_t, zi_eq_f, nI_leI, nI_ltI, nI_eq, z_in, pk_mul, zu_same, zu_rw, zu_ix, zi_ne0, zi_sub, zi_m1, Nat.add_sub_cancel, Nat.reduceMul, Nat.reduceSub]
  refine zC.of0 (zX0_isIn _ _ _ _) (by omega) (Nat.zero_le _) (Nat.zero_le _) ?_
  rintro _ _ ⟨rfl, rfl⟩
  refine sX0_isStreet_11 _ _ _ _ _ ?_
  simp (disch := omega) only [oRZ, okI_dec, List.getElem?_cons_zero, List.getElem?_cons_succ, List.set_cons_zero, List.set_cons_succ, List.drop_succ_cons, List.drop_zero, List.take_succ_cons, List.take_zero, List.length_cons, List.length_nil, List.reverse_cons, List.reverse_nil, List.nil_append, List.cons_append, Option.toList_some, Option.toList_none, va_rf_s, true_and, and_true, true_implies, false_implies, not_true_eq_false, not_false_eq_true, Nat.reduceAdd, Nat.reduceLeDiff, Nat.le_add_left, Nat.zero_le, Nat.le_refl, znew, true_or, or_true, b01_t, b01_f, b01_ok, bool_ft, vp_b01, vp_b0, vp_b1, b01_eq0, b01_eq1, implies_true, nI_add, nI_clamp, zi_in, zi_le_t, zi_le_f, zi_lt_t, zi_lt_f, zi_eq_t, zi_eq_f, nI_leI, nI_ltI, nI_eq, z_in, pk_mul, zu_same, zu_rw, zu_ix, zi_ne0, zi_sub, zi_m1, Nat.add_sub_cancel, Nat.reduceMul, Nat.reduceSub]
  exact hVQ _ _ ⟨rfl, rfl⟩
theorem zX0_isYoung (hQ : cQ h S c z D ta t q0 A T) (v : Int32) : zM l E 2 YX0_isYoung [.ref c, .int v] (z, h, S, L) 0 0 (fun r X => r = some (.int (b01 (okI v (tny t)))) ∧ X = (z, h, S, L)) (fun _ _ => False) := by
  obtain ⟨hB, hTa, hX, hT, hI, hTI⟩ := id hQ
  have hb := hX.b.2.2.1
  refine zM.go rfl rfl (Nat.le_of_ble_eq_true rfl) (ls := [some (.ref c), some (.int v)]) rfl ?_
  intro V hVl hVE hVd hVc hVs hVQ hVX
  refine sX0_isYoung_0 _ _ _ _ _ ?_
  simp (disch := omega) only [oAld, oCV, oIld, oPush, hB.k, List.getElem?_cons_zero, List.getElem?_cons_succ, List.set_cons_zero, List.set_cons_succ, List.drop_succ_cons, List.drop_zero, List.take_succ_cons, List.take_zero, List.length_cons, List.length_nil, List.reverse_cons, List.reverse_nil, List.nil_append, List.cons_append, Option.toList_some, Option.toList_none, va_rf_s, true_and, and_true, true_implies, false_implies, not_true_eq_false, not_false_eq_true, Nat.reduceAdd, Nat.reduceLeDiff, Nat.le_add_left, Nat.zero_le, Nat.le_refl, znew, true_or, or_true, b01_t, b01_f, b01_ok, bool_ft, vp_b01, vp_b0, vp_b1, b01_eq0, b01_eq1, implies_true, nI_add, nI_clamp, zi_in, zi_le_t, zi_le_f, zi_lt_t, zi_lt_f, zi_eq_t, zi_eq_f, nI_leI, nI_ltI, nI_eq, z_in, pk_mul, zu_same, zu_rw, zu_ix, zi_ne0, zi_sub, zi_m1, Nat.add_sub_cancel, Nat.reduceMul, Nat.reduceSub]
  refine zC.of0 (zX0_youngs hQ) (by omega) (Nat.zero_le _) (Nat.zero_le _) ?_
  rintro _ _ ⟨rfl, rfl⟩
  refine sX0_isYoung_6 _ _ _ _ _ ?_
  simp (disch := omega) only [oBin, oCS, oPush, List.getElem?_cons_zero, List.getElem?_cons_succ, List.set_cons_zero, List.set_cons_succ, List.drop_succ_cons, List.drop_zero, List.take_succ_cons, List.take_zero, List.length_cons, List.length_nil, List.reverse_cons, List.reverse_nil, List.nil_append, List.cons_append, Option.toList_some, Option.toList_none, va_rf_s, true_and, and_true, true_implies, false_implies, not_true_eq_false, not_false_eq_true, Nat.reduceAdd, Nat.reduceLeDiff, Nat.le_add_left, Nat.zero_le, Nat.le_refl, znew, true_or, or_true, b01_t, b01_f, b01_ok, bool_ft, vp_b01, vp_b0, vp_b1, b01_eq0, b01_eq1, implies_true, nI_add, nI_clamp, zi_in, zi_le_t, zi_le_f, zi_lt_t, zi_lt_f, zi_eq_t, zi_eq_f, nI_leI, nI_ltI, nI_eq, z_in, pk_mul, zu_same, zu_rw, zu_ix, zi_ne0, zi_sub, zi_m1, Nat.add_sub_cancel, Nat.reduceMul, Nat.reduceSub]
  refine zC.of0 (zX0_isIn _ _ _ _) (by omega) (Nat.zero_le _) (Nat.zero_le _) ?_
  rintro _ _ ⟨rfl, rfl⟩
  refine sX0_isYoung_11 _ _ _ _ _ ?_
  simp (disch := omega) only [oRZ, okI_dec, List.getElem?_cons_zero, List.getElem?_cons_succ, List.set_cons_zero, List.set_cons_succ, List.drop_succ_cons, List.drop_zero, List.take_succ_cons, List.take_zero, List.length_cons, List.length_nil, List.reverse_cons, List.reverse_nil, List.nil_append, List.cons_append, Option.toList_some, Option.toList_none, va_rf_s, true_and, and_true, true_implies, false_implies, not_true_eq_false, not_false_eq_true, Nat.reduceAdd, Nat.reduceLeDiff, Nat.le_add_left, Nat.zero_le, Nat.le_refl, znew, true_or, or_true, b01_t, b01_f, b01_ok, bool_ft, vp_b01, vp_b0, vp_b1, b01_eq0, b01_eq1, implies_true, nI_add, nI_clamp, zi_in, zi_le_t, zi_le_f, zi_lt_t, zi_lt_f, zi_eq_t, zi_eq_f, nI_leI, nI_ltI, nI_eq, z_in, pk_mul, zu_same, zu_rw, zu_ix, zi_ne0, zi_sub, zi_m1, Nat.add_sub_cancel, Nat.reduceMul, Nat.reduceSub]
  exact hVQ _ _ ⟨rfl, rfl⟩
theorem zX0_isWord (hQ : cQ h S c z D ta t q0 A T) (v : Int32) : zM l E 2 YX0_isWord [.ref c, .int v] (z, h, S, L) 0 0 (fun r X => r = some (.int (b01 (okI v (tnw t)))) ∧ X = (z, h, S, L)) (fun _ _ => False) := by
  obtain ⟨hB, hTa, hX, hT, hI, hTI⟩ := id hQ
  have hb := hX.b.2.2.2
  refine zM.go rfl rfl (Nat.le_of_ble_eq_true rfl) (ls := [some (.ref c), some (.int v)]) rfl ?_
  intro V hVl hVE hVd hVc hVs hVQ hVX
  refine sX0_isWord_0 _ _ _ _ _ ?_
  simp (disch := omega) only [oAld, oCV, oIld, oPush, hB.k, List.getElem?_cons_zero, List.getElem?_cons_succ, List.set_cons_zero, List.set_cons_succ, List.drop_succ_cons, List.drop_zero, List.take_succ_cons, List.take_zero, List.length_cons, List.length_nil, List.reverse_cons, List.reverse_nil, List.nil_append, List.cons_append, Option.toList_some, Option.toList_none, va_rf_s, true_and, and_true, true_implies, false_implies, not_true_eq_false, not_false_eq_true, Nat.reduceAdd, Nat.reduceLeDiff, Nat.le_add_left, Nat.zero_le, Nat.le_refl, znew, true_or, or_true, b01_t, b01_f, b01_ok, bool_ft, vp_b01, vp_b0, vp_b1, b01_eq0, b01_eq1, implies_true, nI_add, nI_clamp, zi_in, zi_le_t, zi_le_f, zi_lt_t, zi_lt_f, zi_eq_t, zi_eq_f, nI_leI, nI_ltI, nI_eq, z_in, pk_mul, zu_same, zu_rw, zu_ix, zi_ne0, zi_sub, zi_m1, Nat.add_sub_cancel, Nat.reduceMul, Nat.reduceSub]
  refine zC.of0 (zX0_allWords hQ) (by omega) (Nat.zero_le _) (Nat.zero_le _) ?_
  rintro _ _ ⟨rfl, rfl⟩
  refine sX0_isWord_6 _ _ _ _ _ ?_
  simp (disch := omega) only [oBin, oCS, oPush, List.getElem?_cons_zero, List.getElem?_cons_succ, List.set_cons_zero, List.set_cons_succ, List.drop_succ_cons, List.drop_zero, List.take_succ_cons, List.take_zero, List.length_cons, List.length_nil, List.reverse_cons, List.reverse_nil, List.nil_append, List.cons_append, Option.toList_some, Option.toList_none, va_rf_s, true_and, and_true, true_implies, false_implies, not_true_eq_false, not_false_eq_true, Nat.reduceAdd, Nat.reduceLeDiff, Nat.le_add_left, Nat.zero_le, Nat.le_refl, znew, true_or, or_true, b01_t, b01_f, b01_ok, bool_ft, vp_b01, vp_b0, vp_b1, b01_eq0, b01_eq1, implies_true, nI_add, nI_clamp, zi_in, zi_le_t, zi_le_f, zi_lt_t, zi_lt_f, zi_eq_t, zi_eq_f, nI_leI, nI_ltI, nI_eq, z_in, pk_mul, zu_same, zu_rw, zu_ix, zi_ne0, zi_sub, zi_m1, Nat.add_sub_cancel, Nat.reduceMul, Nat.reduceSub]
  refine zC.of0 (zX0_isIn _ _ _ _) (by omega) (Nat.zero_le _) (Nat.zero_le _) ?_
  rintro _ _ ⟨rfl, rfl⟩
  refine sX0_isWord_11 _ _ _ _ _ ?_
  simp (disch := omega) only [oRZ, okI_dec, List.getElem?_cons_zero, List.getElem?_cons_succ, List.set_cons_zero, List.set_cons_succ, List.drop_succ_cons, List.drop_zero, List.take_succ_cons, List.take_zero, List.length_cons, List.length_nil, List.reverse_cons, List.reverse_nil, List.nil_append, List.cons_append, Option.toList_some, Option.toList_none, va_rf_s, true_and, and_true, true_implies, false_implies, not_true_eq_false, not_false_eq_true, Nat.reduceAdd, Nat.reduceLeDiff, Nat.le_add_left, Nat.zero_le, Nat.le_refl, znew, true_or, or_true, b01_t, b01_f, b01_ok, bool_ft, vp_b01, vp_b0, vp_b1, b01_eq0, b01_eq1, implies_true, nI_add, nI_clamp, zi_in, zi_le_t, zi_le_f, zi_lt_t, zi_lt_f, zi_eq_t, zi_eq_f, nI_leI, nI_ltI, nI_eq, z_in, pk_mul, zu_same, zu_rw, zu_ix, zi_ne0, zi_sub, zi_m1, Nat.add_sub_cancel, Nat.reduceMul, Nat.reduceSub]
  exact hVQ _ _ ⟨rfl, rfl⟩
theorem okI_le {v : Int32} {n : Nat} (hn : n < 10000) : decide (nI 0 ≤ v ∧ v ≤ nI n) = okI v (n + 1) := by
  have e : nI (n + 1) - nI 1 = nI n := by rw [zi_sub (by omega)]; rfl
  rw [← okI_dec (c := v) (n := n + 1) (by omega), e]
theorem zX0_isAhead (v : Int32) (X : zX) : zM l E 1 YX0_isAhead [.int v] X 0 0 (fun r X' => r = some (.int (b01 (okI v 73))) ∧ X' = X) (fun _ _ => False) := by
  refine zM.go rfl rfl (Nat.le_of_ble_eq_true rfl) (ls := [some (.int v)]) rfl ?_
  intro V hVl hVE hVd hVc hVs hVQ hVX
  refine sX0_isAhead_0 _ _ _ _ _ ?_
  simp (disch := omega) only [oCS, oIld, oPush, List.getElem?_cons_zero, List.getElem?_cons_succ, List.set_cons_zero, List.set_cons_succ, List.drop_succ_cons, List.drop_zero, List.take_succ_cons, List.take_zero, List.length_cons, List.length_nil, List.reverse_cons, List.reverse_nil, List.nil_append, List.cons_append, Option.toList_some, Option.toList_none, va_rf_s, true_and, and_true, true_implies, false_implies, not_true_eq_false, not_false_eq_true, Nat.reduceAdd, Nat.reduceLeDiff, Nat.le_add_left, Nat.zero_le, Nat.le_refl, znew, true_or, or_true, b01_t, b01_f, b01_ok, bool_ft, vp_b01, vp_b0, vp_b1, b01_eq0, b01_eq1, implies_true, nI_add, nI_clamp, zi_in, zi_le_t, zi_le_f, zi_lt_t, zi_lt_f, zi_eq_t, zi_eq_f, nI_leI, nI_ltI, nI_eq, z_in, pk_mul, zu_same, zu_rw, zu_ix, zi_ne0, zi_sub, zi_m1, Nat.add_sub_cancel, Nat.reduceMul, Nat.reduceSub]
  refine zC.of0 (zX0_isIn _ _ _ _) (by omega) (Nat.zero_le _) (Nat.zero_le _) ?_
  rintro _ _ ⟨rfl, rfl⟩
  rw [okI_le (by omega)]
  refine sX0_isAhead_7 _ _ _ _ _ ?_
  simp (disch := omega) only [oRZ, List.getElem?_cons_zero, List.getElem?_cons_succ, List.set_cons_zero, List.set_cons_succ, List.drop_succ_cons, List.drop_zero, List.take_succ_cons, List.take_zero, List.length_cons, List.length_nil, List.reverse_cons, List.reverse_nil, List.nil_append, List.cons_append, Option.toList_some, Option.toList_none, va_rf_s, true_and, and_true, true_implies, false_implies, not_true_eq_false, not_false_eq_true, Nat.reduceAdd, Nat.reduceLeDiff, Nat.le_add_left, Nat.zero_le, Nat.le_refl, znew, true_or, or_true, b01_t, b01_f, b01_ok, bool_ft, vp_b01, vp_b0, vp_b1, b01_eq0, b01_eq1, implies_true, nI_add, nI_clamp, zi_in, zi_le_t, zi_le_f, zi_lt_t, zi_lt_f, zi_eq_t, zi_eq_f, nI_leI, nI_ltI, nI_eq, z_in, pk_mul, zu_same, zu_rw, zu_ix, zi_ne0, zi_sub, zi_m1, Nat.add_sub_cancel, Nat.reduceMul, Nat.reduceSub]
  exact hVQ _ _ ⟨rfl, rfl⟩
theorem zX0_isOut (hQ : cQ h S c z D ta t q0 A T) (v : Int32) : zM l E 3 YX0_isOut [.ref c, .int v] (z, h, S, L) 0 0 (fun r X => r = some (.int (b01 (outB t T v))) ∧ X = (z, h, S, L)) (fun _ _ => False) := by
  obtain ⟨hB, hTa, hX, hT, hI, hTI⟩ := id hQ
  have hW := hB.tn
  have h6 := hX.b.2.2.1
  have e6 := hT.2.2.2.2.2.1
  refine zM.go rfl rfl (Nat.le_of_ble_eq_true rfl) (ls := [some (.ref c), some (.int v)]) rfl ?_
  intro V hVl hVE hVd hVc hVs hVQ hVX
  refine sX0_isOut_0 _ _ _ _ _ ?_
  simp (disch := omega) only [oAld, oCV, oIld, hB.k, List.getElem?_cons_zero, List.getElem?_cons_succ, List.set_cons_zero, List.set_cons_succ, List.drop_succ_cons, List.drop_zero, List.take_succ_cons, List.take_zero, List.length_cons, List.length_nil, List.reverse_cons, List.reverse_nil, List.nil_append, List.cons_append, Option.toList_some, Option.toList_none, va_rf_s, true_and, and_true, true_implies, false_implies, not_true_eq_false, not_false_eq_true, Nat.reduceAdd, Nat.reduceLeDiff, Nat.le_add_left, Nat.zero_le, Nat.le_refl, znew, true_or, or_true, b01_t, b01_f, b01_ok, bool_ft, vp_b01, vp_b0, vp_b1, b01_eq0, b01_eq1, implies_true, nI_add, nI_clamp, zi_in, zi_le_t, zi_le_f, zi_lt_t, zi_lt_f, zi_eq_t, zi_eq_f, nI_leI, nI_ltI, nI_eq, z_in, pk_mul, zu_same, zu_rw, zu_ix, zi_ne0, zi_sub, zi_m1, Nat.add_sub_cancel, Nat.reduceMul, Nat.reduceSub]
  refine zC.of0 (zX0_isYoung hQ _) (by omega) (Nat.zero_le _) (Nat.zero_le _) ?_
  rintro _ _ ⟨rfl, rfl⟩
  cases hok : okI v (tny t) with
  | false =>
    refine sX0_isOut_5 _ _ _ _ _ ?_
    simp (disch := omega) only [oAld, oCV, oGR, oIf, oIld, oPush, oRZ, hB.k, hB.r7, hW.k, List.getElem?_cons_zero, List.getElem?_cons_succ, List.set_cons_zero, List.set_cons_succ, List.drop_succ_cons, List.drop_zero, List.take_succ_cons, List.take_zero, List.length_cons, List.length_nil, List.reverse_cons, List.reverse_nil, List.nil_append, List.cons_append, Option.toList_some, Option.toList_none, va_rf_s, true_and, and_true, true_implies, false_implies, not_true_eq_false, not_false_eq_true, Nat.reduceAdd, Nat.reduceLeDiff, Nat.le_add_left, Nat.zero_le, Nat.le_refl, znew, true_or, or_true, b01_t, b01_f, b01_ok, bool_ft, vp_b01, vp_b0, vp_b1, b01_eq0, b01_eq1, implies_true, nI_add, nI_clamp, zi_in, zi_le_t, zi_le_f, zi_lt_t, zi_lt_f, zi_eq_t, zi_eq_f, nI_leI, nI_ltI, nI_eq, z_in, pk_mul, zu_same, zu_rw, zu_ix, zi_ne0, zi_sub, zi_m1, Nat.add_sub_cancel, Nat.reduceMul, Nat.reduceSub]
    exact hVQ _ _ ⟨by rw [outB, hok]; rfl, rfl⟩
  | true =>
    obtain ⟨j, hj, rfl⟩ := (okI_iff (by omega)).mp hok
    refine sX0_isOut_5 _ _ _ _ _ ?_
    simp (disch := omega) only [oAld, oCV, oGR, oIf, oIld, oPush, oRZ, hB.k, hB.r7, hW.k, List.getElem?_cons_zero, List.getElem?_cons_succ, List.set_cons_zero, List.set_cons_succ, List.drop_succ_cons, List.drop_zero, List.take_succ_cons, List.take_zero, List.length_cons, List.length_nil, List.reverse_cons, List.reverse_nil, List.nil_append, List.cons_append, Option.toList_some, Option.toList_none, va_rf_s, true_and, and_true, true_implies, false_implies, not_true_eq_false, not_false_eq_true, Nat.reduceAdd, Nat.reduceLeDiff, Nat.le_add_left, Nat.zero_le, Nat.le_refl, znew, true_or, or_true, b01_t, b01_f, b01_ok, bool_ft, vp_b01, vp_b0, vp_b1, b01_eq0, b01_eq1, implies_true, nI_add, nI_clamp, zi_in, zi_le_t, zi_le_f, zi_lt_t, zi_lt_f, zi_eq_t, zi_eq_f, nI_leI, nI_ltI, nI_eq, z_in, pk_mul, zu_same, zu_rw, zu_ix, zi_ne0, zi_sub, zi_m1, Nat.add_sub_cancel, Nat.reduceMul, Nat.reduceSub]
    refine zC.of0 (zX5_isHome hW (by omega)) (by omega) (Nat.zero_le _) (Nat.zero_le _) ?_
    rintro _ _ ⟨rfl, rfl⟩
    rw [e6, bt_home h6 (by omega)]
    cases hh : hmB t T j with
    | true =>
      have hh' : ¬ T (12 + j) = nI 0 := by rw [← hmB_out hj hI.2.2.1, hh]; decide
      refine sX0_isOut_16 _ _ _ _ _ ?_
      simp (disch := omega) only [oIf, oNop, oPush, oRZ, List.getElem?_cons_zero, List.getElem?_cons_succ, List.set_cons_zero, List.set_cons_succ, List.drop_succ_cons, List.drop_zero, List.take_succ_cons, List.take_zero, List.length_cons, List.length_nil, List.reverse_cons, List.reverse_nil, List.nil_append, List.cons_append, Option.toList_some, Option.toList_none, va_rf_s, true_and, and_true, true_implies, false_implies, not_true_eq_false, not_false_eq_true, Nat.reduceAdd, Nat.reduceLeDiff, Nat.le_add_left, Nat.zero_le, Nat.le_refl, znew, true_or, or_true, b01_t, b01_f, b01_ok, bool_ft, vp_b01, vp_b0, vp_b1, b01_eq0, b01_eq1, implies_true, nI_add, nI_clamp, zi_in, zi_le_t, zi_le_f, zi_lt_t, zi_lt_f, zi_eq_t, zi_eq_f, nI_leI, nI_ltI, nI_eq, z_in, pk_mul, zu_same, zu_rw, zu_ix, zi_ne0, zi_sub, zi_m1, Nat.add_sub_cancel, Nat.reduceMul, Nat.reduceSub]
      refine hVQ _ _ ⟨?_, rfl⟩
      rw [outB, hok, nI_clamp (by omega), decide_eq_false hh']; rfl
    | false =>
      have hh' := hh
      rw [hmB_out hj hI.2.2.1] at hh'
      refine sX0_isOut_16 _ _ _ _ _ ?_
      simp (disch := omega) only [oIf, oNop, oPush, oRZ, List.getElem?_cons_zero, List.getElem?_cons_succ, List.set_cons_zero, List.set_cons_succ, List.drop_succ_cons, List.drop_zero, List.take_succ_cons, List.take_zero, List.length_cons, List.length_nil, List.reverse_cons, List.reverse_nil, List.nil_append, List.cons_append, Option.toList_some, Option.toList_none, va_rf_s, true_and, and_true, true_implies, false_implies, not_true_eq_false, not_false_eq_true, Nat.reduceAdd, Nat.reduceLeDiff, Nat.le_add_left, Nat.zero_le, Nat.le_refl, znew, true_or, or_true, b01_t, b01_f, b01_ok, bool_ft, vp_b01, vp_b0, vp_b1, b01_eq0, b01_eq1, implies_true, nI_add, nI_clamp, zi_in, zi_le_t, zi_le_f, zi_lt_t, zi_lt_f, zi_eq_t, zi_eq_f, nI_leI, nI_ltI, nI_eq, z_in, pk_mul, zu_same, zu_rw, zu_ix, zi_ne0, zi_sub, zi_m1, Nat.add_sub_cancel, Nat.reduceMul, Nat.reduceSub]
      refine hVQ _ _ ⟨?_, rfl⟩
      rw [outB, hok, nI_clamp (by omega), decide_eq_true hh']; rfl
end CJ
