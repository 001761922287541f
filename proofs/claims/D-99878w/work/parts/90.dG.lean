/-! the component: laysFew, round -/
section DG
variable {l : Launch} {E : zE} {z : Nat} {h : Nat → Option zSh} {S : Nat → Nat → Int32} {L : Nat → Nat → Int64} {c D ta : Nat} {t : ZT} {q0 T : Nat → Int32} {A : zTA}
theorem cqF.few {S' : Nat → Nat → Int32} (h : ∀ a, ¬ (c + 75 ≤ a ∧ a < c + 203) → S' a = S a) : cqF c S S' := cqF.of (fun a _ h2 => h a (by omega))
theorem i_out {n a : Nat} (ha : a < 32) (hn : n.testBit a = true) : nI n &&& (nI 1 <<< (nI a &&& 31) ^^^ (-1)) = nI (n ^^^ 2 ^ a) := by
  rw [sh1N ha]
  apply b_ext
  intro i hi
  rw [b_and, bt_not _ hi, bt_nI _ hi, bt_nI _ hi, bt_nI _ hi, tb_xor, Nat.testBit_two_pow]
  by_cases e : a = i
  · subst e; rw [hn]; simp
  · rw [decide_eq_false e]; simp
theorem mn1 {x y w : Nat} (hx : x ≤ 1000000) (hy : y ≤ 1000000) (hw : w ≤ 1000000) : minF (nI x) (nI 1 + minF (nI y) (nI w)) = nI (min x (1 + min y w)) := by
  rw [minF_N (by omega) (by omega), nI_add, minF_N (by omega) (by omega)]
theorem zX0_laysFew (hQ : cQ h S c z D ta t q0 A T) {n s : Nat} (hn : n < 2 ^ tnc t) (hs : s < tns t) {g : Nat → Nat → Nat} (hg : ∀ m j, g m j ≤ 1000000) (hG : ∀ m, m < 2 ^ tnc t → ∀ j, j < tnc t → S (c + 75 + m) j = nI (g m j)) : zM l E 3 YX0_laysFew [.ref c, .int (nI n), .int (nI s)] (z, h, S, L) 0 0 (fun r X => r = none ∧ ∃ S', X = (z, h, S', L) ∧ (∀ a, a ≠ c + 75 + n → S' a = S a) ∧ ∀ j, j < tnc t → S' (c + 75 + n) j = nI (lfR t g n s (g n) j)) (fun _ _ => False) := by
  obtain ⟨hB, hTa, hX, hT, hI, hTI⟩ := id hQ
  obtain ⟨h7, h10, h6, h5⟩ := hX.b
  obtain ⟨-, s1, s2, s3, s4, s5, s6, s7⟩ := hX.st hs
  have h128 : 2 ^ tnc t ≤ 128 := (Nat.pow_le_pow_right (by omega) h7 : 2 ^ tnc t ≤ 2 ^ 7)
  have hR : ∀ j, lfR t g n s (g n) j = if n.testBit (tone t s) = true ∧ n.testBit (toth t s) = true then (if j = tone t s then min (g n (tone t s)) (1 + min (g n (toth t s)) (g (n ^^^ 2 ^ tone t s) (toth t s))) else if j = toth t s then min (g n (toth t s)) (1 + min (min (g n (tone t s)) (1 + min (g n (toth t s)) (g (n ^^^ 2 ^ tone t s) (toth t s)))) (g (n ^^^ 2 ^ toth t s) (tone t s))) else g n j) else g n j := fun j => rfl
  generalize lfR t g n s (g n) = res at hR
  refine zM.go rfl rfl (Nat.le_of_ble_eq_true rfl) (ls := [some (.ref c), some (.int (nI n)), some (.int (nI s)), none, none]) rfl ?_
  intro V hVl hVE hVd hVc hVs hVQ hVX
  generalize tone t s = a at s2 s5 s7 hR
  generalize toth t s = b at s3 s6 s7 hR
  have za := b_one0 (nI n) (s := a) (by omega)
  have zb := b_one0 (nI n) (s := b) (by omega)
  rw [bt_nI n (by omega)] at za zb
  refine sX0_laysFew_0 _ _ _ _ _ ?_
  simp (disch := omega) only [oAld, oCV, oGR, oIld, hB.k, hTa, hX.k, hX.r1, hX.z0, hX.z1, hX.z2, hX.z3, List.getElem?_cons_zero, List.getElem?_cons_succ, List.set_cons_zero, List.set_cons_succ, List.drop_succ_cons, List.drop_zero, List.take_succ_cons, List.take_zero, List.length_cons, List.length_nil, List.reverse_cons, List.reverse_nil, List.nil_append, List.cons_append, Option.toList_some, Option.toList_none, va_rf_s, true_and, and_true, true_implies, false_implies, not_true_eq_false, not_false_eq_true, Nat.reduceAdd, Nat.reduceLeDiff, Nat.le_add_left, Nat.zero_le, Nat.le_refl, znew, true_or, or_true, b01_t, b01_f, b01_ok, bool_ft, vp_b01, vp_b0, vp_b1, b01_eq0, b01_eq1, implies_true, nI_add, nI_clamp, zi_in, zi_le_t, zi_le_f, zi_lt_t, zi_lt_f, zi_eq_t, zi_eq_f, nI_leI, nI_ltI, nI_eq, z_in, pk_mul, zu_same, zu_rw, zu_ix, zi_ne0, zi_sub, zi_m1, Nat.add_sub_cancel, Nat.reduceMul, Nat.reduceSub]
  refine zC.of0 (zJ5_get hX.l1 hs) (by omega) (Nat.zero_le _) (Nat.zero_le _) ?_
  rintro _ _ ⟨rfl, rfl⟩
  refine sX0_laysFew_11 _ _ _ _ _ ?_
  simp (disch := omega) only [oAld, oCV, oCast, oGI, oGR, oIld, oIst, hB.k, hTa, hX.k, hX.r1, hX.z0, hX.z1, hX.z2, hX.z3, s1, s2, List.getElem?_cons_zero, List.getElem?_cons_succ, List.set_cons_zero, List.set_cons_succ, List.drop_succ_cons, List.drop_zero, List.take_succ_cons, List.take_zero, List.length_cons, List.length_nil, List.reverse_cons, List.reverse_nil, List.nil_append, List.cons_append, Option.toList_some, Option.toList_none, va_rf_s, true_and, and_true, true_implies, false_implies, not_true_eq_false, not_false_eq_true, Nat.reduceAdd, Nat.reduceLeDiff, Nat.le_add_left, Nat.zero_le, Nat.le_refl, znew, true_or, or_true, b01_t, b01_f, b01_ok, bool_ft, vp_b01, vp_b0, vp_b1, b01_eq0, b01_eq1, implies_true, nI_add, nI_clamp, zi_in, zi_le_t, zi_le_f, zi_lt_t, zi_lt_f, zi_eq_t, zi_eq_f, nI_leI, nI_ltI, nI_eq, z_in, pk_mul, zu_same, zu_rw, zu_ix, zi_ne0, zi_sub, zi_m1, Nat.add_sub_cancel, Nat.reduceMul, Nat.reduceSub]
  refine zC.of0 (zJ5_get hX.l1 hs) (by omega) (Nat.zero_le _) (Nat.zero_le _) ?_
  rintro _ _ ⟨rfl, rfl⟩
  cases ha : n.testBit a with
  | false =>
    have za' : ((nI n >>> (nI a &&& 31)) &&& nI 1 = nI 0) = True := by rw [za, ha]; exact eq_true rfl
    refine sX0_laysFew_29 (by omega) _ _ _ _ _ ?_
    simp (disch := omega) only [oAld, oAld1, oAld9, oAst1, oBin, oCast, oGI, oGR, oIf, oIld, oIst, oM2, oPush, oRV, hB.k, hB.r18, hB.t18, hB.n18, s1, s3, za', List.getElem?_cons_zero, List.getElem?_cons_succ, List.set_cons_zero, List.set_cons_succ, List.drop_succ_cons, List.drop_zero, List.take_succ_cons, List.take_zero, List.length_cons, List.length_nil, List.reverse_cons, List.reverse_nil, List.nil_append, List.cons_append, Option.toList_some, Option.toList_none, va_rf_s, true_and, and_true, true_implies, false_implies, not_true_eq_false, not_false_eq_true, Nat.reduceAdd, Nat.reduceLeDiff, Nat.le_add_left, Nat.zero_le, Nat.le_refl, znew, true_or, or_true, b01_t, b01_f, b01_ok, bool_ft, vp_b01, vp_b0, vp_b1, b01_eq0, b01_eq1, implies_true, nI_add, nI_clamp, zi_in, zi_le_t, zi_le_f, zi_lt_t, zi_lt_f, zi_eq_t, zi_eq_f, nI_leI, nI_ltI, nI_eq, z_in, pk_mul, zu_same, zu_rw, zu_ix, zi_ne0, zi_sub, zi_m1, Nat.add_sub_cancel, Nat.reduceMul, Nat.reduceSub]
    exact hVQ _ _ ⟨rfl, S, rfl, fun _ _ => rfl, fun j hj => by rw [hR, if_neg (fun q => by rw [ha] at q; cases q.1)]; exact hG n hn j hj⟩
  | true =>
    have za' : ((nI n >>> (nI a &&& 31)) &&& nI 1 = nI 0) = False := by rw [za, ha]; exact eq_false (by decide)
    cases hb : n.testBit b with
    | false =>
      have zb' : ((nI n >>> (nI b &&& 31)) &&& nI 1 = nI 0) = True := by rw [zb, hb]; exact eq_true rfl
      refine sX0_laysFew_29 (by omega) _ _ _ _ _ ?_
      simp (disch := omega) only [oAld, oAld1, oAld9, oAst1, oBin, oCast, oGI, oGR, oIf, oIld, oIst, oM2, oPush, oRV, hB.k, hB.r18, hB.t18, hB.n18, s1, s3, za', zb', List.getElem?_cons_zero, List.getElem?_cons_succ, List.set_cons_zero, List.set_cons_succ, List.drop_succ_cons, List.drop_zero, List.take_succ_cons, List.take_zero, List.length_cons, List.length_nil, List.reverse_cons, List.reverse_nil, List.nil_append, List.cons_append, Option.toList_some, Option.toList_none, va_rf_s, true_and, and_true, true_implies, false_implies, not_true_eq_false, not_false_eq_true, Nat.reduceAdd, Nat.reduceLeDiff, Nat.le_add_left, Nat.zero_le, Nat.le_refl, znew, true_or, or_true, b01_t, b01_f, b01_ok, bool_ft, vp_b01, vp_b0, vp_b1, b01_eq0, b01_eq1, implies_true, nI_add, nI_clamp, zi_in, zi_le_t, zi_le_f, zi_lt_t, zi_lt_f, zi_eq_t, zi_eq_f, nI_leI, nI_ltI, nI_eq, z_in, pk_mul, zu_same, zu_rw, zu_ix, zi_ne0, zi_sub, zi_m1, Nat.add_sub_cancel, Nat.reduceMul, Nat.reduceSub]
      exact hVQ _ _ ⟨rfl, S, rfl, fun _ _ => rfl, fun j hj => by rw [hR, if_neg (fun q => by rw [hb] at q; cases q.2)]; exact hG n hn j hj⟩
    | true =>
      have zb' : ((nI n >>> (nI b &&& 31)) &&& nI 1 = nI 0) = False := by rw [zb, hb]; exact eq_false (by decide)
      have ia := i_out (n := n) (a := a) (by omega) ha
      have ib := i_out (n := n) (a := b) (by omega) hb
      have la := xor_lt ha
      have lb := xor_lt hb
      have g1 := hG n hn a s5
      have g2 := hG n hn b s6
      have g3 := hG (n ^^^ 2 ^ a) (by omega) b s6
      have g4 := hG (n ^^^ 2 ^ b) (by omega) a s5
      have b1 := hg n a
      have b2 := hg n b
      have b3 := hg (n ^^^ 2 ^ a) b
      have b4 := hg (n ^^^ 2 ^ b) a
      have m1 := mn1 b1 b2 b3
      have m2 := mn1 (x := g n b) (y := min (g n a) (1 + min (g n b) (g (n ^^^ 2 ^ a) b))) b2 (by omega) b4
      simp only [ha, hb, and_self, if_true] at hR
      generalize n ^^^ 2 ^ a = na at *
      generalize n ^^^ 2 ^ b = nb at *
      generalize g na b = x3 at *
      generalize g nb a = x4 at *
      have gO := hG n hn
      generalize g n = gn at *
      generalize gn a = x1 at *
      generalize gn b = x2 at *
      obtain ⟨va, hva⟩ : ∃ v, v = min x1 (1 + min x2 x3) := ⟨_, rfl⟩
      obtain ⟨vb, hvb⟩ : ∃ v, v = min x2 (1 + min va x4) := ⟨_, rfl⟩
      rw [← hva] at m1 m2 hR
      rw [← hvb] at m2 hR
      obtain ⟨f1, f2, f3⟩ := hB.fw (show n < 128 by omega)
      obtain ⟨f4, f5, f6⟩ := hB.fw (show na < 128 by omega)
      obtain ⟨f7, f8, f9⟩ := hB.fw (show nb < 128 by omega)
      refine sX0_laysFew_29 (by omega) _ _ _ _ _ ?_
      simp (disch := omega) only [oAld, oAld1, oAld9, oAst1, oBin, oCast, oGI, oGR, oIf, oIld, oIst, oM2, oPush, oRV, hB.k, hB.r18, hB.t18, hB.n18, s1, s3, za', zb', ia, ib, f1, f2, f3, f4, f5, f6, f7, f8, f9, g1, g2, g3, g4, m1, m2, List.getElem?_cons_zero, List.getElem?_cons_succ, List.set_cons_zero, List.set_cons_succ, List.drop_succ_cons, List.drop_zero, List.take_succ_cons, List.take_zero, List.length_cons, List.length_nil, List.reverse_cons, List.reverse_nil, List.nil_append, List.cons_append, Option.toList_some, Option.toList_none, va_rf_s, true_and, and_true, true_implies, false_implies, not_true_eq_false, not_false_eq_true, Nat.reduceAdd, Nat.reduceLeDiff, Nat.le_add_left, Nat.zero_le, Nat.le_refl, znew, true_or, or_true, b01_t, b01_f, b01_ok, bool_ft, vp_b01, vp_b0, vp_b1, b01_eq0, b01_eq1, implies_true, nI_add, nI_clamp, zi_in, zi_le_t, zi_le_f, zi_lt_t, zi_lt_f, zi_eq_t, zi_eq_f, nI_leI, nI_ltI, nI_eq, z_in, pk_mul, zu_same, zu_rw, zu_ix, zi_ne0, zi_sub, zi_m1, Nat.add_sub_cancel, Nat.reduceMul, Nat.reduceSub]
      refine hVQ _ _ ⟨rfl, _, rfl, fun q hq => by rw [zu_rw _ _ hq, zu_rw _ _ hq], fun j hj => ?_⟩
      rw [hR]
      by_cases e1 : j = a
      · subst e1
        rw [zu_ix _ _ s7, zu_same, if_pos rfl]
      · rw [if_neg e1]
        by_cases e2 : j = b
        · subst e2
          rw [zu_same, if_pos rfl]
        · rw [if_neg e2, zu_ix _ _ e2, zu_ix _ _ e1]; exact gO j hj
theorem lfI_B {st m j : Nat} : lfI st m j ≤ 1000000 := by unfold lfI; split <;> omega
theorem lfT_M {st : Nat} (hst : stB t) (h7 : tnc t ≤ 7) (h10 : tns t ≤ 10) (n m j : Nat) : lfT t st n m j ≤ 1000000 := by
  have hC : lfC m ≤ 7 := cntN_le _ _
  rcases lfT_B (t := t) (st := st) hst h7 h10 n m j with q | q <;> omega
/-- while a set's row is laid -/
def lfP (t : ZT) (st n : Nat) (r : Nat → Nat) : Nat → Nat → Nat := fun m => if m = n then r else lfT t st n m
theorem lfR_P {st n s : Nat} {r : Nat → Nat} : lfR t (lfP t st n r) n s r = lfR t (lfT t st n) n s r := by
  funext j
  unfold lfR
  by_cases hin : n.testBit (tone t s) = true ∧ n.testBit (toth t s) = true
  · have e1 : lfP t st n r (n ^^^ 2 ^ tone t s) = lfT t st n (n ^^^ 2 ^ tone t s) := if_neg (Nat.ne_of_lt (xor_lt hin.1))
    have e2 : lfP t st n r (n ^^^ 2 ^ toth t s) = lfT t st n (n ^^^ 2 ^ toth t s) := if_neg (Nat.ne_of_lt (xor_lt hin.2))
    rw [if_pos hin, if_pos hin, e1, e2]
  · rw [if_neg hin, if_neg hin]
theorem lfT_1 {st : Nat} : lfT t st 1 = lfI st := by
  funext m
  by_cases e : m = 0
  · subst e
    rw [lfT_at]
    have hR : ∀ s (r : Nat → Nat), lfR t (lfT t st 0) 0 s r = r := fun s r => by
      funext j; unfold lfR; rw [if_neg (fun q => by rw [Nat.zero_testBit] at q; cases q.1)]
    have hS : ∀ s (r : Nat → Nat), lfS t (lfT t st 0) 0 s r = r := fun s r => by
      induction s with
      | zero => rfl
      | succ s ih => show lfR _ _ _ _ (lfS _ _ _ _ _) = _; rw [ih, hR]
    have hN : ∀ k, lfN t (lfT t st 0) 0 k (lfI st 0) = lfI st 0 := fun k => by
      induction k with
      | zero => rfl
      | succ k ih => show lfS _ _ _ _ (lfN _ _ _ _ _) = _; rw [ih, hS]
    exact hN _
  · exact lfT_hi 1 m (by omega)
theorem lfm_far {r : Nat → Nat} (hr : ∀ j, r j = 1000000) : ∀ n, lfm r n 1000000 = 1000000
  | 0 => rfl
  | n + 1 => by rw [lfm, lfm_far hr n, hr]; rfl
theorem lfB_1 {st goal : Nat} : lfB t st goal 1 = 1000000 := by
  rw [lfB]
  split
  · rw [lfT_1]
    refine lfm_far (fun j => ?_) _
    unfold lfI
    rw [if_neg (fun q => by have := Nat.two_pow_pos st; omega)]
  · rfl
theorem lfm_M {r : Nat → Nat} {b : Nat} (hb : b ≤ 1000000) (n : Nat) : lfm r n b ≤ 1000000 := Nat.le_trans (lfm_le n b).1 hb
theorem lfB_M {st goal : Nat} : ∀ n, lfB t st goal n ≤ 1000000
  | 0 => Nat.le_refl _
  | n + 1 => by
    rw [lfB]
    split
    · exact lfm_M (lfB_M n) _
    · exact lfB_M n
theorem zX0_round (hQ : cQ h S c z D ta t q0 A T) : zM l E 4 YX0_round [.ref c] (z, h, S, L) 0 0 (fun r X => ∃ S', X = (z, h, S', L) ∧ cqF c S S' ∧ r = some (.int (roundR t T))) (fun _ _ => False) := by
  obtain ⟨hB, hTa, hX, hT, hI, hTI⟩ := id hQ
  obtain ⟨h7, h10, h6, h5⟩ := hX.b
  have hW := hB.tn
  have hst := hX.sb
  have h128 : 2 ^ tnc t ≤ 128 := (Nat.pow_le_pow_right (by omega) h7 : 2 ^ tnc t ≤ 2 ^ 7)
  refine zM.go rfl rfl (Nat.le_of_ble_eq_true rfl) (ls := [some (.ref c), none, none, none, none, none]) rfl ?_
  intro V hVl hVE hVd hVc hVs hVQ hVX
  refine sX0_round_0 _ _ _ _ _ ?_
  simp (disch := omega) only [oAld, oCV, hB.k, List.getElem?_cons_zero, List.getElem?_cons_succ, List.set_cons_zero, List.set_cons_succ, List.drop_succ_cons, List.drop_zero, List.take_succ_cons, List.take_zero, List.length_cons, List.length_nil, List.reverse_cons, List.reverse_nil, List.nil_append, List.cons_append, Option.toList_some, Option.toList_none, va_rf_s, true_and, and_true, true_implies, false_implies, not_true_eq_false, not_false_eq_true, Nat.reduceAdd, Nat.reduceLeDiff, Nat.le_add_left, Nat.zero_le, Nat.le_refl, znew, true_or, or_true, b01_t, b01_f, b01_ok, bool_ft, vp_b01, vp_b0, vp_b1, b01_eq0, b01_eq1, implies_true, nI_add, nI_clamp, zi_in, zi_le_t, zi_le_f, zi_lt_t, zi_lt_f, zi_eq_t, zi_eq_f, nI_leI, nI_ltI, nI_eq, z_in, pk_mul, zu_same, zu_rw, zu_ix, zi_ne0, zi_sub, zi_m1, Nat.add_sub_cancel, Nat.reduceMul, Nat.reduceSub]
  refine zC.of0 (zX0_corners hQ) (by omega) (Nat.zero_le _) (Nat.zero_le _) ?_
  rintro _ _ ⟨rfl, rfl⟩
  by_cases hc0 : tnc t = 0
  · rw [hc0]
    refine sX0_round_4 _ _ _ _ _ ?_
    simp (disch := omega) only [oIf, oIst, oPush, oRI, List.getElem?_cons_zero, List.getElem?_cons_succ, List.set_cons_zero, List.set_cons_succ, List.drop_succ_cons, List.drop_zero, List.take_succ_cons, List.take_zero, List.length_cons, List.length_nil, List.reverse_cons, List.reverse_nil, List.nil_append, List.cons_append, Option.toList_some, Option.toList_none, va_rf_s, true_and, and_true, true_implies, false_implies, not_true_eq_false, not_false_eq_true, Nat.reduceAdd, Nat.reduceLeDiff, Nat.le_add_left, Nat.zero_le, Nat.le_refl, znew, true_or, or_true, b01_t, b01_f, b01_ok, bool_ft, vp_b01, vp_b0, vp_b1, b01_eq0, b01_eq1, implies_true, nI_add, nI_clamp, zi_in, zi_le_t, zi_le_f, zi_lt_t, zi_lt_f, zi_eq_t, zi_eq_f, nI_leI, nI_ltI, nI_eq, z_in, pk_mul, zu_same, zu_rw, zu_ix, zi_ne0, zi_sub, zi_m1, Nat.add_sub_cancel, Nat.reduceMul, Nat.reduceSub]
    exact hVQ _ _ ⟨S, rfl, cqF.rf, by rw [roundR, if_pos hc0]⟩
  obtain ⟨sN, hsN, e46⟩ := hI.2.2.2.2.2.1.1 hc0
  have e8 : ∀ S' : Nat → Nat → Int32, (∀ a, ¬ (c + 75 ≤ a ∧ a < c + 203) → S' a = S a) → S' (c + 16) 8 = nI sN := fun S' hF => by
    rw [hF _ (by omega), hT.2.2.2.2.2.2.2.1 hc0, e46]
  have hsh := sh1N (c := tnc t) (by omega)
  have hshs := sh1N (c := sN) (by omega)
  have hnN : needN t T < 128 := Nat.lt_of_lt_of_le (setN_lt _ _) h128
  have hR : roundR t T = if (rdK t (needN t T) sN 896).1 < 1000 then nI (rdK t (needN t T) sN 896).1 else -2 := by rw [roundR, if_neg hc0, e46, nI_clamp (by omega)]
  have hfin : lfB t sN (needN t T) (2 ^ tnc t) < 1000000 ∧ roundR t T = nI (lfB t sN (needN t T) (2 ^ tnc t)) ∨ lfB t sN (needN t T) (2 ^ tnc t) = 1000000 ∧ roundR t T = -2 := by
    rcases round_eq (need := needN t T) hst h7 h10 hsN hnN with ⟨q1, q2⟩ | ⟨q1, q2⟩
    · left; rw [hR, if_pos q1, q2]; exact ⟨by omega, rfl⟩
    · right; rw [hR, if_neg q1]; exact ⟨q2, rfl⟩
  generalize hp : (fun c => !decide (whoR t T (nI c) = nI 0)) = p
  have hnp : needN t T = setN p (tnc t) := by rw [needN, hp]
  have hbit : ∀ s, nI 1 <<< (nI s &&& 31) = bitF s := fun s => rfl
  generalize hG0 : needN t T = goal at hfin hnN hnp
  -- the sets
  have sets : ∀ n, n ≤ 2 ^ tnc t → 1 ≤ n → ∀ S' x4 x5, (∀ a, ¬ (c + 75 ≤ a ∧ a < c + 203) → S' a = S a) → (∀ m, m < 2 ^ tnc t → ∀ j, j < tnc t → S' (c + 75 + m) j = nI (lfT t sN n m j)) → zW V YX0_round 132 [some (.ref c), some (.int (nI goal)), some (.int (nI (lfB t sN goal n))), some (.int (nI n)), x4, x5] [] (z, h, S', L) 0 0 := by
    refine z_down ?_ (fun n hn ih => ?_)
    · intro _ S' x4 x5 hF hG
      have hQ' := hQ.fr (cqF.few hF)
      refine sX0_round_132 _ _ _ _ _ ?_
      simp (disch := omega) only [oAld, oCV, oIld, oPush, hB.k, List.getElem?_cons_zero, List.getElem?_cons_succ, List.set_cons_zero, List.set_cons_succ, List.drop_succ_cons, List.drop_zero, List.take_succ_cons, List.take_zero, List.length_cons, List.length_nil, List.reverse_cons, List.reverse_nil, List.nil_append, List.cons_append, Option.toList_some, Option.toList_none, va_rf_s, true_and, and_true, true_implies, false_implies, not_true_eq_false, not_false_eq_true, Nat.reduceAdd, Nat.reduceLeDiff, Nat.le_add_left, Nat.zero_le, Nat.le_refl, znew, true_or, or_true, b01_t, b01_f, b01_ok, bool_ft, vp_b01, vp_b0, vp_b1, b01_eq0, b01_eq1, implies_true, nI_add, nI_clamp, zi_in, zi_le_t, zi_le_f, zi_lt_t, zi_lt_f, zi_eq_t, zi_eq_f, nI_leI, nI_ltI, nI_eq, z_in, pk_mul, zu_same, zu_rw, zu_ix, zi_ne0, zi_sub, zi_m1, Nat.add_sub_cancel, Nat.reduceMul, Nat.reduceSub]
      refine zC.of0 (zX0_corners hQ') (by omega) (Nat.zero_le _) (Nat.zero_le _) ?_
      rintro _ _ ⟨rfl, rfl⟩
      rcases hfin with ⟨q1, q2⟩ | ⟨q1, q2⟩
      · generalize lfB t sN goal (2 ^ tnc t) = w at q1 q2
        rw [q2] at hVQ
        refine sX0_round_138 _ _ _ _ _ ?_
        simp (disch := omega) only [oBin, oIfc, oIld, oIst, oNop, oPush, oRI, hsh, mill, List.getElem?_cons_zero, List.getElem?_cons_succ, List.set_cons_zero, List.set_cons_succ, List.drop_succ_cons, List.drop_zero, List.take_succ_cons, List.take_zero, List.length_cons, List.length_nil, List.reverse_cons, List.reverse_nil, List.nil_append, List.cons_append, Option.toList_some, Option.toList_none, va_rf_s, true_and, and_true, true_implies, false_implies, not_true_eq_false, not_false_eq_true, Nat.reduceAdd, Nat.reduceLeDiff, Nat.le_add_left, Nat.zero_le, Nat.le_refl, znew, true_or, or_true, b01_t, b01_f, b01_ok, bool_ft, vp_b01, vp_b0, vp_b1, b01_eq0, b01_eq1, implies_true, nI_add, nI_clamp, zi_in, zi_le_t, zi_le_f, zi_lt_t, zi_lt_f, zi_eq_t, zi_eq_f, nI_leI, nI_ltI, nI_eq, z_in, pk_mul, zu_same, zu_rw, zu_ix, zi_ne0, zi_sub, zi_m1, Nat.add_sub_cancel, Nat.reduceMul, Nat.reduceSub]
        exact hVQ _ _ ⟨S', rfl, cqF.few hF, rfl⟩
      · rw [q1]
        rw [q2] at hVQ
        refine sX0_round_138 _ _ _ _ _ ?_
        simp (disch := omega) only [oBin, oIfc, oIld, oIst, oNop, oPush, oRI, hsh, mill, List.getElem?_cons_zero, List.getElem?_cons_succ, List.set_cons_zero, List.set_cons_succ, List.drop_succ_cons, List.drop_zero, List.take_succ_cons, List.take_zero, List.length_cons, List.length_nil, List.reverse_cons, List.reverse_nil, List.nil_append, List.cons_append, Option.toList_some, Option.toList_none, va_rf_s, true_and, and_true, true_implies, false_implies, not_true_eq_false, not_false_eq_true, Nat.reduceAdd, Nat.reduceLeDiff, Nat.le_add_left, Nat.zero_le, Nat.le_refl, znew, true_or, or_true, b01_t, b01_f, b01_ok, bool_ft, vp_b01, vp_b0, vp_b1, b01_eq0, b01_eq1, implies_true, nI_add, nI_clamp, zi_in, zi_le_t, zi_le_f, zi_lt_t, zi_lt_f, zi_eq_t, zi_eq_f, nI_leI, nI_ltI, nI_eq, z_in, pk_mul, zu_same, zu_rw, zu_ix, zi_ne0, zi_sub, zi_m1, Nat.add_sub_cancel, Nat.reduceMul, Nat.reduceSub]
        exact hVQ _ _ ⟨S', rfl, cqF.few hF, rfl⟩
    · intro h1 S' x4 x5 hF hG
      have ih := ih (by omega)
      have rowN : lfT t sN (n + 1) n = lfN t (lfT t sN n) n (tnc t) (lfI sN n) := lfT_at n
      have othN : ∀ m, m ≠ n → lfT t sN (n + 1) m = lfT t sN n m := fun m hm => if_neg hm
      have rM : ∀ k s j, lfS t (lfT t sN n) n s (lfN t (lfT t sN n) n k (lfI sN n)) j ≤ 1000000 := fun k s j => Nat.le_trans (lfS_le _ _) (Nat.le_trans (lfN_le _ _) lfI_B)
      have hB1 : lfB t sN goal (n + 1) = if n &&& goal = goal then lfm (lfT t sN (n + 1) n) (tnc t) (lfB t sN goal n) else lfB t sN goal n := rfl
      have hbM := lfB_M (t := t) (st := sN) (goal := goal) n
      obtain ⟨f1, f2, f3⟩ := hB.fw (show n < 128 by omega)
      -- the least
      have least : ∀ q, q ≤ tnc t → n &&& goal = goal → ∀ S' x5, (∀ a, ¬ (c + 75 ≤ a ∧ a < c + 203) → S' a = S a) → (∀ m, m < 2 ^ tnc t → ∀ j, j < tnc t → S' (c + 75 + m) j = nI (lfT t sN (n + 1) m j)) → zW V YX0_round 188 [some (.ref c), some (.int (nI goal)), some (.int (nI (lfm (lfT t sN (n + 1) n) q (lfB t sN goal n)))), some (.int (nI n)), some (.int (nI q)), x5] [] (z, h, S', L) 0 0 := by
        refine z_down ?_ (fun q hq ihq => ?_)
        · intro hgo S' x5 hF hG
          rw [hB1, if_pos hgo] at ih
          refine sX0_round_188 _ _ _ _ _ ?_
          simp (disch := omega) only [oAld, oCV, oIld, hB.k, List.getElem?_cons_zero, List.getElem?_cons_succ, List.set_cons_zero, List.set_cons_succ, List.drop_succ_cons, List.drop_zero, List.take_succ_cons, List.take_zero, List.length_cons, List.length_nil, List.reverse_cons, List.reverse_nil, List.nil_append, List.cons_append, Option.toList_some, Option.toList_none, va_rf_s, true_and, and_true, true_implies, false_implies, not_true_eq_false, not_false_eq_true, Nat.reduceAdd, Nat.reduceLeDiff, Nat.le_add_left, Nat.zero_le, Nat.le_refl, znew, true_or, or_true, b01_t, b01_f, b01_ok, bool_ft, vp_b01, vp_b0, vp_b1, b01_eq0, b01_eq1, implies_true, nI_add, nI_clamp, zi_in, zi_le_t, zi_le_f, zi_lt_t, zi_lt_f, zi_eq_t, zi_eq_f, nI_leI, nI_ltI, nI_eq, z_in, pk_mul, zu_same, zu_rw, zu_ix, zi_ne0, zi_sub, zi_m1, Nat.add_sub_cancel, Nat.reduceMul, Nat.reduceSub]
          refine zC.of0 (zX0_corners (hQ.fr (cqF.few hF))) (by omega) (Nat.zero_le _) (Nat.zero_le _) ?_
          rintro _ _ ⟨rfl, rfl⟩
          refine sX0_round_194 (by omega) _ _ _ _ _ ?_
          simp (disch := omega) only [oAld, oAld1, oAld9, oBin, oGR, oIfc, oIld, oInc, oIst, oM2, oNop, hB.k, hB.r18, hB.t18, hB.n18, List.getElem?_cons_zero, List.getElem?_cons_succ, List.set_cons_zero, List.set_cons_succ, List.drop_succ_cons, List.drop_zero, List.take_succ_cons, List.take_zero, List.length_cons, List.length_nil, List.reverse_cons, List.reverse_nil, List.nil_append, List.cons_append, Option.toList_some, Option.toList_none, va_rf_s, true_and, and_true, true_implies, false_implies, not_true_eq_false, not_false_eq_true, Nat.reduceAdd, Nat.reduceLeDiff, Nat.le_add_left, Nat.zero_le, Nat.le_refl, znew, true_or, or_true, b01_t, b01_f, b01_ok, bool_ft, vp_b01, vp_b0, vp_b1, b01_eq0, b01_eq1, implies_true, nI_add, nI_clamp, zi_in, zi_le_t, zi_le_f, zi_lt_t, zi_lt_f, zi_eq_t, zi_eq_f, nI_leI, nI_ltI, nI_eq, z_in, pk_mul, zu_same, zu_rw, zu_ix, zi_ne0, zi_sub, zi_m1, Nat.add_sub_cancel, Nat.reduceMul, Nat.reduceSub]
          exact ih S' _ _ hF hG
        · intro hgo S' x5 hF hG
          have ihq := ihq hgo
          have g1 := hG n hn q hq
          have l1 := lfT_M (t := t) (st := sN) hst h7 h10 (n + 1) n q
          have l2 := lfm_M (r := lfT t sN (n + 1) n) hbM q
          have hm := minF_N (x := lfm (lfT t sN (n + 1) n) q (lfB t sN goal n)) (y := lfT t sN (n + 1) n q) (by omega) (by omega)
          rw [lfm] at ihq
          have hand : nI n &&& nI goal = nI goal := by rw [nx_and, hgo]
          have hand' : (nI n &&& nI goal = nI goal) = True := eq_true hand
          generalize lfm (lfT t sN (n + 1) n) q (lfB t sN goal n) = w at *
          generalize lfT t sN (n + 1) n q = w2 at *
          refine sX0_round_188 _ _ _ _ _ ?_
          simp (disch := omega) only [oAld, oCV, oIld, hB.k, List.getElem?_cons_zero, List.getElem?_cons_succ, List.set_cons_zero, List.set_cons_succ, List.drop_succ_cons, List.drop_zero, List.take_succ_cons, List.take_zero, List.length_cons, List.length_nil, List.reverse_cons, List.reverse_nil, List.nil_append, List.cons_append, Option.toList_some, Option.toList_none, va_rf_s, true_and, and_true, true_implies, false_implies, not_true_eq_false, not_false_eq_true, Nat.reduceAdd, Nat.reduceLeDiff, Nat.le_add_left, Nat.zero_le, Nat.le_refl, znew, true_or, or_true, b01_t, b01_f, b01_ok, bool_ft, vp_b01, vp_b0, vp_b1, b01_eq0, b01_eq1, implies_true, nI_add, nI_clamp, zi_in, zi_le_t, zi_le_f, zi_lt_t, zi_lt_f, zi_eq_t, zi_eq_f, nI_leI, nI_ltI, nI_eq, z_in, pk_mul, zu_same, zu_rw, zu_ix, zi_ne0, zi_sub, zi_m1, Nat.add_sub_cancel, Nat.reduceMul, Nat.reduceSub]
          refine zC.of0 (zX0_corners (hQ.fr (cqF.few hF))) (by omega) (Nat.zero_le _) (Nat.zero_le _) ?_
          rintro _ _ ⟨rfl, rfl⟩
          refine sX0_round_194 (by omega) _ _ _ _ _ ?_
          simp (disch := omega) only [oAld, oAld1, oAld9, oBin, oGR, oIfc, oIld, oInc, oIst, oM2, oNop, hB.k, hB.r18, hB.t18, hB.n18, hand', f1, f2, f3, g1, hm, List.getElem?_cons_zero, List.getElem?_cons_succ, List.set_cons_zero, List.set_cons_succ, List.drop_succ_cons, List.drop_zero, List.take_succ_cons, List.take_zero, List.length_cons, List.length_nil, List.reverse_cons, List.reverse_nil, List.nil_append, List.cons_append, Option.toList_some, Option.toList_none, va_rf_s, true_and, and_true, true_implies, false_implies, not_true_eq_false, not_false_eq_true, Nat.reduceAdd, Nat.reduceLeDiff, Nat.le_add_left, Nat.zero_le, Nat.le_refl, znew, true_or, or_true, b01_t, b01_f, b01_ok, bool_ft, vp_b01, vp_b0, vp_b1, b01_eq0, b01_eq1, implies_true, nI_add, nI_clamp, zi_in, zi_le_t, zi_le_f, zi_lt_t, zi_lt_f, zi_eq_t, zi_eq_f, nI_leI, nI_ltI, nI_eq, z_in, pk_mul, zu_same, zu_rw, zu_ix, zi_ne0, zi_sub, zi_m1, Nat.add_sub_cancel, Nat.reduceMul, Nat.reduceSub]
          exact ihq S' _ hF hG
      have least0 : ∀ S' x5, (∀ a, ¬ (c + 75 ≤ a ∧ a < c + 203) → S' a = S a) → (∀ m, m < 2 ^ tnc t → ∀ j, j < tnc t → S' (c + 75 + m) j = nI (lfT t sN (n + 1) m j)) → zW V YX0_round 188 [some (.ref c), some (.int (nI goal)), some (.int (nI (lfB t sN goal n))), some (.int (nI n)), some (.int (nI 0)), x5] [] (z, h, S', L) 0 0 := by
        intro S' x5 hF hG
        by_cases hgo : n &&& goal = goal
        · exact least 0 (by omega) hgo S' x5 hF hG
        · rw [hB1, if_neg hgo] at ih
          have hand' : (nI n &&& nI goal = nI goal) = False := by
            rw [nx_and]
            have : n &&& goal < 128 := Nat.lt_of_le_of_lt Nat.and_le_right hnN
            exact eq_false (fun q => hgo (by rw [nI_eq (by omega) (by omega)] at q; exact q))
          refine sX0_round_188 _ _ _ _ _ ?_
          simp (disch := omega) only [oAld, oCV, oIld, hB.k, List.getElem?_cons_zero, List.getElem?_cons_succ, List.set_cons_zero, List.set_cons_succ, List.drop_succ_cons, List.drop_zero, List.take_succ_cons, List.take_zero, List.length_cons, List.length_nil, List.reverse_cons, List.reverse_nil, List.nil_append, List.cons_append, Option.toList_some, Option.toList_none, va_rf_s, true_and, and_true, true_implies, false_implies, not_true_eq_false, not_false_eq_true, Nat.reduceAdd, Nat.reduceLeDiff, Nat.le_add_left, Nat.zero_le, Nat.le_refl, znew, true_or, or_true, b01_t, b01_f, b01_ok, bool_ft, vp_b01, vp_b0, vp_b1, b01_eq0, b01_eq1, implies_true, nI_add, nI_clamp, zi_in, zi_le_t, zi_le_f, zi_lt_t, zi_lt_f, zi_eq_t, zi_eq_f, nI_leI, nI_ltI, nI_eq, z_in, pk_mul, zu_same, zu_rw, zu_ix, zi_ne0, zi_sub, zi_m1, Nat.add_sub_cancel, Nat.reduceMul, Nat.reduceSub]
          refine zC.of0 (zX0_corners (hQ.fr (cqF.few hF))) (by omega) (Nat.zero_le _) (Nat.zero_le _) ?_
          rintro _ _ ⟨rfl, rfl⟩
          refine sX0_round_194 (by omega) _ _ _ _ _ ?_
          simp (disch := omega) only [oAld, oAld1, oAld9, oBin, oGR, oIfc, oIld, oInc, oIst, oM2, oNop, hB.k, hB.r18, hB.t18, hB.n18, hand', List.getElem?_cons_zero, List.getElem?_cons_succ, List.set_cons_zero, List.set_cons_succ, List.drop_succ_cons, List.drop_zero, List.take_succ_cons, List.take_zero, List.length_cons, List.length_nil, List.reverse_cons, List.reverse_nil, List.nil_append, List.cons_append, Option.toList_some, Option.toList_none, va_rf_s, true_and, and_true, true_implies, false_implies, not_true_eq_false, not_false_eq_true, Nat.reduceAdd, Nat.reduceLeDiff, Nat.le_add_left, Nat.zero_le, Nat.le_refl, znew, true_or, or_true, b01_t, b01_f, b01_ok, bool_ft, vp_b01, vp_b0, vp_b1, b01_eq0, b01_eq1, implies_true, nI_add, nI_clamp, zi_in, zi_le_t, zi_le_f, zi_lt_t, zi_lt_f, zi_eq_t, zi_eq_f, nI_leI, nI_ltI, nI_eq, z_in, pk_mul, zu_same, zu_rw, zu_ix, zi_ne0, zi_sub, zi_m1, Nat.add_sub_cancel, Nat.reduceMul, Nat.reduceSub]
          exact ih S' _ _ hF hG
      -- the rounds
      have streets : ∀ k, k < tnc t → (∀ S' x5, (∀ a, ¬ (c + 75 ≤ a ∧ a < c + 203) → S' a = S a) → (∀ m, m < 2 ^ tnc t → ∀ j, j < tnc t → S' (c + 75 + m) j = nI (lfP t sN n (lfN t (lfT t sN n) n (k + 1) (lfI sN n)) m j)) → zW V YX0_round 145 [some (.ref c), some (.int (nI goal)), some (.int (nI (lfB t sN goal n))), some (.int (nI n)), some (.int (nI (k + 1))), x5] [] (z, h, S', L) 0 0) →
          ∀ s, s ≤ tns t → ∀ S', (∀ a, ¬ (c + 75 ≤ a ∧ a < c + 203) → S' a = S a) → (∀ m, m < 2 ^ tnc t → ∀ j, j < tnc t → S' (c + 75 + m) j = nI (lfP t sN n (lfS t (lfT t sN n) n s (lfN t (lfT t sN n) n k (lfI sN n))) m j)) → zW V YX0_round 157 [some (.ref c), some (.int (nI goal)), some (.int (nI (lfB t sN goal n))), some (.int (nI n)), some (.int (nI k)), some (.int (nI s))] [] (z, h, S', L) 0 0 := by
        intro k hk hnx
        refine z_down ?_ (fun s hs ihs => ?_)
        · intro S' hF hG
          refine sX0_round_157 _ _ _ _ _ ?_
          simp (disch := omega) only [oAld, oCV, oIld, hB.k, List.getElem?_cons_zero, List.getElem?_cons_succ, List.set_cons_zero, List.set_cons_succ, List.drop_succ_cons, List.drop_zero, List.take_succ_cons, List.take_zero, List.length_cons, List.length_nil, List.reverse_cons, List.reverse_nil, List.nil_append, List.cons_append, Option.toList_some, Option.toList_none, va_rf_s, true_and, and_true, true_implies, false_implies, not_true_eq_false, not_false_eq_true, Nat.reduceAdd, Nat.reduceLeDiff, Nat.le_add_left, Nat.zero_le, Nat.le_refl, znew, true_or, or_true, b01_t, b01_f, b01_ok, bool_ft, vp_b01, vp_b0, vp_b1, b01_eq0, b01_eq1, implies_true, nI_add, nI_clamp, zi_in, zi_le_t, zi_le_f, zi_lt_t, zi_lt_f, zi_eq_t, zi_eq_f, nI_leI, nI_ltI, nI_eq, z_in, pk_mul, zu_same, zu_rw, zu_ix, zi_ne0, zi_sub, zi_m1, Nat.add_sub_cancel, Nat.reduceMul, Nat.reduceSub]
          refine zC.of0 (zX0_streets (hQ.fr (cqF.few hF))) (by omega) (Nat.zero_le _) (Nat.zero_le _) ?_
          rintro _ _ ⟨rfl, rfl⟩
          refine sX0_round_163 _ _ _ _ _ ?_
          simp (disch := omega) only [oAld, oCV, oIfc, oIld, oInc, oNop, hB.k, List.getElem?_cons_zero, List.getElem?_cons_succ, List.set_cons_zero, List.set_cons_succ, List.drop_succ_cons, List.drop_zero, List.take_succ_cons, List.take_zero, List.length_cons, List.length_nil, List.reverse_cons, List.reverse_nil, List.nil_append, List.cons_append, Option.toList_some, Option.toList_none, va_rf_s, true_and, and_true, true_implies, false_implies, not_true_eq_false, not_false_eq_true, Nat.reduceAdd, Nat.reduceLeDiff, Nat.le_add_left, Nat.zero_le, Nat.le_refl, znew, true_or, or_true, b01_t, b01_f, b01_ok, bool_ft, vp_b01, vp_b0, vp_b1, b01_eq0, b01_eq1, implies_true, nI_add, nI_clamp, zi_in, zi_le_t, zi_le_f, zi_lt_t, zi_lt_f, zi_eq_t, zi_eq_f, nI_leI, nI_ltI, nI_eq, z_in, pk_mul, zu_same, zu_rw, zu_ix, zi_ne0, zi_sub, zi_m1, Nat.add_sub_cancel, Nat.reduceMul, Nat.reduceSub]
          exact hnx S' _ hF hG
        · intro S' hF hG
          have hQ' := hQ.fr (cqF.few hF)
          have rM1 := rM k s
          have eS : lfS t (lfT t sN n) n (s + 1) (lfN t (lfT t sN n) n k (lfI sN n)) = lfR t (lfT t sN n) n s (lfS t (lfT t sN n) n s (lfN t (lfT t sN n) n k (lfI sN n))) := rfl
          rw [eS] at ihs
          generalize lfS t (lfT t sN n) n s (lfN t (lfT t sN n) n k (lfI sN n)) = rw0 at *
          have hgM : ∀ m j, lfP t sN n rw0 m j ≤ 1000000 := fun m j => by
            unfold lfP
            split
            · exact rM1 j
            · exact lfT_M hst h7 h10 n m j
          refine sX0_round_157 _ _ _ _ _ ?_
          simp (disch := omega) only [oAld, oCV, oIld, hB.k, List.getElem?_cons_zero, List.getElem?_cons_succ, List.set_cons_zero, List.set_cons_succ, List.drop_succ_cons, List.drop_zero, List.take_succ_cons, List.take_zero, List.length_cons, List.length_nil, List.reverse_cons, List.reverse_nil, List.nil_append, List.cons_append, Option.toList_some, Option.toList_none, va_rf_s, true_and, and_true, true_implies, false_implies, not_true_eq_false, not_false_eq_true, Nat.reduceAdd, Nat.reduceLeDiff, Nat.le_add_left, Nat.zero_le, Nat.le_refl, znew, true_or, or_true, b01_t, b01_f, b01_ok, bool_ft, vp_b01, vp_b0, vp_b1, b01_eq0, b01_eq1, implies_true, nI_add, nI_clamp, zi_in, zi_le_t, zi_le_f, zi_lt_t, zi_lt_f, zi_eq_t, zi_eq_f, nI_leI, nI_ltI, nI_eq, z_in, pk_mul, zu_same, zu_rw, zu_ix, zi_ne0, zi_sub, zi_m1, Nat.add_sub_cancel, Nat.reduceMul, Nat.reduceSub]
          refine zC.of0 (zX0_streets hQ') (by omega) (Nat.zero_le _) (Nat.zero_le _) ?_
          rintro _ _ ⟨rfl, rfl⟩
          refine sX0_round_163 _ _ _ _ _ ?_
          simp (disch := omega) only [oAld, oCV, oIfc, oIld, oInc, oNop, hB.k, List.getElem?_cons_zero, List.getElem?_cons_succ, List.set_cons_zero, List.set_cons_succ, List.drop_succ_cons, List.drop_zero, List.take_succ_cons, List.take_zero, List.length_cons, List.length_nil, List.reverse_cons, List.reverse_nil, List.nil_append, List.cons_append, Option.toList_some, Option.toList_none, va_rf_s, true_and, and_true, true_implies, false_implies, not_true_eq_false, not_false_eq_true, Nat.reduceAdd, Nat.reduceLeDiff, Nat.le_add_left, Nat.zero_le, Nat.le_refl, znew, true_or, or_true, b01_t, b01_f, b01_ok, bool_ft, vp_b01, vp_b0, vp_b1, b01_eq0, b01_eq1, implies_true, nI_add, nI_clamp, zi_in, zi_le_t, zi_le_f, zi_lt_t, zi_lt_f, zi_eq_t, zi_eq_f, nI_leI, nI_ltI, nI_eq, z_in, pk_mul, zu_same, zu_rw, zu_ix, zi_ne0, zi_sub, zi_m1, Nat.add_sub_cancel, Nat.reduceMul, Nat.reduceSub]
          refine zC.of0 (zX0_laysFew hQ' hn hs (g := lfP t sN n rw0) hgM hG) (by omega) (Nat.zero_le _) (Nat.zero_le _) ?_
          rintro _ _ ⟨rfl, S1, rfl, hF1, hG1⟩
          have eP : lfP t sN n rw0 n = rw0 := if_pos rfl
          rw [eP, lfR_P] at hG1
          refine sX0_round_173 _ _ _ _ _ ?_
          simp (disch := omega) only [oInc, oNop, List.getElem?_cons_zero, List.getElem?_cons_succ, List.set_cons_zero, List.set_cons_succ, List.drop_succ_cons, List.drop_zero, List.take_succ_cons, List.take_zero, List.length_cons, List.length_nil, List.reverse_cons, List.reverse_nil, List.nil_append, List.cons_append, Option.toList_some, Option.toList_none, va_rf_s, true_and, and_true, true_implies, false_implies, not_true_eq_false, not_false_eq_true, Nat.reduceAdd, Nat.reduceLeDiff, Nat.le_add_left, Nat.zero_le, Nat.le_refl, znew, true_or, or_true, b01_t, b01_f, b01_ok, bool_ft, vp_b01, vp_b0, vp_b1, b01_eq0, b01_eq1, implies_true, nI_add, nI_clamp, zi_in, zi_le_t, zi_le_f, zi_lt_t, zi_lt_f, zi_eq_t, zi_eq_f, nI_leI, nI_ltI, nI_eq, z_in, pk_mul, zu_same, zu_rw, zu_ix, zi_ne0, zi_sub, zi_m1, Nat.add_sub_cancel, Nat.reduceMul, Nat.reduceSub]
          refine ihs S1 (fun a ha => (hF1 a (by omega)).trans (hF a ha)) (fun m hm j hj => ?_)
          by_cases e : m = n
          · subst e
            rw [show lfP t sN m (lfR t (lfT t sN m) m s rw0) m = lfR t (lfT t sN m) m s rw0 from if_pos rfl]
            exact hG1 j hj
          · rw [show lfP t sN n (lfR t (lfT t sN n) n s rw0) m = lfT t sN n m from if_neg e, hF1 _ (by omega), hG m hm j hj, show lfP t sN n rw0 m = lfT t sN n m from if_neg e]
      have rounds : ∀ k, k ≤ tnc t → ∀ S' x5, (∀ a, ¬ (c + 75 ≤ a ∧ a < c + 203) → S' a = S a) → (∀ m, m < 2 ^ tnc t → ∀ j, j < tnc t → S' (c + 75 + m) j = nI (lfP t sN n (lfN t (lfT t sN n) n k (lfI sN n)) m j)) → zW V YX0_round 145 [some (.ref c), some (.int (nI goal)), some (.int (nI (lfB t sN goal n))), some (.int (nI n)), some (.int (nI k)), x5] [] (z, h, S', L) 0 0 := by
        refine z_down ?_ (fun k hk ihk => ?_)
        · intro S' x5 hF hG
          refine sX0_round_145 _ _ _ _ _ ?_
          simp (disch := omega) only [oAld, oCV, oIld, hB.k, List.getElem?_cons_zero, List.getElem?_cons_succ, List.set_cons_zero, List.set_cons_succ, List.drop_succ_cons, List.drop_zero, List.take_succ_cons, List.take_zero, List.length_cons, List.length_nil, List.reverse_cons, List.reverse_nil, List.nil_append, List.cons_append, Option.toList_some, Option.toList_none, va_rf_s, true_and, and_true, true_implies, false_implies, not_true_eq_false, not_false_eq_true, Nat.reduceAdd, Nat.reduceLeDiff, Nat.le_add_left, Nat.zero_le, Nat.le_refl, znew, true_or, or_true, b01_t, b01_f, b01_ok, bool_ft, vp_b01, vp_b0, vp_b1, b01_eq0, b01_eq1, implies_true, nI_add, nI_clamp, zi_in, zi_le_t, zi_le_f, zi_lt_t, zi_lt_f, zi_eq_t, zi_eq_f, nI_leI, nI_ltI, nI_eq, z_in, pk_mul, zu_same, zu_rw, zu_ix, zi_ne0, zi_sub, zi_m1, Nat.add_sub_cancel, Nat.reduceMul, Nat.reduceSub]
          refine zC.of0 (zX0_corners (hQ.fr (cqF.few hF))) (by omega) (Nat.zero_le _) (Nat.zero_le _) ?_
          rintro _ _ ⟨rfl, rfl⟩
          refine sX0_round_151 _ _ _ _ _ ?_
          simp (disch := omega) only [oIfc, oIst, oPush, List.getElem?_cons_zero, List.getElem?_cons_succ, List.set_cons_zero, List.set_cons_succ, List.drop_succ_cons, List.drop_zero, List.take_succ_cons, List.take_zero, List.length_cons, List.length_nil, List.reverse_cons, List.reverse_nil, List.nil_append, List.cons_append, Option.toList_some, Option.toList_none, va_rf_s, true_and, and_true, true_implies, false_implies, not_true_eq_false, not_false_eq_true, Nat.reduceAdd, Nat.reduceLeDiff, Nat.le_add_left, Nat.zero_le, Nat.le_refl, znew, true_or, or_true, b01_t, b01_f, b01_ok, bool_ft, vp_b01, vp_b0, vp_b1, b01_eq0, b01_eq1, implies_true, nI_add, nI_clamp, zi_in, zi_le_t, zi_le_f, zi_lt_t, zi_lt_f, zi_eq_t, zi_eq_f, nI_leI, nI_ltI, nI_eq, z_in, pk_mul, zu_same, zu_rw, zu_ix, zi_ne0, zi_sub, zi_m1, Nat.add_sub_cancel, Nat.reduceMul, Nat.reduceSub]
          refine least0 S' _ hF (fun m hm j hj => ?_)
          rw [hG m hm j hj]
          by_cases e : m = n
          · subst e; rw [rowN]; exact congrArg nI (congrFun (if_pos rfl) j)
          · rw [othN m e]; exact congrArg nI (congrFun (if_neg e) j)
        · intro S' x5 hF hG
          refine sX0_round_145 _ _ _ _ _ ?_
          simp (disch := omega) only [oAld, oCV, oIld, hB.k, List.getElem?_cons_zero, List.getElem?_cons_succ, List.set_cons_zero, List.set_cons_succ, List.drop_succ_cons, List.drop_zero, List.take_succ_cons, List.take_zero, List.length_cons, List.length_nil, List.reverse_cons, List.reverse_nil, List.nil_append, List.cons_append, Option.toList_some, Option.toList_none, va_rf_s, true_and, and_true, true_implies, false_implies, not_true_eq_false, not_false_eq_true, Nat.reduceAdd, Nat.reduceLeDiff, Nat.le_add_left, Nat.zero_le, Nat.le_refl, znew, true_or, or_true, b01_t, b01_f, b01_ok, bool_ft, vp_b01, vp_b0, vp_b1, b01_eq0, b01_eq1, implies_true, nI_add, nI_clamp, zi_in, zi_le_t, zi_le_f, zi_lt_t, zi_lt_f, zi_eq_t, zi_eq_f, nI_leI, nI_ltI, nI_eq, z_in, pk_mul, zu_same, zu_rw, zu_ix, zi_ne0, zi_sub, zi_m1, Nat.add_sub_cancel, Nat.reduceMul, Nat.reduceSub]
          refine zC.of0 (zX0_corners (hQ.fr (cqF.few hF))) (by omega) (Nat.zero_le _) (Nat.zero_le _) ?_
          rintro _ _ ⟨rfl, rfl⟩
          refine sX0_round_151 _ _ _ _ _ ?_
          simp (disch := omega) only [oIfc, oIst, oPush, List.getElem?_cons_zero, List.getElem?_cons_succ, List.set_cons_zero, List.set_cons_succ, List.drop_succ_cons, List.drop_zero, List.take_succ_cons, List.take_zero, List.length_cons, List.length_nil, List.reverse_cons, List.reverse_nil, List.nil_append, List.cons_append, Option.toList_some, Option.toList_none, va_rf_s, true_and, and_true, true_implies, false_implies, not_true_eq_false, not_false_eq_true, Nat.reduceAdd, Nat.reduceLeDiff, Nat.le_add_left, Nat.zero_le, Nat.le_refl, znew, true_or, or_true, b01_t, b01_f, b01_ok, bool_ft, vp_b01, vp_b0, vp_b1, b01_eq0, b01_eq1, implies_true, nI_add, nI_clamp, zi_in, zi_le_t, zi_le_f, zi_lt_t, zi_lt_f, zi_eq_t, zi_eq_f, nI_leI, nI_ltI, nI_eq, z_in, pk_mul, zu_same, zu_rw, zu_ix, zi_ne0, zi_sub, zi_m1, Nat.add_sub_cancel, Nat.reduceMul, Nat.reduceSub]
          exact streets k hk ihk 0 (by omega) S' hF hG
      refine sX0_round_132 _ _ _ _ _ ?_
      simp (disch := omega) only [oAld, oCV, oIld, oPush, hB.k, List.getElem?_cons_zero, List.getElem?_cons_succ, List.set_cons_zero, List.set_cons_succ, List.drop_succ_cons, List.drop_zero, List.take_succ_cons, List.take_zero, List.length_cons, List.length_nil, List.reverse_cons, List.reverse_nil, List.nil_append, List.cons_append, Option.toList_some, Option.toList_none, va_rf_s, true_and, and_true, true_implies, false_implies, not_true_eq_false, not_false_eq_true, Nat.reduceAdd, Nat.reduceLeDiff, Nat.le_add_left, Nat.zero_le, Nat.le_refl, znew, true_or, or_true, b01_t, b01_f, b01_ok, bool_ft, vp_b01, vp_b0, vp_b1, b01_eq0, b01_eq1, implies_true, nI_add, nI_clamp, zi_in, zi_le_t, zi_le_f, zi_lt_t, zi_lt_f, zi_eq_t, zi_eq_f, nI_leI, nI_ltI, nI_eq, z_in, pk_mul, zu_same, zu_rw, zu_ix, zi_ne0, zi_sub, zi_m1, Nat.add_sub_cancel, Nat.reduceMul, Nat.reduceSub]
      refine zC.of0 (zX0_corners (hQ.fr (cqF.few hF))) (by omega) (Nat.zero_le _) (Nat.zero_le _) ?_
      rintro _ _ ⟨rfl, rfl⟩
      refine sX0_round_138 _ _ _ _ _ ?_
      simp (disch := omega) only [oBin, oIfc, oIld, oIst, oNop, oPush, oRI, hsh, List.getElem?_cons_zero, List.getElem?_cons_succ, List.set_cons_zero, List.set_cons_succ, List.drop_succ_cons, List.drop_zero, List.take_succ_cons, List.take_zero, List.length_cons, List.length_nil, List.reverse_cons, List.reverse_nil, List.nil_append, List.cons_append, Option.toList_some, Option.toList_none, va_rf_s, true_and, and_true, true_implies, false_implies, not_true_eq_false, not_false_eq_true, Nat.reduceAdd, Nat.reduceLeDiff, Nat.le_add_left, Nat.zero_le, Nat.le_refl, znew, true_or, or_true, b01_t, b01_f, b01_ok, bool_ft, vp_b01, vp_b0, vp_b1, b01_eq0, b01_eq1, implies_true, nI_add, nI_clamp, zi_in, zi_le_t, zi_le_f, zi_lt_t, zi_lt_f, zi_eq_t, zi_eq_f, nI_leI, nI_ltI, nI_eq, z_in, pk_mul, zu_same, zu_rw, zu_ix, zi_ne0, zi_sub, zi_m1, Nat.add_sub_cancel, Nat.reduceMul, Nat.reduceSub]
      refine rounds 0 (by omega) S' _ hF (fun m hm j hj => ?_)
      rw [hG m hm j hj]
      by_cases e : m = n
      · subst e
        rw [lfT_hi m m (Nat.le_refl _)]
        exact congrArg nI (congrFun (show lfI sN m = _ from (if_pos rfl).symm) j)
      · exact congrArg nI (congrFun (show lfT t sN n m = _ from (if_neg e).symm) j)
  -- all is far
  have fill : ∀ n, n ≤ 2 ^ tnc t → ∀ S' x4, (∀ a, ¬ (c + 75 ≤ a ∧ a < c + 203) → S' a = S a) → (∀ m, m < n → ∀ j, j < tnc t → S' (c + 75 + m) j = nI (lfI sN m j)) → zW V YX0_round 55 [some (.ref c), some (.int (nI goal)), some (.int (nI 1000000)), some (.int (nI n)), x4, none] [] (z, h, S', L) 0 0 := by
    refine z_down ?_ (fun n hn ih => ?_)
    · intro S' x4 hF hG
      refine sX0_round_55 _ _ _ _ _ ?_
      simp (disch := omega) only [oAld, oCV, oIld, oPush, hB.k, List.getElem?_cons_zero, List.getElem?_cons_succ, List.set_cons_zero, List.set_cons_succ, List.drop_succ_cons, List.drop_zero, List.take_succ_cons, List.take_zero, List.length_cons, List.length_nil, List.reverse_cons, List.reverse_nil, List.nil_append, List.cons_append, Option.toList_some, Option.toList_none, va_rf_s, true_and, and_true, true_implies, false_implies, not_true_eq_false, not_false_eq_true, Nat.reduceAdd, Nat.reduceLeDiff, Nat.le_add_left, Nat.zero_le, Nat.le_refl, znew, true_or, or_true, b01_t, b01_f, b01_ok, bool_ft, vp_b01, vp_b0, vp_b1, b01_eq0, b01_eq1, implies_true, nI_add, nI_clamp, zi_in, zi_le_t, zi_le_f, zi_lt_t, zi_lt_f, zi_eq_t, zi_eq_f, nI_leI, nI_ltI, nI_eq, z_in, pk_mul, zu_same, zu_rw, zu_ix, zi_ne0, zi_sub, zi_m1, Nat.add_sub_cancel, Nat.reduceMul, Nat.reduceSub]
      refine zC.of0 (zX0_corners (hQ.fr (cqF.few hF))) (by omega) (Nat.zero_le _) (Nat.zero_le _) ?_
      rintro _ _ ⟨rfl, rfl⟩
      refine sX0_round_61 _ _ _ _ _ ?_
      simp (disch := omega) only [oBin, oIfc, oIst, oPush, hsh, List.getElem?_cons_zero, List.getElem?_cons_succ, List.set_cons_zero, List.set_cons_succ, List.drop_succ_cons, List.drop_zero, List.take_succ_cons, List.take_zero, List.length_cons, List.length_nil, List.reverse_cons, List.reverse_nil, List.nil_append, List.cons_append, Option.toList_some, Option.toList_none, va_rf_s, true_and, and_true, true_implies, false_implies, not_true_eq_false, not_false_eq_true, Nat.reduceAdd, Nat.reduceLeDiff, Nat.le_add_left, Nat.zero_le, Nat.le_refl, znew, true_or, or_true, b01_t, b01_f, b01_ok, bool_ft, vp_b01, vp_b0, vp_b1, b01_eq0, b01_eq1, implies_true, nI_add, nI_clamp, zi_in, zi_le_t, zi_le_f, zi_lt_t, zi_lt_f, zi_eq_t, zi_eq_f, nI_leI, nI_ltI, nI_eq, z_in, pk_mul, zu_same, zu_rw, zu_ix, zi_ne0, zi_sub, zi_m1, Nat.add_sub_cancel, Nat.reduceMul, Nat.reduceSub]
      have := sets 1 (by have := Nat.two_pow_pos (tnc t); omega) (by omega) S' x4 none hF (fun m hm j hj => by rw [lfT_1]; exact hG m hm j hj)
      rw [lfB_1] at this
      exact this
    · intro S' x4 hF hG
      obtain ⟨f1, f2, f3⟩ := hB.fw (show n < 128 by omega)
      have inner : ∀ q, q ≤ tnc t → ∀ S', (∀ a, ¬ (c + 75 ≤ a ∧ a < c + 203) → S' a = S a) → (∀ m, m < n → ∀ j, j < tnc t → S' (c + 75 + m) j = nI (lfI sN m j)) → (∀ j, j < q → S' (c + 75 + n) j = nI (lfI sN n j)) → zW V YX0_round 68 [some (.ref c), some (.int (nI goal)), some (.int (nI 1000000)), some (.int (nI n)), some (.int (nI q)), none] [] (z, h, S', L) 0 0 := by
        refine z_down ?_ (fun q hq ihq => ?_)
        · intro S' hF hG hq
          refine sX0_round_68 _ _ _ _ _ ?_
          simp (disch := omega) only [oAld, oCV, oIld, hB.k, List.getElem?_cons_zero, List.getElem?_cons_succ, List.set_cons_zero, List.set_cons_succ, List.drop_succ_cons, List.drop_zero, List.take_succ_cons, List.take_zero, List.length_cons, List.length_nil, List.reverse_cons, List.reverse_nil, List.nil_append, List.cons_append, Option.toList_some, Option.toList_none, va_rf_s, true_and, and_true, true_implies, false_implies, not_true_eq_false, not_false_eq_true, Nat.reduceAdd, Nat.reduceLeDiff, Nat.le_add_left, Nat.zero_le, Nat.le_refl, znew, true_or, or_true, b01_t, b01_f, b01_ok, bool_ft, vp_b01, vp_b0, vp_b1, b01_eq0, b01_eq1, implies_true, nI_add, nI_clamp, zi_in, zi_le_t, zi_le_f, zi_lt_t, zi_lt_f, zi_eq_t, zi_eq_f, nI_leI, nI_ltI, nI_eq, z_in, pk_mul, zu_same, zu_rw, zu_ix, zi_ne0, zi_sub, zi_m1, Nat.add_sub_cancel, Nat.reduceMul, Nat.reduceSub]
          refine zC.of0 (zX0_corners (hQ.fr (cqF.few hF))) (by omega) (Nat.zero_le _) (Nat.zero_le _) ?_
          rintro _ _ ⟨rfl, rfl⟩
          refine sX0_round_74 _ _ _ _ _ ?_
          simp (disch := omega) only [oAld, oAld9, oAst1, oBin, oGI, oGR, oIfc, oIld, oInc, oNop, oPush, hB.k, hB.r18, hB.t18, hB.n18, hB.r7, hW.k, List.getElem?_cons_zero, List.getElem?_cons_succ, List.set_cons_zero, List.set_cons_succ, List.drop_succ_cons, List.drop_zero, List.take_succ_cons, List.take_zero, List.length_cons, List.length_nil, List.reverse_cons, List.reverse_nil, List.nil_append, List.cons_append, Option.toList_some, Option.toList_none, va_rf_s, true_and, and_true, true_implies, false_implies, not_true_eq_false, not_false_eq_true, Nat.reduceAdd, Nat.reduceLeDiff, Nat.le_add_left, Nat.zero_le, Nat.le_refl, znew, true_or, or_true, b01_t, b01_f, b01_ok, bool_ft, vp_b01, vp_b0, vp_b1, b01_eq0, b01_eq1, implies_true, nI_add, nI_clamp, zi_in, zi_le_t, zi_le_f, zi_lt_t, zi_lt_f, zi_eq_t, zi_eq_f, nI_leI, nI_ltI, nI_eq, z_in, pk_mul, zu_same, zu_rw, zu_ix, zi_ne0, zi_sub, zi_m1, Nat.add_sub_cancel, Nat.reduceMul, Nat.reduceSub]
          refine ih S' _ hF (fun m hm j hj => ?_)
          by_cases e : m = n
          · rw [e]; exact hq j hj
          · exact hG m (by omega) j hj
        · intro S' hF hG hlo
          have e8' := e8 S' hF
          have fin : ∀ v, v = nI (lfI sN n q) → zW V YX0_round 68 [some (.ref c), some (.int (nI goal)), some (.int (nI 1000000)), some (.int (nI n)), some (.int (nI (q + 1))), none] [] (z, h, zu S' (c + 75 + n) q v, L) 0 0 := fun v hv => by
            refine ihq _ (fun a ha => by rw [zu_rw _ _ (by omega)]; exact hF a ha) (fun m hm j hj => by rw [zu_rw _ _ (by omega)]; exact hG m hm j hj) (fun j hj => ?_)
            by_cases e : j = q
            · rw [e, zu_same, hv]
            · rw [zu_ix _ _ e]; exact hlo j (by omega)
          refine sX0_round_68 _ _ _ _ _ ?_
          simp (disch := omega) only [oAld, oCV, oIld, hB.k, List.getElem?_cons_zero, List.getElem?_cons_succ, List.set_cons_zero, List.set_cons_succ, List.drop_succ_cons, List.drop_zero, List.take_succ_cons, List.take_zero, List.length_cons, List.length_nil, List.reverse_cons, List.reverse_nil, List.nil_append, List.cons_append, Option.toList_some, Option.toList_none, va_rf_s, true_and, and_true, true_implies, false_implies, not_true_eq_false, not_false_eq_true, Nat.reduceAdd, Nat.reduceLeDiff, Nat.le_add_left, Nat.zero_le, Nat.le_refl, znew, true_or, or_true, b01_t, b01_f, b01_ok, bool_ft, vp_b01, vp_b0, vp_b1, b01_eq0, b01_eq1, implies_true, nI_add, nI_clamp, zi_in, zi_le_t, zi_le_f, zi_lt_t, zi_lt_f, zi_eq_t, zi_eq_f, nI_leI, nI_ltI, nI_eq, z_in, pk_mul, zu_same, zu_rw, zu_ix, zi_ne0, zi_sub, zi_m1, Nat.add_sub_cancel, Nat.reduceMul, Nat.reduceSub]
          refine zC.of0 (zX0_corners (hQ.fr (cqF.few hF))) (by omega) (Nat.zero_le _) (Nat.zero_le _) ?_
          rintro _ _ ⟨rfl, rfl⟩
          have hpw : 2 ^ sN < 128 := Nat.lt_of_lt_of_le (Nat.pow_lt_pow_right (by omega) hsN) h128
          by_cases e1 : n = 2 ^ sN
          · by_cases e2 : q = sN
            · have v0 : lfI sN n q = 0 := if_pos ⟨e1, e2⟩
              have t1 : (nI n = nI (2 ^ sN)) = True := eq_true (by rw [e1])
              have t2 : (nI q = nI sN) = True := eq_true (by rw [e2])
              refine sX0_round_74 _ _ _ _ _ ?_
              simp (disch := omega) only [oAld, oAld9, oAst1, oBin, oGI, oGR, oIfc, oIld, oInc, oNop, oPush, hB.k, hB.r18, hB.t18, hB.n18, hB.r7, hW.k, e8', hshs, f1, f2, f3, t1, t2, List.getElem?_cons_zero, List.getElem?_cons_succ, List.set_cons_zero, List.set_cons_succ, List.drop_succ_cons, List.drop_zero, List.take_succ_cons, List.take_zero, List.length_cons, List.length_nil, List.reverse_cons, List.reverse_nil, List.nil_append, List.cons_append, Option.toList_some, Option.toList_none, va_rf_s, true_and, and_true, true_implies, false_implies, not_true_eq_false, not_false_eq_true, Nat.reduceAdd, Nat.reduceLeDiff, Nat.le_add_left, Nat.zero_le, Nat.le_refl, znew, true_or, or_true, b01_t, b01_f, b01_ok, bool_ft, vp_b01, vp_b0, vp_b1, b01_eq0, b01_eq1, implies_true, nI_add, nI_clamp, zi_in, zi_le_t, zi_le_f, zi_lt_t, zi_lt_f, zi_eq_t, zi_eq_f, nI_leI, nI_ltI, nI_eq, z_in, pk_mul, zu_same, zu_rw, zu_ix, zi_ne0, zi_sub, zi_m1, Nat.add_sub_cancel, Nat.reduceMul, Nat.reduceSub]
              exact fin _ (by rw [v0])
            · have v0 : lfI sN n q = 1000000 := if_neg (fun x => e2 x.2)
              have t1 : (nI n = nI (2 ^ sN)) = True := eq_true (by rw [e1])
              have t2 : (nI q = nI sN) = False := eq_false (by rw [nI_eq (by omega) (by omega)]; exact e2)
              refine sX0_round_74 _ _ _ _ _ ?_
              simp (disch := omega) only [oAld, oAld9, oAst1, oBin, oGI, oGR, oIfc, oIld, oInc, oNop, oPush, hB.k, hB.r18, hB.t18, hB.n18, hB.r7, hW.k, e8', hshs, f1, f2, f3, t1, t2, List.getElem?_cons_zero, List.getElem?_cons_succ, List.set_cons_zero, List.set_cons_succ, List.drop_succ_cons, List.drop_zero, List.take_succ_cons, List.take_zero, List.length_cons, List.length_nil, List.reverse_cons, List.reverse_nil, List.nil_append, List.cons_append, Option.toList_some, Option.toList_none, va_rf_s, true_and, and_true, true_implies, false_implies, not_true_eq_false, not_false_eq_true, Nat.reduceAdd, Nat.reduceLeDiff, Nat.le_add_left, Nat.zero_le, Nat.le_refl, znew, true_or, or_true, b01_t, b01_f, b01_ok, bool_ft, vp_b01, vp_b0, vp_b1, b01_eq0, b01_eq1, implies_true, nI_add, nI_clamp, zi_in, zi_le_t, zi_le_f, zi_lt_t, zi_lt_f, zi_eq_t, zi_eq_f, nI_leI, nI_ltI, nI_eq, z_in, pk_mul, zu_same, zu_rw, zu_ix, zi_ne0, zi_sub, zi_m1, Nat.add_sub_cancel, Nat.reduceMul, Nat.reduceSub]
              exact fin _ (by rw [v0]; rfl)
          · have v0 : lfI sN n q = 1000000 := if_neg (fun x => e1 x.1)
            have t1 : (nI n = nI (2 ^ sN)) = False := eq_false (by rw [nI_eq (by omega) (by omega)]; exact e1)
            refine sX0_round_74 _ _ _ _ _ ?_
            simp (disch := omega) only [oAld, oAld9, oAst1, oBin, oGI, oGR, oIfc, oIld, oInc, oNop, oPush, hB.k, hB.r18, hB.t18, hB.n18, hB.r7, hW.k, e8', hshs, f1, f2, f3, t1, List.getElem?_cons_zero, List.getElem?_cons_succ, List.set_cons_zero, List.set_cons_succ, List.drop_succ_cons, List.drop_zero, List.take_succ_cons, List.take_zero, List.length_cons, List.length_nil, List.reverse_cons, List.reverse_nil, List.nil_append, List.cons_append, Option.toList_some, Option.toList_none, va_rf_s, true_and, and_true, true_implies, false_implies, not_true_eq_false, not_false_eq_true, Nat.reduceAdd, Nat.reduceLeDiff, Nat.le_add_left, Nat.zero_le, Nat.le_refl, znew, true_or, or_true, b01_t, b01_f, b01_ok, bool_ft, vp_b01, vp_b0, vp_b1, b01_eq0, b01_eq1, implies_true, nI_add, nI_clamp, zi_in, zi_le_t, zi_le_f, zi_lt_t, zi_lt_f, zi_eq_t, zi_eq_f, nI_leI, nI_ltI, nI_eq, z_in, pk_mul, zu_same, zu_rw, zu_ix, zi_ne0, zi_sub, zi_m1, Nat.add_sub_cancel, Nat.reduceMul, Nat.reduceSub]
            exact fin _ (by rw [v0]; rfl)
      refine sX0_round_55 _ _ _ _ _ ?_
      simp (disch := omega) only [oAld, oCV, oIld, oPush, hB.k, List.getElem?_cons_zero, List.getElem?_cons_succ, List.set_cons_zero, List.set_cons_succ, List.drop_succ_cons, List.drop_zero, List.take_succ_cons, List.take_zero, List.length_cons, List.length_nil, List.reverse_cons, List.reverse_nil, List.nil_append, List.cons_append, Option.toList_some, Option.toList_none, va_rf_s, true_and, and_true, true_implies, false_implies, not_true_eq_false, not_false_eq_true, Nat.reduceAdd, Nat.reduceLeDiff, Nat.le_add_left, Nat.zero_le, Nat.le_refl, znew, true_or, or_true, b01_t, b01_f, b01_ok, bool_ft, vp_b01, vp_b0, vp_b1, b01_eq0, b01_eq1, implies_true, nI_add, nI_clamp, zi_in, zi_le_t, zi_le_f, zi_lt_t, zi_lt_f, zi_eq_t, zi_eq_f, nI_leI, nI_ltI, nI_eq, z_in, pk_mul, zu_same, zu_rw, zu_ix, zi_ne0, zi_sub, zi_m1, Nat.add_sub_cancel, Nat.reduceMul, Nat.reduceSub]
      refine zC.of0 (zX0_corners (hQ.fr (cqF.few hF))) (by omega) (Nat.zero_le _) (Nat.zero_le _) ?_
      rintro _ _ ⟨rfl, rfl⟩
      refine sX0_round_61 _ _ _ _ _ ?_
      simp (disch := omega) only [oBin, oIfc, oIst, oPush, hsh, List.getElem?_cons_zero, List.getElem?_cons_succ, List.set_cons_zero, List.set_cons_succ, List.drop_succ_cons, List.drop_zero, List.take_succ_cons, List.take_zero, List.length_cons, List.length_nil, List.reverse_cons, List.reverse_nil, List.nil_append, List.cons_append, Option.toList_some, Option.toList_none, va_rf_s, true_and, and_true, true_implies, false_implies, not_true_eq_false, not_false_eq_true, Nat.reduceAdd, Nat.reduceLeDiff, Nat.le_add_left, Nat.zero_le, Nat.le_refl, znew, true_or, or_true, b01_t, b01_f, b01_ok, bool_ft, vp_b01, vp_b0, vp_b1, b01_eq0, b01_eq1, implies_true, nI_add, nI_clamp, zi_in, zi_le_t, zi_le_f, zi_lt_t, zi_lt_f, zi_eq_t, zi_eq_f, nI_leI, nI_ltI, nI_eq, z_in, pk_mul, zu_same, zu_rw, zu_ix, zi_ne0, zi_sub, zi_m1, Nat.add_sub_cancel, Nat.reduceMul, Nat.reduceSub]
      exact inner 0 (by omega) S' hF hG (fun j hj => absurd hj (by omega))
  -- the goal
  have loop : ∀ y, y ≤ tnc t → zW V YX0_round 18 [some (.ref c), some (.int (setF p y)), some (.int (nI 1000000)), some (.int (nI y)), none, none] [] (z, h, S, L) 0 0 := by
    refine z_down ?_ (fun y hy ih => ?_)
    · refine sX0_round_18 _ _ _ _ _ ?_
      simp (disch := omega) only [oAld, oCV, oIld, hB.k, List.getElem?_cons_zero, List.getElem?_cons_succ, List.set_cons_zero, List.set_cons_succ, List.drop_succ_cons, List.drop_zero, List.take_succ_cons, List.take_zero, List.length_cons, List.length_nil, List.reverse_cons, List.reverse_nil, List.nil_append, List.cons_append, Option.toList_some, Option.toList_none, va_rf_s, true_and, and_true, true_implies, false_implies, not_true_eq_false, not_false_eq_true, Nat.reduceAdd, Nat.reduceLeDiff, Nat.le_add_left, Nat.zero_le, Nat.le_refl, znew, true_or, or_true, b01_t, b01_f, b01_ok, bool_ft, vp_b01, vp_b0, vp_b1, b01_eq0, b01_eq1, implies_true, nI_add, nI_clamp, zi_in, zi_le_t, zi_le_f, zi_lt_t, zi_lt_f, zi_eq_t, zi_eq_f, nI_leI, nI_ltI, nI_eq, z_in, pk_mul, zu_same, zu_rw, zu_ix, zi_ne0, zi_sub, zi_m1, Nat.add_sub_cancel, Nat.reduceMul, Nat.reduceSub]
      refine zC.of0 (zX0_corners hQ) (by omega) (Nat.zero_le _) (Nat.zero_le _) ?_
      rintro _ _ ⟨rfl, rfl⟩
      refine sX0_round_23 _ _ _ _ _ ?_
      simp (disch := omega) only [oAld, oCV, oGR, oIfc, oIld, oIst, oPush, hB.k, hB.r7, hW.k, List.getElem?_cons_zero, List.getElem?_cons_succ, List.set_cons_zero, List.set_cons_succ, List.drop_succ_cons, List.drop_zero, List.take_succ_cons, List.take_zero, List.length_cons, List.length_nil, List.reverse_cons, List.reverse_nil, List.nil_append, List.cons_append, Option.toList_some, Option.toList_none, va_rf_s, true_and, and_true, true_implies, false_implies, not_true_eq_false, not_false_eq_true, Nat.reduceAdd, Nat.reduceLeDiff, Nat.le_add_left, Nat.zero_le, Nat.le_refl, znew, true_or, or_true, b01_t, b01_f, b01_ok, bool_ft, vp_b01, vp_b0, vp_b1, b01_eq0, b01_eq1, implies_true, nI_add, nI_clamp, zi_in, zi_le_t, zi_le_f, zi_lt_t, zi_lt_f, zi_eq_t, zi_eq_f, nI_leI, nI_ltI, nI_eq, z_in, pk_mul, zu_same, zu_rw, zu_ix, zi_ne0, zi_sub, zi_m1, Nat.add_sub_cancel, Nat.reduceMul, Nat.reduceSub]
      rw [setF_N p (by omega), ← hnp]
      exact fill 0 (Nat.zero_le _) S _ (fun _ _ => rfl) (fun m hm => absurd hm (by omega))
    · have hpy : p y = !decide (whoR t T (nI y) = nI 0) := by rw [← hp]
      refine sX0_round_18 _ _ _ _ _ ?_
      simp (disch := omega) only [oAld, oCV, oIld, hB.k, List.getElem?_cons_zero, List.getElem?_cons_succ, List.set_cons_zero, List.set_cons_succ, List.drop_succ_cons, List.drop_zero, List.take_succ_cons, List.take_zero, List.length_cons, List.length_nil, List.reverse_cons, List.reverse_nil, List.nil_append, List.cons_append, Option.toList_some, Option.toList_none, va_rf_s, true_and, and_true, true_implies, false_implies, not_true_eq_false, not_false_eq_true, Nat.reduceAdd, Nat.reduceLeDiff, Nat.le_add_left, Nat.zero_le, Nat.le_refl, znew, true_or, or_true, b01_t, b01_f, b01_ok, bool_ft, vp_b01, vp_b0, vp_b1, b01_eq0, b01_eq1, implies_true, nI_add, nI_clamp, zi_in, zi_le_t, zi_le_f, zi_lt_t, zi_lt_f, zi_eq_t, zi_eq_f, nI_leI, nI_ltI, nI_eq, z_in, pk_mul, zu_same, zu_rw, zu_ix, zi_ne0, zi_sub, zi_m1, Nat.add_sub_cancel, Nat.reduceMul, Nat.reduceSub]
      refine zC.of0 (zX0_corners hQ) (by omega) (Nat.zero_le _) (Nat.zero_le _) ?_
      rintro _ _ ⟨rfl, rfl⟩
      refine sX0_round_23 _ _ _ _ _ ?_
      simp (disch := omega) only [oAld, oCV, oGR, oIfc, oIld, oIst, oPush, hB.k, hB.r7, hW.k, List.getElem?_cons_zero, List.getElem?_cons_succ, List.set_cons_zero, List.set_cons_succ, List.drop_succ_cons, List.drop_zero, List.take_succ_cons, List.take_zero, List.length_cons, List.length_nil, List.reverse_cons, List.reverse_nil, List.nil_append, List.cons_append, Option.toList_some, Option.toList_none, va_rf_s, true_and, and_true, true_implies, false_implies, not_true_eq_false, not_false_eq_true, Nat.reduceAdd, Nat.reduceLeDiff, Nat.le_add_left, Nat.zero_le, Nat.le_refl, znew, true_or, or_true, b01_t, b01_f, b01_ok, bool_ft, vp_b01, vp_b0, vp_b1, b01_eq0, b01_eq1, implies_true, nI_add, nI_clamp, zi_in, zi_le_t, zi_le_f, zi_lt_t, zi_lt_f, zi_eq_t, zi_eq_f, nI_leI, nI_ltI, nI_eq, z_in, pk_mul, zu_same, zu_rw, zu_ix, zi_ne0, zi_sub, zi_m1, Nat.add_sub_cancel, Nat.reduceMul, Nat.reduceSub]
      refine zC.of0 (zX5_who hW hT h6 hI.2.2.1 (nI_nm1 (by omega))) (by omega) (Nat.zero_le _) (Nat.zero_le _) ?_
      rintro _ _ ⟨rfl, rfl⟩
      by_cases h0 : whoR t T (nI y) = nI 0
      · rw [setF_f (by rw [hpy, h0]; decide)] at ih
        rw [h0]
        refine sX0_round_35 _ _ _ _ _ ?_
        simp (disch := omega) only [oBin, oIf, oIld, oInc, oIst, oNop, oPush, i_or0, List.getElem?_cons_zero, List.getElem?_cons_succ, List.set_cons_zero, List.set_cons_succ, List.drop_succ_cons, List.drop_zero, List.take_succ_cons, List.take_zero, List.length_cons, List.length_nil, List.reverse_cons, List.reverse_nil, List.nil_append, List.cons_append, Option.toList_some, Option.toList_none, va_rf_s, true_and, and_true, true_implies, false_implies, not_true_eq_false, not_false_eq_true, Nat.reduceAdd, Nat.reduceLeDiff, Nat.le_add_left, Nat.zero_le, Nat.le_refl, znew, true_or, or_true, b01_t, b01_f, b01_ok, bool_ft, vp_b01, vp_b0, vp_b1, b01_eq0, b01_eq1, implies_true, nI_add, nI_clamp, zi_in, zi_le_t, zi_le_f, zi_lt_t, zi_lt_f, zi_eq_t, zi_eq_f, nI_leI, nI_ltI, nI_eq, z_in, pk_mul, zu_same, zu_rw, zu_ix, zi_ne0, zi_sub, zi_m1, Nat.add_sub_cancel, Nat.reduceMul, Nat.reduceSub]
        exact ih
      · have h0' := eq_false h0
        rw [setF_t (by rw [hpy]; simp [h0])] at ih
        refine sX0_round_35 _ _ _ _ _ ?_
        simp (disch := omega) only [oBin, oIf, oIld, oInc, oIst, oNop, oPush, h0', hbit, List.getElem?_cons_zero, List.getElem?_cons_succ, List.set_cons_zero, List.set_cons_succ, List.drop_succ_cons, List.drop_zero, List.take_succ_cons, List.take_zero, List.length_cons, List.length_nil, List.reverse_cons, List.reverse_nil, List.nil_append, List.cons_append, Option.toList_some, Option.toList_none, va_rf_s, true_and, and_true, true_implies, false_implies, not_true_eq_false, not_false_eq_true, Nat.reduceAdd, Nat.reduceLeDiff, Nat.le_add_left, Nat.zero_le, Nat.le_refl, znew, true_or, or_true, b01_t, b01_f, b01_ok, bool_ft, vp_b01, vp_b0, vp_b1, b01_eq0, b01_eq1, implies_true, nI_add, nI_clamp, zi_in, zi_le_t, zi_le_f, zi_lt_t, zi_lt_f, zi_eq_t, zi_eq_f, nI_leI, nI_ltI, nI_eq, z_in, pk_mul, zu_same, zu_rw, zu_ix, zi_ne0, zi_sub, zi_m1, Nat.add_sub_cancel, Nat.reduceMul, Nat.reduceSub]
        exact ih
  refine sX0_round_4 _ _ _ _ _ ?_
  simp (disch := omega) only [oIf, oIst, oPush, oRI, mill, List.getElem?_cons_zero, List.getElem?_cons_succ, List.set_cons_zero, List.set_cons_succ, List.drop_succ_cons, List.drop_zero, List.take_succ_cons, List.take_zero, List.length_cons, List.length_nil, List.reverse_cons, List.reverse_nil, List.nil_append, List.cons_append, Option.toList_some, Option.toList_none, va_rf_s, true_and, and_true, true_implies, false_implies, not_true_eq_false, not_false_eq_true, Nat.reduceAdd, Nat.reduceLeDiff, Nat.le_add_left, Nat.zero_le, Nat.le_refl, znew, true_or, or_true, b01_t, b01_f, b01_ok, bool_ft, vp_b01, vp_b0, vp_b1, b01_eq0, b01_eq1, implies_true, nI_add, nI_clamp, zi_in, zi_le_t, zi_le_f, zi_lt_t, zi_lt_f, zi_eq_t, zi_eq_f, nI_leI, nI_ltI, nI_eq, z_in, pk_mul, zu_same, zu_rw, zu_ix, zi_ne0, zi_sub, zi_m1, Nat.add_sub_cancel, Nat.reduceMul, Nat.reduceSub]
  exact loop 0 (by omega)
end DG
