/-! the model: what to say -/
def glT (t : ZT) (R : Nat → Int32) (y w : Nat) : Int32 := glowsF (tag t) (tte t) (tlw t) R y w
def weT (t : ZT) (R : Nat → Int32) (y w : Nat) : Int32 := wearsF (tag t) (tte t) (tlw t) R y w
def gbT (t : ZT) (R : Nat → Int32) (y w : Nat) : Int32 := withinF (R (6 + y) + glT t R y w) (nI 0) (nI 999)
def firstF (p : Nat → Bool) : Nat → Option Nat
  | 0 => none
  | n + 1 => match firstF p n with
    | some k => some k
    | none => if p n = true then some n else none
theorem firstF_lt {p : Nat → Bool} : ∀ {n k}, firstF p n = some k → k < n ∧ p k = true
  | n + 1, k, h => by
    rw [firstF] at h
    cases ha : firstF p n with
    | some c =>
      rw [ha] at h; simp at h; subst h
      have := firstF_lt ha
      exact ⟨by omega, this.2⟩
    | none =>
      rw [ha] at h
      by_cases hp : p n = true
      · simp [hp] at h; subst h; exact ⟨by omega, hp⟩
      · simp [hp] at h
theorem firstF_some {p : Nat → Bool} {n k : Nat} (h : firstF p n = some k) : ∀ m, n ≤ m → firstF p m = some k := by
  intro m hm
  induction m with
  | zero => obtain rfl : n = 0 := by omega
            exact h
  | succ m ih =>
    by_cases he : n = m + 1
    · subst he; exact h
    · rw [firstF, ih (by omega)]
def tellingR (t : ZT) (T : Nat → Int32) (y what : Int32) : Int32 := if okI y (tny t) = true ∧ okI what 2 = true then (if T (12 + y.toNatClampNeg) = nI 0 then (match amax (gbT t T y.toNatClampNeg) (tnw t) with
  | none => -2
  | some w => if what = nI 0 then nI w else gbT t T y.toNatClampNeg w) else -2) else -1
def outF (T : Nat → Int32) : Nat → Bool := fun y => decide (T (12 + y) = nI 0)
def keepF (t : ZT) (T : Nat → Int32) (p w : Nat) : Int32 := T (36 + w) - weT t T p w
def keepR (t : ZT) (T : Nat → Int32) : Int32 := match firstF (outF T) (tny t) with
  | none => -2
  | some p => oN (amax (keepF t T p) (tnw t))
abbrev zAc : Type := Option (Nat × Int32)
def ac1 (a : zAc) : Int32 := match a with
  | none => -2
  | some q => nI q.1
def ac2 (a : zAc) : Int32 := match a with
  | none => -2
  | some q => q.2
def minS (a : zAc) (k : Nat) (v : Int32) : zAc := match a with
  | none => some (k, v)
  | some q => if v < q.2 then some (k, v) else some q
def acB (a : zAc) : Prop := ∀ k v, a = some (k, v) → k < 1000
theorem acB.min {a : zAc} {k : Nat} {v : Int32} (h : acB a) (hk : k < 1000) : acB (minS a k v) := by
  intro k' v' he
  cases a with
  | none => simp [minS] at he; omega
  | some q =>
    unfold minS at he
    by_cases hc : v < q.2
    · simp [hc] at he; omega
    · simp [hc] at he; exact h k' v' (by rw [he])
def absF (v : Int32) : Int32 := if nI 0 ≤ v then v else -v
def twV (t : ZT) (T : Nat → Int32) (w o : Nat) : Int32 := sumI (fun y => if T (12 + y) = nI 0 then absF (glT t T y w - glT t T y o) else nI 0) (tny t)
def twI (t : ZT) (T : Nat → Int32) (w : Nat) : Nat → zAc → zAc
  | 0, a => a
  | k + 1, a => minS (twI t T w k a) (10 * w + (w + 1 + k)) (twV t T w (w + 1 + k))
def twO (t : ZT) (T : Nat → Int32) : Nat → zAc
  | 0 => none
  | w + 1 => twI t T w (tnw t - (w + 1)) (twO t T w)
theorem twI_B {t : ZT} {T : Nat → Int32} {w : Nat} (hw : w < 10) : ∀ {k a}, k ≤ 10 → acB a → acB (twI t T w k a)
  | 0, a, _, h => h
  | k + 1, a, hk, h => (twI_B hw (by omega) h).min (by omega)
theorem twO_B {t : ZT} {T : Nat → Int32} (hnw : tnw t ≤ 5) : ∀ {w}, w ≤ 5 → acB (twO t T w)
  | 0, _ => fun k v h => by cases h
  | w + 1, hw => twI_B (by omega) (by omega) (twO_B hnw (by omega))
def twinsR (t : ZT) (T : Nat → Int32) (what : Int32) : Int32 := if okI what 2 = true then (if what = nI 0 then ac1 (twO t T (tnw t)) else ac2 (twO t T (tnw t))) else -1
theorem i_add0 (x : Int32) : x + nI 0 = x := by
  show x + (0 : Int32) = x
  first | exact Int32.add_zero x | simp
section MM
variable {l : Launch} {E : zE} {b z : Nat} {h : Nat → Option zSh} {S : Nat → Nat → Int32} {L : Nat → Nat → Int64} {lv : Nat} {t : ZT} {T R : Nat → Int32}
theorem zG_glows (hM : isM h b) (hX : mX b S lv t) (hr : S (b + 37) = R) {y w : Nat} (hy : y < tny t) (hw : w < 5) :
    zM l E 2 YX10_glowsOf [.ref b, .int (nI y), .int (nI w)] (z, h, S, L) 0 0 (fun r X => ∃ S', X = (z, h, S', L) ∧ zfr [34, 35] [52] b S S' ∧ r = some (.int (glT t R y w))) (fun _ _ => False) := by
  have := zX10_glowsOf (l := l) (E := E) (z := z) (L := L) hM hX.1 hX.2.2.1 hX.2.2.2.1 hy hw
  rw [hr] at this; exact this
theorem zG_wears (hM : isM h b) (hX : mX b S lv t) (hr : S (b + 37) = R) {y w : Nat} (hy : y < tny t) (hw : w < 5) :
    zM l E 2 YX10_wearsOf [.ref b, .int (nI y), .int (nI w)] (z, h, S, L) 0 0 (fun r X => ∃ S', X = (z, h, S', L) ∧ zfr [34, 35] [52] b S S' ∧ r = some (.int (weT t R y w))) (fun _ _ => False) := by
  have := zX10_wearsOf (l := l) (E := E) (z := z) (L := L) hM hX.1 hX.2.2.1 hX.2.2.2.1 hy hw
  rw [hr] at this; exact this
theorem zX10_glowBy (hM : isM h b) (hX : mX b S lv t) (hr : S (b + 37) = R) {y w : Nat} (hy : y < tny t) (hw : w < 5) :
    zM l E 3 YX10_glowBy [.ref b, .int (nI y), .int (nI w)] (z, h, S, L) 0 0 (fun r X => ∃ S', X = (z, h, S', L) ∧ zfr [34, 35] [52] b S S' ∧ r = some (.int (gbT t R y w))) (fun _ _ => False) := by
  have hny6 : tny t ≤ 6 := hX.1.2.2.2.1.2
  refine zM.go rfl rfl (Nat.le_of_ble_eq_true rfl) (ls := [some (.ref b), some (.int (nI y)), some (.int (nI w))]) rfl ?_
  intro V hVl hVE hVd hVc hVs hVQ hVX
  refine sX10_glowBy_0 _ _ _ _ _ ?_
  simp (disch := omega) only [oAld, oAld1, oBin, oCV, oGR, oIld, oPush, hM.1, hM.r54, hM.t54, hM.n54, hr, List.getElem?_cons_zero, List.getElem?_cons_succ, List.set_cons_zero, List.set_cons_succ, List.drop_succ_cons, List.drop_zero, List.take_succ_cons, List.take_zero, List.length_cons, List.length_nil, List.reverse_cons, List.reverse_nil, List.nil_append, List.cons_append, Option.toList_some, Option.toList_none, va_rf_s, true_and, and_true, true_implies, false_implies, not_true_eq_false, not_false_eq_true, Nat.reduceAdd, Nat.reduceLeDiff, Nat.le_add_left, Nat.zero_le, Nat.le_refl, znew, true_or, or_true, b01_t, b01_f, b01_ok, bool_ft, vp_b01, vp_b0, vp_b1, b01_eq0, b01_eq1, implies_true, nI_add, nI_clamp, zi_in, zi_le_t, zi_le_f, zi_lt_t, zi_lt_f, zi_eq_t, zi_eq_f, nI_leI, nI_ltI, nI_eq, z_in, pk_mul, zu_same, zu_rw, zu_ix, zi_ne0, zi_sub, zi_m1, Nat.add_sub_cancel, Nat.reduceMul, Nat.reduceSub]
  refine zC.of0 (zG_glows hM hX hr hy hw) (by omega) (Nat.zero_le _) (Nat.zero_le _) ?_
  rintro _ _ ⟨S1, rfl, hf1, rfl⟩
  refine sX10_glowBy_15 _ _ _ _ _ ?_
  simp (disch := omega) only [oBin, oCS, oPush, List.getElem?_cons_zero, List.getElem?_cons_succ, List.set_cons_zero, List.set_cons_succ, List.drop_succ_cons, List.drop_zero, List.take_succ_cons, List.take_zero, List.length_cons, List.length_nil, List.reverse_cons, List.reverse_nil, List.nil_append, List.cons_append, Option.toList_some, Option.toList_none, va_rf_s, true_and, and_true, true_implies, false_implies, not_true_eq_false, not_false_eq_true, Nat.reduceAdd, Nat.reduceLeDiff, Nat.le_add_left, Nat.zero_le, Nat.le_refl, znew, true_or, or_true, b01_t, b01_f, b01_ok, bool_ft, vp_b01, vp_b0, vp_b1, b01_eq0, b01_eq1, implies_true, nI_add, nI_clamp, zi_in, zi_le_t, zi_le_f, zi_lt_t, zi_lt_f, zi_eq_t, zi_eq_f, nI_leI, nI_ltI, nI_eq, z_in, pk_mul, zu_same, zu_rw, zu_ix, zi_ne0, zi_sub, zi_m1, Nat.add_sub_cancel, Nat.reduceMul, Nat.reduceSub]
  refine zC.of0 (zX10_within _ _ _ _) (by omega) (Nat.zero_le _) (Nat.zero_le _) ?_
  rintro _ _ ⟨rfl, rfl⟩
  refine sX10_glowBy_23 _ _ _ _ _ ?_
  simp (disch := omega) only [oRI, List.getElem?_cons_zero, List.getElem?_cons_succ, List.set_cons_zero, List.set_cons_succ, List.drop_succ_cons, List.drop_zero, List.take_succ_cons, List.take_zero, List.length_cons, List.length_nil, List.reverse_cons, List.reverse_nil, List.nil_append, List.cons_append, Option.toList_some, Option.toList_none, va_rf_s, true_and, and_true, true_implies, false_implies, not_true_eq_false, not_false_eq_true, Nat.reduceAdd, Nat.reduceLeDiff, Nat.le_add_left, Nat.zero_le, Nat.le_refl, znew, true_or, or_true, b01_t, b01_f, b01_ok, bool_ft, vp_b01, vp_b0, vp_b1, b01_eq0, b01_eq1, implies_true, nI_add, nI_clamp, zi_in, zi_le_t, zi_le_f, zi_lt_t, zi_lt_f, zi_eq_t, zi_eq_f, nI_leI, nI_ltI, nI_eq, z_in, pk_mul, zu_same, zu_rw, zu_ix, zi_ne0, zi_sub, zi_m1, Nat.add_sub_cancel, Nat.reduceMul, Nat.reduceSub]
  exact hVQ _ _ ⟨S1, rfl, hf1, rfl⟩
theorem zX10_telling (hM : isM h b) (hQ : mQ b S lv t T) (y what : Int32) :
    zM l E 4 YX10_telling [.ref b, .int y, .int what] (z, h, S, L) 0 0 (fun r X => ∃ S', X = (z, h, S', L) ∧ mE b S S' ∧ r = some (.int (tellingR t T y what))) (fun _ _ => False) := by
  obtain ⟨hX, hZ, hN⟩ := id hQ
  have hny6 : tny t ≤ 6 := hX.1.2.2.2.1.2
  refine zM.go rfl rfl (Nat.le_of_ble_eq_true rfl) (ls := [some (.ref b), some (.int y), some (.int what), none, none]) rfl ?_
  intro V hVl hVE hVd hVc hVs hVQ hVX
  refine sX10_telling_0 _ _ _ _ _ ?_
  simp (disch := omega) only [oAld, oCV, oIld, hM.1, List.getElem?_cons_zero, List.getElem?_cons_succ, List.set_cons_zero, List.set_cons_succ, List.drop_succ_cons, List.drop_zero, List.take_succ_cons, List.take_zero, List.length_cons, List.length_nil, List.reverse_cons, List.reverse_nil, List.nil_append, List.cons_append, Option.toList_some, Option.toList_none, va_rf_s, true_and, and_true, true_implies, false_implies, not_true_eq_false, not_false_eq_true, Nat.reduceAdd, Nat.reduceLeDiff, Nat.le_add_left, Nat.zero_le, Nat.le_refl, znew, true_or, or_true, b01_t, b01_f, b01_ok, bool_ft, vp_b01, vp_b0, vp_b1, b01_eq0, b01_eq1, implies_true, nI_add, nI_clamp, zi_in, zi_le_t, zi_le_f, zi_lt_t, zi_lt_f, zi_eq_t, zi_eq_f, nI_leI, nI_ltI, nI_eq, z_in, pk_mul, zu_same, zu_rw, zu_ix, zi_ne0, zi_sub, zi_m1, Nat.add_sub_cancel, Nat.reduceMul, Nat.reduceSub]
  refine zC.of0 (zX10_isYoung hM hX.1 _) (by omega) (Nat.zero_le _) (Nat.zero_le _) ?_
  rintro _ _ ⟨rfl, rfl⟩
  refine sX10_telling_5 _ _ _ _ _ ?_
  simp (disch := omega) only [oCS, oIf, oIld, oPush, oRI, List.getElem?_cons_zero, List.getElem?_cons_succ, List.set_cons_zero, List.set_cons_succ, List.drop_succ_cons, List.drop_zero, List.take_succ_cons, List.take_zero, List.length_cons, List.length_nil, List.reverse_cons, List.reverse_nil, List.nil_append, List.cons_append, Option.toList_some, Option.toList_none, va_rf_s, true_and, and_true, true_implies, false_implies, not_true_eq_false, not_false_eq_true, Nat.reduceAdd, Nat.reduceLeDiff, Nat.le_add_left, Nat.zero_le, Nat.le_refl, znew, true_or, or_true, b01_t, b01_f, b01_ok, bool_ft, vp_b01, vp_b0, vp_b1, b01_eq0, b01_eq1, implies_true, nI_add, nI_clamp, zi_in, zi_le_t, zi_le_f, zi_lt_t, zi_lt_f, zi_eq_t, zi_eq_f, nI_leI, nI_ltI, nI_eq, z_in, pk_mul, zu_same, zu_rw, zu_ix, zi_ne0, zi_sub, zi_m1, Nat.add_sub_cancel, Nat.reduceMul, Nat.reduceSub]
  refine ⟨fun hok => hVQ _ _ ⟨S, rfl, mE.rf hZ, ?_⟩, fun hok => ?_⟩
  · simp [tellingR, hok]
  have hok : okI y (tny t) = true := by simpa using hok
  obtain ⟨j, hj, rfl⟩ := (okI_iff (by omega)).mp hok
  refine zC.of0 (zX10_in _ _ _ _) (by omega) (Nat.zero_le _) (Nat.zero_le _) ?_
  rintro _ _ ⟨rfl, rfl⟩
  rw [okI_dec2 (by omega)]
  cases hw : okI what (1 + 1) with
  | false =>
    refine sX10_telling_14 _ _ _ _ _ ?_
    simp (disch := omega) only [oAld, oCV, oIf, oIld, oPush, oRI, hM.1, List.getElem?_cons_zero, List.getElem?_cons_succ, List.set_cons_zero, List.set_cons_succ, List.drop_succ_cons, List.drop_zero, List.take_succ_cons, List.take_zero, List.length_cons, List.length_nil, List.reverse_cons, List.reverse_nil, List.nil_append, List.cons_append, Option.toList_some, Option.toList_none, va_rf_s, true_and, and_true, true_implies, false_implies, not_true_eq_false, not_false_eq_true, Nat.reduceAdd, Nat.reduceLeDiff, Nat.le_add_left, Nat.zero_le, Nat.le_refl, znew, true_or, or_true, b01_t, b01_f, b01_ok, bool_ft, vp_b01, vp_b0, vp_b1, b01_eq0, b01_eq1, implies_true, nI_add, nI_clamp, zi_in, zi_le_t, zi_le_f, zi_lt_t, zi_lt_f, zi_eq_t, zi_eq_f, nI_leI, nI_ltI, nI_eq, z_in, pk_mul, zu_same, zu_rw, zu_ix, zi_ne0, zi_sub, zi_m1, Nat.add_sub_cancel, Nat.reduceMul, Nat.reduceSub]
    exact hVQ _ _ ⟨S, rfl, mE.rf hZ, by simp [tellingR, hw]⟩
  | true =>
    refine sX10_telling_14 _ _ _ _ _ ?_
    simp (disch := omega) only [oAld, oCV, oIf, oIld, oPush, oRI, hM.1, List.getElem?_cons_zero, List.getElem?_cons_succ, List.set_cons_zero, List.set_cons_succ, List.drop_succ_cons, List.drop_zero, List.take_succ_cons, List.take_zero, List.length_cons, List.length_nil, List.reverse_cons, List.reverse_nil, List.nil_append, List.cons_append, Option.toList_some, Option.toList_none, va_rf_s, true_and, and_true, true_implies, false_implies, not_true_eq_false, not_false_eq_true, Nat.reduceAdd, Nat.reduceLeDiff, Nat.le_add_left, Nat.zero_le, Nat.le_refl, znew, true_or, or_true, b01_t, b01_f, b01_ok, bool_ft, vp_b01, vp_b0, vp_b1, b01_eq0, b01_eq1, implies_true, nI_add, nI_clamp, zi_in, zi_le_t, zi_le_f, zi_lt_t, zi_lt_f, zi_eq_t, zi_eq_f, nI_leI, nI_ltI, nI_eq, z_in, pk_mul, zu_same, zu_rw, zu_ix, zi_ne0, zi_sub, zi_m1, Nat.add_sub_cancel, Nat.reduceMul, Nat.reduceSub]
    refine zC.of0 (zX10_isOut hM hX.1 _) (by omega) (Nat.zero_le _) (Nat.zero_le _) ?_
    rintro _ _ ⟨rfl, rfl⟩
    rw [hN, nI_clamp (by omega), hok, Bool.true_and]
    refine sX10_telling_24 _ _ _ _ _ ?_
    simp (disch := omega) only [oAld, oCV, oIf, oPush, oRI, hM.1, List.getElem?_cons_zero, List.getElem?_cons_succ, List.set_cons_zero, List.set_cons_succ, List.drop_succ_cons, List.drop_zero, List.take_succ_cons, List.take_zero, List.length_cons, List.length_nil, List.reverse_cons, List.reverse_nil, List.nil_append, List.cons_append, Option.toList_some, Option.toList_none, va_rf_s, true_and, and_true, true_implies, false_implies, not_true_eq_false, not_false_eq_true, Nat.reduceAdd, Nat.reduceLeDiff, Nat.le_add_left, Nat.zero_le, Nat.le_refl, znew, true_or, or_true, b01_t, b01_f, b01_ok, bool_ft, vp_b01, vp_b0, vp_b1, b01_eq0, b01_eq1, implies_true, nI_add, nI_clamp, zi_in, zi_le_t, zi_le_f, zi_lt_t, zi_lt_f, zi_eq_t, zi_eq_f, nI_leI, nI_ltI, nI_eq, z_in, pk_mul, zu_same, zu_rw, zu_ix, zi_ne0, zi_sub, zi_m1, Nat.add_sub_cancel, Nat.reduceMul, Nat.reduceSub]
    refine ⟨fun h0 => hVQ _ _ ⟨S, rfl, mE.rf hZ, ?_⟩, fun h0 => ?_⟩
    · rw [decide_eq_false_iff_not] at h0
      rw [tellingR, if_pos ⟨hok, hw⟩, nI_clamp (by omega), if_neg h0]
    have h0 : T (12 + j) = nI 0 := by simpa using h0
    refine zC.of0 (zG_copies hM hQ) (by omega) (Nat.zero_le _) (Nat.zero_le _) ?_
    rintro _ _ ⟨rfl, S1, rfl, hE, hX1, hr, -, -, -⟩
    obtain ⟨⟨hl, hlv⟩, -, -, -, ⟨hnw, hnw5⟩⟩ := id hX1.1
    generalize hf : gbT t T j = f
    have hf' : ∀ c, gbT t T j c = f c := fun c => by rw [← hf]
    have loop : ∀ y, y ≤ tnw t → ∀ S', zfr [34, 35] [52] b S1 S' → zW V YX10_telling 40 [some (.ref b), some (.int (nI j)), some (.int what), some (.int (oN (amax f y))), some (.int (nI y))] [] (z, h, S', L) 0 0 := by
      refine z_down ?_ (fun y hy ih => ?_)
      · intro S' hf1
        have hX' := hX1.fr hf1 rfl rfl
        have e1 := (hf1.f (j := 18) rfl).trans hl
        have e2 : S' (b + 19) lv = nI (tnw t) := by rw [hf1.at (o := 19) rfl rfl]; exact hnw
        cases ha : amax f (tnw t) with
        | none =>
          rw [show oN none = -2 from rfl]
          refine sX10_telling_40 _ _ _ _ _ ?_
          simp (disch := omega) only [oAld, oAld1, oCV, oGI, oGR, oIf, oIfc, oIld, oInc, oIst, oNop, hM.1, hM.r32, hM.t32, hM.n32, e1, e2, m2lt, List.getElem?_cons_zero, List.getElem?_cons_succ, List.set_cons_zero, List.set_cons_succ, List.drop_succ_cons, List.drop_zero, List.take_succ_cons, List.take_zero, List.length_cons, List.length_nil, List.reverse_cons, List.reverse_nil, List.nil_append, List.cons_append, Option.toList_some, Option.toList_none, va_rf_s, true_and, and_true, true_implies, false_implies, not_true_eq_false, not_false_eq_true, Nat.reduceAdd, Nat.reduceLeDiff, Nat.le_add_left, Nat.zero_le, Nat.le_refl, znew, true_or, or_true, b01_t, b01_f, b01_ok, bool_ft, vp_b01, vp_b0, vp_b1, b01_eq0, b01_eq1, implies_true, nI_add, nI_clamp, zi_in, zi_le_t, zi_le_f, zi_lt_t, zi_lt_f, zi_eq_t, zi_eq_f, nI_leI, nI_ltI, nI_eq, z_in, pk_mul, zu_same, zu_rw, zu_ix, zi_ne0, zi_sub, zi_m1, Nat.add_sub_cancel, Nat.reduceMul, Nat.reduceSub]
          refine sX10_telling_101 _ _ _ _ _ ?_
          simp (disch := omega) only [oRI, List.getElem?_cons_zero, List.getElem?_cons_succ, List.set_cons_zero, List.set_cons_succ, List.drop_succ_cons, List.drop_zero, List.take_succ_cons, List.take_zero, List.length_cons, List.length_nil, List.reverse_cons, List.reverse_nil, List.nil_append, List.cons_append, Option.toList_some, Option.toList_none, va_rf_s, true_and, and_true, true_implies, false_implies, not_true_eq_false, not_false_eq_true, Nat.reduceAdd, Nat.reduceLeDiff, Nat.le_add_left, Nat.zero_le, Nat.le_refl, znew, true_or, or_true, b01_t, b01_f, b01_ok, bool_ft, vp_b01, vp_b0, vp_b1, b01_eq0, b01_eq1, implies_true, nI_add, nI_clamp, zi_in, zi_le_t, zi_le_f, zi_lt_t, zi_lt_f, zi_eq_t, zi_eq_f, nI_leI, nI_ltI, nI_eq, z_in, pk_mul, zu_same, zu_rw, zu_ix, zi_ne0, zi_sub, zi_m1, Nat.add_sub_cancel, Nat.reduceMul, Nat.reduceSub]
          exact hVQ _ _ ⟨S', rfl, hE.q hf1 rfl rfl rfl, by rw [tellingR, if_pos ⟨hok, hw⟩, nI_clamp (by omega), if_pos h0, hf, ha]⟩
        | some c =>
          have hc := amax_lt ha
          rw [show oN (some c) = nI c from rfl]
          refine sX10_telling_40 _ _ _ _ _ ?_
          simp (disch := omega) only [oAld, oAld1, oCV, oGI, oGR, oIf, oIfc, oIld, oInc, oIst, oNop, hM.1, hM.r32, hM.t32, hM.n32, e1, e2, List.getElem?_cons_zero, List.getElem?_cons_succ, List.set_cons_zero, List.set_cons_succ, List.drop_succ_cons, List.drop_zero, List.take_succ_cons, List.take_zero, List.length_cons, List.length_nil, List.reverse_cons, List.reverse_nil, List.nil_append, List.cons_append, Option.toList_some, Option.toList_none, va_rf_s, true_and, and_true, true_implies, false_implies, not_true_eq_false, not_false_eq_true, Nat.reduceAdd, Nat.reduceLeDiff, Nat.le_add_left, Nat.zero_le, Nat.le_refl, znew, true_or, or_true, b01_t, b01_f, b01_ok, bool_ft, vp_b01, vp_b0, vp_b1, b01_eq0, b01_eq1, implies_true, nI_add, nI_clamp, zi_in, zi_le_t, zi_le_f, zi_lt_t, zi_lt_f, zi_eq_t, zi_eq_f, nI_leI, nI_ltI, nI_eq, z_in, pk_mul, zu_same, zu_rw, zu_ix, zi_ne0, zi_sub, zi_m1, Nat.add_sub_cancel, Nat.reduceMul, Nat.reduceSub]
          refine ⟨fun hz => ?_, fun hz => ?_⟩
          · refine sX10_telling_101 _ _ _ _ _ ?_
            simp (disch := omega) only [oRI, List.getElem?_cons_zero, List.getElem?_cons_succ, List.set_cons_zero, List.set_cons_succ, List.drop_succ_cons, List.drop_zero, List.take_succ_cons, List.take_zero, List.length_cons, List.length_nil, List.reverse_cons, List.reverse_nil, List.nil_append, List.cons_append, Option.toList_some, Option.toList_none, va_rf_s, true_and, and_true, true_implies, false_implies, not_true_eq_false, not_false_eq_true, Nat.reduceAdd, Nat.reduceLeDiff, Nat.le_add_left, Nat.zero_le, Nat.le_refl, znew, true_or, or_true, b01_t, b01_f, b01_ok, bool_ft, vp_b01, vp_b0, vp_b1, b01_eq0, b01_eq1, implies_true, nI_add, nI_clamp, zi_in, zi_le_t, zi_le_f, zi_lt_t, zi_lt_f, zi_eq_t, zi_eq_f, nI_leI, nI_ltI, nI_eq, z_in, pk_mul, zu_same, zu_rw, zu_ix, zi_ne0, zi_sub, zi_m1, Nat.add_sub_cancel, Nat.reduceMul, Nat.reduceSub]
            exact hVQ _ _ ⟨S', rfl, hE.q hf1 rfl rfl rfl, by rw [tellingR, if_pos ⟨hok, hw⟩, nI_clamp (by omega), if_pos h0, hf, ha]; simp only []; rw [if_pos hz]⟩
          · refine zC.of0 (zX10_glowBy hM hX' ((hf1.at (o := 37) rfl rfl).trans hr) hj (show c < 5 by omega)) (by omega) (Nat.zero_le _) (Nat.zero_le _) ?_
            rintro _ _ ⟨S2, rfl, hf2, rfl⟩
            rw [hf']
            refine sX10_telling_101 _ _ _ _ _ ?_
            simp (disch := omega) only [oRI, List.getElem?_cons_zero, List.getElem?_cons_succ, List.set_cons_zero, List.set_cons_succ, List.drop_succ_cons, List.drop_zero, List.take_succ_cons, List.take_zero, List.length_cons, List.length_nil, List.reverse_cons, List.reverse_nil, List.nil_append, List.cons_append, Option.toList_some, Option.toList_none, va_rf_s, true_and, and_true, true_implies, false_implies, not_true_eq_false, not_false_eq_true, Nat.reduceAdd, Nat.reduceLeDiff, Nat.le_add_left, Nat.zero_le, Nat.le_refl, znew, true_or, or_true, b01_t, b01_f, b01_ok, bool_ft, vp_b01, vp_b0, vp_b1, b01_eq0, b01_eq1, implies_true, nI_add, nI_clamp, zi_in, zi_le_t, zi_le_f, zi_lt_t, zi_lt_f, zi_eq_t, zi_eq_f, nI_leI, nI_ltI, nI_eq, z_in, pk_mul, zu_same, zu_rw, zu_ix, zi_ne0, zi_sub, zi_m1, Nat.add_sub_cancel, Nat.reduceMul, Nat.reduceSub]
            exact hVQ _ _ ⟨S2, rfl, hE.q (hf1.tt hf2) rfl rfl rfl, by rw [tellingR, if_pos ⟨hok, hw⟩, nI_clamp (by omega), if_pos h0, hf, ha]; simp only []; rw [if_neg hz]⟩
      · intro S' hf1
        have hX' := hX1.fr hf1 rfl rfl
        have e1 := (hf1.f (j := 18) rfl).trans hl
        have e2 : S' (b + 19) lv = nI (tnw t) := by rw [hf1.at (o := 19) rfl rfl]; exact hnw
        cases ha : amax f y with
        | none =>
          have ih := ih S' hf1
          rw [amax_n ha] at ih
          rw [show oN none = -2 from rfl]
          refine sX10_telling_40 _ _ _ _ _ ?_
          simp (disch := omega) only [oAld, oAld1, oCV, oGI, oGR, oIf, oIfc, oIld, oInc, oIst, oNop, hM.1, hM.r32, hM.t32, hM.n32, e1, e2, m2lt, List.getElem?_cons_zero, List.getElem?_cons_succ, List.set_cons_zero, List.set_cons_succ, List.drop_succ_cons, List.drop_zero, List.take_succ_cons, List.take_zero, List.length_cons, List.length_nil, List.reverse_cons, List.reverse_nil, List.nil_append, List.cons_append, Option.toList_some, Option.toList_none, va_rf_s, true_and, and_true, true_implies, false_implies, not_true_eq_false, not_false_eq_true, Nat.reduceAdd, Nat.reduceLeDiff, Nat.le_add_left, Nat.zero_le, Nat.le_refl, znew, true_or, or_true, b01_t, b01_f, b01_ok, bool_ft, vp_b01, vp_b0, vp_b1, b01_eq0, b01_eq1, implies_true, nI_add, nI_clamp, zi_in, zi_le_t, zi_le_f, zi_lt_t, zi_lt_f, zi_eq_t, zi_eq_f, nI_leI, nI_ltI, nI_eq, z_in, pk_mul, zu_same, zu_rw, zu_ix, zi_ne0, zi_sub, zi_m1, Nat.add_sub_cancel, Nat.reduceMul, Nat.reduceSub]
          exact ih
        | some c =>
          have hc := amax_lt ha
          rw [show oN (some c) = nI c from rfl]
          refine sX10_telling_40 _ _ _ _ _ ?_
          simp (disch := omega) only [oAld, oAld1, oCV, oGI, oGR, oIf, oIfc, oIld, oInc, oIst, oNop, hM.1, hM.r32, hM.t32, hM.n32, e1, e2, List.getElem?_cons_zero, List.getElem?_cons_succ, List.set_cons_zero, List.set_cons_succ, List.drop_succ_cons, List.drop_zero, List.take_succ_cons, List.take_zero, List.length_cons, List.length_nil, List.reverse_cons, List.reverse_nil, List.nil_append, List.cons_append, Option.toList_some, Option.toList_none, va_rf_s, true_and, and_true, true_implies, false_implies, not_true_eq_false, not_false_eq_true, Nat.reduceAdd, Nat.reduceLeDiff, Nat.le_add_left, Nat.zero_le, Nat.le_refl, znew, true_or, or_true, b01_t, b01_f, b01_ok, bool_ft, vp_b01, vp_b0, vp_b1, b01_eq0, b01_eq1, implies_true, nI_add, nI_clamp, zi_in, zi_le_t, zi_le_f, zi_lt_t, zi_lt_f, zi_eq_t, zi_eq_f, nI_leI, nI_ltI, nI_eq, z_in, pk_mul, zu_same, zu_rw, zu_ix, zi_ne0, zi_sub, zi_m1, Nat.add_sub_cancel, Nat.reduceMul, Nat.reduceSub]
          refine zC.of0 (zX10_glowBy hM hX' ((hf1.at (o := 37) rfl rfl).trans hr) hj (show y < 5 by omega)) (by omega) (Nat.zero_le _) (Nat.zero_le _) ?_
          rintro _ _ ⟨S2, rfl, hf2, rfl⟩
          have hf12 := hf1.tt hf2
          rw [hf']
          refine sX10_telling_65 _ _ _ _ _ ?_
          simp (disch := omega) only [oAld, oCV, oIld, hM.1, List.getElem?_cons_zero, List.getElem?_cons_succ, List.set_cons_zero, List.set_cons_succ, List.drop_succ_cons, List.drop_zero, List.take_succ_cons, List.take_zero, List.length_cons, List.length_nil, List.reverse_cons, List.reverse_nil, List.nil_append, List.cons_append, Option.toList_some, Option.toList_none, va_rf_s, true_and, and_true, true_implies, false_implies, not_true_eq_false, not_false_eq_true, Nat.reduceAdd, Nat.reduceLeDiff, Nat.le_add_left, Nat.zero_le, Nat.le_refl, znew, true_or, or_true, b01_t, b01_f, b01_ok, bool_ft, vp_b01, vp_b0, vp_b1, b01_eq0, b01_eq1, implies_true, nI_add, nI_clamp, zi_in, zi_le_t, zi_le_f, zi_lt_t, zi_lt_f, zi_eq_t, zi_eq_f, nI_leI, nI_ltI, nI_eq, z_in, pk_mul, zu_same, zu_rw, zu_ix, zi_ne0, zi_sub, zi_m1, Nat.add_sub_cancel, Nat.reduceMul, Nat.reduceSub]
          refine zC.of0 (zX10_glowBy hM (hX1.fr hf12 rfl rfl) ((hf12.at (o := 37) rfl rfl).trans hr) hj (show c < 5 by omega)) (by omega) (Nat.zero_le _) (Nat.zero_le _) ?_
          rintro _ _ ⟨S3, rfl, hf3, rfl⟩
          rw [hf']
          refine sX10_telling_71 _ _ _ _ _ ?_
          simp (disch := omega) only [oIfc, oIld, oInc, oIst, oNop, List.getElem?_cons_zero, List.getElem?_cons_succ, List.set_cons_zero, List.set_cons_succ, List.drop_succ_cons, List.drop_zero, List.take_succ_cons, List.take_zero, List.length_cons, List.length_nil, List.reverse_cons, List.reverse_nil, List.nil_append, List.cons_append, Option.toList_some, Option.toList_none, va_rf_s, true_and, and_true, true_implies, false_implies, not_true_eq_false, not_false_eq_true, Nat.reduceAdd, Nat.reduceLeDiff, Nat.le_add_left, Nat.zero_le, Nat.le_refl, znew, true_or, or_true, b01_t, b01_f, b01_ok, bool_ft, vp_b01, vp_b0, vp_b1, b01_eq0, b01_eq1, implies_true, nI_add, nI_clamp, zi_in, zi_le_t, zi_le_f, zi_lt_t, zi_lt_f, zi_eq_t, zi_eq_f, nI_leI, nI_ltI, nI_eq, z_in, pk_mul, zu_same, zu_rw, zu_ix, zi_ne0, zi_sub, zi_m1, Nat.add_sub_cancel, Nat.reduceMul, Nat.reduceSub]
          have ih := ih S3 (hf12.tt hf3)
          refine ⟨fun h0 => ?_, fun h0 => ?_⟩
          · rw [amax_f ha (i_nle h0)] at ih; exact ih
          · rw [amax_t ha (i_lt h0)] at ih; exact ih
    refine sX10_telling_34 _ _ _ _ _ ?_
    simp (disch := omega) only [oIst, oPush, List.getElem?_cons_zero, List.getElem?_cons_succ, List.set_cons_zero, List.set_cons_succ, List.drop_succ_cons, List.drop_zero, List.take_succ_cons, List.take_zero, List.length_cons, List.length_nil, List.reverse_cons, List.reverse_nil, List.nil_append, List.cons_append, Option.toList_some, Option.toList_none, va_rf_s, true_and, and_true, true_implies, false_implies, not_true_eq_false, not_false_eq_true, Nat.reduceAdd, Nat.reduceLeDiff, Nat.le_add_left, Nat.zero_le, Nat.le_refl, znew, true_or, or_true, b01_t, b01_f, b01_ok, bool_ft, vp_b01, vp_b0, vp_b1, b01_eq0, b01_eq1, implies_true, nI_add, nI_clamp, zi_in, zi_le_t, zi_le_f, zi_lt_t, zi_lt_f, zi_eq_t, zi_eq_f, nI_leI, nI_ltI, nI_eq, z_in, pk_mul, zu_same, zu_rw, zu_ix, zi_ne0, zi_sub, zi_m1, Nat.add_sub_cancel, Nat.reduceMul, Nat.reduceSub]
    exact loop 0 (by omega) S1 zfr.rf
def oM (o : Option Nat) : Int32 := match o with
  | none => -1
  | some k => nI k
theorem zX10_firstOut (hM : isM h b) (hX : mX b S lv t) (hN : S (b + 36) = T) :
    zM l E 3 YX10_firstOut [.ref b] (z, h, S, L) 0 0 (fun r X => r = some (.int (oM (firstF (outF T) (tny t)))) ∧ X = (z, h, S, L)) (fun _ _ => False) := by
  obtain ⟨⟨hl, hlv⟩, -, -, ⟨hny, hny6⟩, -⟩ := id hX.1
  refine zM.go rfl rfl (Nat.le_of_ble_eq_true rfl) (ls := [some (.ref b), none]) rfl ?_
  intro V hVl hVE hVd hVc hVs hVQ hVX
  have loop : ∀ y, y ≤ tny t → firstF (outF T) y = none → zW V YX10_firstOut 2 [some (.ref b), some (.int (nI y))] [] (z, h, S, L) 0 0 := by
    refine z_down ?_ (fun y hy ih => ?_)
    · intro hn
      refine sX10_firstOut_2 _ _ _ _ _ ?_
      simp (disch := omega) only [oAld, oAld1, oCV, oGI, oGR, oIfc, oIld, oPush, oRI, hM.1, hM.r28, hM.t28, hM.n28, hl, hny, List.getElem?_cons_zero, List.getElem?_cons_succ, List.set_cons_zero, List.set_cons_succ, List.drop_succ_cons, List.drop_zero, List.take_succ_cons, List.take_zero, List.length_cons, List.length_nil, List.reverse_cons, List.reverse_nil, List.nil_append, List.cons_append, Option.toList_some, Option.toList_none, va_rf_s, true_and, and_true, true_implies, false_implies, not_true_eq_false, not_false_eq_true, Nat.reduceAdd, Nat.reduceLeDiff, Nat.le_add_left, Nat.zero_le, Nat.le_refl, znew, true_or, or_true, b01_t, b01_f, b01_ok, bool_ft, vp_b01, vp_b0, vp_b1, b01_eq0, b01_eq1, implies_true, nI_add, nI_clamp, zi_in, zi_le_t, zi_le_f, zi_lt_t, zi_lt_f, zi_eq_t, zi_eq_f, nI_leI, nI_ltI, nI_eq, z_in, pk_mul, zu_same, zu_rw, zu_ix, zi_ne0, zi_sub, zi_m1, Nat.add_sub_cancel, Nat.reduceMul, Nat.reduceSub]
      exact hVQ _ _ ⟨by rw [hn]; rfl, rfl⟩
    · intro hn
      refine sX10_firstOut_2 _ _ _ _ _ ?_
      simp (disch := omega) only [oAld, oAld1, oCV, oGI, oGR, oIfc, oIld, oPush, oRI, hM.1, hM.r28, hM.t28, hM.n28, hl, hny, List.getElem?_cons_zero, List.getElem?_cons_succ, List.set_cons_zero, List.set_cons_succ, List.drop_succ_cons, List.drop_zero, List.take_succ_cons, List.take_zero, List.length_cons, List.length_nil, List.reverse_cons, List.reverse_nil, List.nil_append, List.cons_append, Option.toList_some, Option.toList_none, va_rf_s, true_and, and_true, true_implies, false_implies, not_true_eq_false, not_false_eq_true, Nat.reduceAdd, Nat.reduceLeDiff, Nat.le_add_left, Nat.zero_le, Nat.le_refl, znew, true_or, or_true, b01_t, b01_f, b01_ok, bool_ft, vp_b01, vp_b0, vp_b1, b01_eq0, b01_eq1, implies_true, nI_add, nI_clamp, zi_in, zi_le_t, zi_le_f, zi_lt_t, zi_lt_f, zi_eq_t, zi_eq_f, nI_leI, nI_ltI, nI_eq, z_in, pk_mul, zu_same, zu_rw, zu_ix, zi_ne0, zi_sub, zi_m1, Nat.add_sub_cancel, Nat.reduceMul, Nat.reduceSub]
      refine zC.of0 (zX10_isOut hM hX.1 _) (by omega) (Nat.zero_le _) (Nat.zero_le _) ?_
      rintro _ _ ⟨rfl, rfl⟩
      rw [hN, nI_clamp (by omega), okI_nI (by omega), decide_eq_true hy, Bool.true_and]
      refine sX10_firstOut_20 _ _ _ _ _ ?_
      simp (disch := omega) only [oIf, oIld, oInc, oNop, oRI, List.getElem?_cons_zero, List.getElem?_cons_succ, List.set_cons_zero, List.set_cons_succ, List.drop_succ_cons, List.drop_zero, List.take_succ_cons, List.take_zero, List.length_cons, List.length_nil, List.reverse_cons, List.reverse_nil, List.nil_append, List.cons_append, Option.toList_some, Option.toList_none, va_rf_s, true_and, and_true, true_implies, false_implies, not_true_eq_false, not_false_eq_true, Nat.reduceAdd, Nat.reduceLeDiff, Nat.le_add_left, Nat.zero_le, Nat.le_refl, znew, true_or, or_true, b01_t, b01_f, b01_ok, bool_ft, vp_b01, vp_b0, vp_b1, b01_eq0, b01_eq1, implies_true, nI_add, nI_clamp, zi_in, zi_le_t, zi_le_f, zi_lt_t, zi_lt_f, zi_eq_t, zi_eq_f, nI_leI, nI_ltI, nI_eq, z_in, pk_mul, zu_same, zu_rw, zu_ix, zi_ne0, zi_sub, zi_m1, Nat.add_sub_cancel, Nat.reduceMul, Nat.reduceSub]
      refine ⟨fun h0 => ih ?_, fun h0 => hVQ _ _ ⟨?_, rfl⟩⟩
      · rw [firstF, hn]; simp only []; rw [if_neg (by unfold outF; rw [h0]; decide)]
      · have : firstF (outF T) (y + 1) = some y := by rw [firstF, hn]; simp only []; rw [if_pos (by unfold outF; simpa using h0)]
        rw [firstF_some this _ (by omega)]; rfl
  refine sX10_firstOut_0 _ _ _ _ _ ?_
  simp (disch := omega) only [oIst, oPush, List.getElem?_cons_zero, List.getElem?_cons_succ, List.set_cons_zero, List.set_cons_succ, List.drop_succ_cons, List.drop_zero, List.take_succ_cons, List.take_zero, List.length_cons, List.length_nil, List.reverse_cons, List.reverse_nil, List.nil_append, List.cons_append, Option.toList_some, Option.toList_none, va_rf_s, true_and, and_true, true_implies, false_implies, not_true_eq_false, not_false_eq_true, Nat.reduceAdd, Nat.reduceLeDiff, Nat.le_add_left, Nat.zero_le, Nat.le_refl, znew, true_or, or_true, b01_t, b01_f, b01_ok, bool_ft, vp_b01, vp_b0, vp_b1, b01_eq0, b01_eq1, implies_true, nI_add, nI_clamp, zi_in, zi_le_t, zi_le_f, zi_lt_t, zi_lt_f, zi_eq_t, zi_eq_f, nI_leI, nI_ltI, nI_eq, z_in, pk_mul, zu_same, zu_rw, zu_ix, zi_ne0, zi_sub, zi_m1, Nat.add_sub_cancel, Nat.reduceMul, Nat.reduceSub]
  exact loop 0 (by omega) rfl
theorem zX10_keepBy (hM : isM h b) (hX : mX b S lv t) (hr : S (b + 37) = T) (hN : S (b + 36) = T) {p w : Nat} (hp : firstF (outF T) (tny t) = some p) (hw : w < 5) :
    zM l E 4 YX10_keepBy [.ref b, .int (nI w)] (z, h, S, L) 0 0 (fun r X => ∃ S', X = (z, h, S', L) ∧ zfr [34, 35] [52] b S S' ∧ r = some (.int (keepF t T p w))) (fun _ _ => False) := by
  have hny6 : tny t ≤ 6 := hX.1.2.2.2.1.2
  refine zM.go rfl rfl (Nat.le_of_ble_eq_true rfl) (ls := [some (.ref b), some (.int (nI w))]) rfl ?_
  intro V hVl hVE hVd hVc hVs hVQ hVX
  refine sX10_keepBy_0 _ _ _ _ _ ?_
  simp (disch := omega) only [oAld, oAld1, oBin, oCV, oGR, oIld, oPush, hM.1, hM.r54, hM.t54, hM.n54, hr, List.getElem?_cons_zero, List.getElem?_cons_succ, List.set_cons_zero, List.set_cons_succ, List.drop_succ_cons, List.drop_zero, List.take_succ_cons, List.take_zero, List.length_cons, List.length_nil, List.reverse_cons, List.reverse_nil, List.nil_append, List.cons_append, Option.toList_some, Option.toList_none, va_rf_s, true_and, and_true, true_implies, false_implies, not_true_eq_false, not_false_eq_true, Nat.reduceAdd, Nat.reduceLeDiff, Nat.le_add_left, Nat.zero_le, Nat.le_refl, znew, true_or, or_true, b01_t, b01_f, b01_ok, bool_ft, vp_b01, vp_b0, vp_b1, b01_eq0, b01_eq1, implies_true, nI_add, nI_clamp, zi_in, zi_le_t, zi_le_f, zi_lt_t, zi_lt_f, zi_eq_t, zi_eq_f, nI_leI, nI_ltI, nI_eq, z_in, pk_mul, zu_same, zu_rw, zu_ix, zi_ne0, zi_sub, zi_m1, Nat.add_sub_cancel, Nat.reduceMul, Nat.reduceSub]
  refine zC.of0 (zX10_firstOut hM hX hN) (by omega) (Nat.zero_le _) (Nat.zero_le _) ?_
  rintro _ _ ⟨rfl, rfl⟩
  rw [hp, show oM (some p) = nI p from rfl]
  refine sX10_keepBy_14 _ _ _ _ _ ?_
  simp (disch := omega) only [oCV, oIld, hM.1, List.getElem?_cons_zero, List.getElem?_cons_succ, List.set_cons_zero, List.set_cons_succ, List.drop_succ_cons, List.drop_zero, List.take_succ_cons, List.take_zero, List.length_cons, List.length_nil, List.reverse_cons, List.reverse_nil, List.nil_append, List.cons_append, Option.toList_some, Option.toList_none, va_rf_s, true_and, and_true, true_implies, false_implies, not_true_eq_false, not_false_eq_true, Nat.reduceAdd, Nat.reduceLeDiff, Nat.le_add_left, Nat.zero_le, Nat.le_refl, znew, true_or, or_true, b01_t, b01_f, b01_ok, bool_ft, vp_b01, vp_b0, vp_b1, b01_eq0, b01_eq1, implies_true, nI_add, nI_clamp, zi_in, zi_le_t, zi_le_f, zi_lt_t, zi_lt_f, zi_eq_t, zi_eq_f, nI_leI, nI_ltI, nI_eq, z_in, pk_mul, zu_same, zu_rw, zu_ix, zi_ne0, zi_sub, zi_m1, Nat.add_sub_cancel, Nat.reduceMul, Nat.reduceSub]
  refine zC.of0 (zG_wears hM hX hr (firstF_lt hp).1 hw) (by omega) (Nat.zero_le _) (Nat.zero_le _) ?_
  rintro _ _ ⟨S1, rfl, hf1, rfl⟩
  refine sX10_keepBy_18 _ _ _ _ _ ?_
  simp (disch := omega) only [oBin, oRI, List.getElem?_cons_zero, List.getElem?_cons_succ, List.set_cons_zero, List.set_cons_succ, List.drop_succ_cons, List.drop_zero, List.take_succ_cons, List.take_zero, List.length_cons, List.length_nil, List.reverse_cons, List.reverse_nil, List.nil_append, List.cons_append, Option.toList_some, Option.toList_none, va_rf_s, true_and, and_true, true_implies, false_implies, not_true_eq_false, not_false_eq_true, Nat.reduceAdd, Nat.reduceLeDiff, Nat.le_add_left, Nat.zero_le, Nat.le_refl, znew, true_or, or_true, b01_t, b01_f, b01_ok, bool_ft, vp_b01, vp_b0, vp_b1, b01_eq0, b01_eq1, implies_true, nI_add, nI_clamp, zi_in, zi_le_t, zi_le_f, zi_lt_t, zi_lt_f, zi_eq_t, zi_eq_f, nI_leI, nI_ltI, nI_eq, z_in, pk_mul, zu_same, zu_rw, zu_ix, zi_ne0, zi_sub, zi_m1, Nat.add_sub_cancel, Nat.reduceMul, Nat.reduceSub]
  exact hVQ _ _ ⟨S1, rfl, hf1, rfl⟩
theorem zX10_keep (hM : isM h b) (hQ : mQ b S lv t T) :
    zM l E 5 YX10_keep [.ref b] (z, h, S, L) 0 0 (fun r X => ∃ S', X = (z, h, S', L) ∧ mE b S S' ∧ r = some (.int (keepR t T))) (fun _ _ => False) := by
  refine zM.go rfl rfl (Nat.le_of_ble_eq_true rfl) (ls := [some (.ref b), none, none]) rfl ?_
  intro V hVl hVE hVd hVc hVs hVQ hVX
  refine sX10_keep_0 _ _ _ _ _ ?_
  simp (disch := omega) only [oAld, oCV, hM.1, List.getElem?_cons_zero, List.getElem?_cons_succ, List.set_cons_zero, List.set_cons_succ, List.drop_succ_cons, List.drop_zero, List.take_succ_cons, List.take_zero, List.length_cons, List.length_nil, List.reverse_cons, List.reverse_nil, List.nil_append, List.cons_append, Option.toList_some, Option.toList_none, va_rf_s, true_and, and_true, true_implies, false_implies, not_true_eq_false, not_false_eq_true, Nat.reduceAdd, Nat.reduceLeDiff, Nat.le_add_left, Nat.zero_le, Nat.le_refl, znew, true_or, or_true, b01_t, b01_f, b01_ok, bool_ft, vp_b01, vp_b0, vp_b1, b01_eq0, b01_eq1, implies_true, nI_add, nI_clamp, zi_in, zi_le_t, zi_le_f, zi_lt_t, zi_lt_f, zi_eq_t, zi_eq_f, nI_leI, nI_ltI, nI_eq, z_in, pk_mul, zu_same, zu_rw, zu_ix, zi_ne0, zi_sub, zi_m1, Nat.add_sub_cancel, Nat.reduceMul, Nat.reduceSub]
  refine zC.of0 (zG_copies hM hQ) (by omega) (Nat.zero_le _) (Nat.zero_le _) ?_
  rintro _ _ ⟨rfl, S1, rfl, hE, hX1, hr, hN, -, -⟩
  obtain ⟨⟨hl, hlv⟩, -, -, ⟨hny, hny6⟩, ⟨hnw, hnw5⟩⟩ := id hX1.1
  cases hp : firstF (outF T) (tny t) with
  | none =>
    have fin := hVQ (some (.int (-2))) (z, h, S1, L) ⟨S1, rfl, hE, by rw [keepR, hp]⟩
    refine sX10_keep_4 _ _ _ _ _ ?_
    simp (disch := omega) only [oIst, oPush, List.getElem?_cons_zero, List.getElem?_cons_succ, List.set_cons_zero, List.set_cons_succ, List.drop_succ_cons, List.drop_zero, List.take_succ_cons, List.take_zero, List.length_cons, List.length_nil, List.reverse_cons, List.reverse_nil, List.nil_append, List.cons_append, Option.toList_some, Option.toList_none, va_rf_s, true_and, and_true, true_implies, false_implies, not_true_eq_false, not_false_eq_true, Nat.reduceAdd, Nat.reduceLeDiff, Nat.le_add_left, Nat.zero_le, Nat.le_refl, znew, true_or, or_true, b01_t, b01_f, b01_ok, bool_ft, vp_b01, vp_b0, vp_b1, b01_eq0, b01_eq1, implies_true, nI_add, nI_clamp, zi_in, zi_le_t, zi_le_f, zi_lt_t, zi_lt_f, zi_eq_t, zi_eq_f, nI_leI, nI_ltI, nI_eq, z_in, pk_mul, zu_same, zu_rw, zu_ix, zi_ne0, zi_sub, zi_m1, Nat.add_sub_cancel, Nat.reduceMul, Nat.reduceSub]
    by_cases h0 : tnw t = 0
    · rw [h0] at hnw
      refine sX10_keep_9 _ _ _ _ _ ?_
      simp (disch := omega) only [oAld, oAld1, oCV, oGI, oGR, oIfc, oIld, oRI, hM.1, hM.r32, hM.t32, hM.n32, hl, hnw, List.getElem?_cons_zero, List.getElem?_cons_succ, List.set_cons_zero, List.set_cons_succ, List.drop_succ_cons, List.drop_zero, List.take_succ_cons, List.take_zero, List.length_cons, List.length_nil, List.reverse_cons, List.reverse_nil, List.nil_append, List.cons_append, Option.toList_some, Option.toList_none, va_rf_s, true_and, and_true, true_implies, false_implies, not_true_eq_false, not_false_eq_true, Nat.reduceAdd, Nat.reduceLeDiff, Nat.le_add_left, Nat.zero_le, Nat.le_refl, znew, true_or, or_true, b01_t, b01_f, b01_ok, bool_ft, vp_b01, vp_b0, vp_b1, b01_eq0, b01_eq1, implies_true, nI_add, nI_clamp, zi_in, zi_le_t, zi_le_f, zi_lt_t, zi_lt_f, zi_eq_t, zi_eq_f, nI_leI, nI_ltI, nI_eq, z_in, pk_mul, zu_same, zu_rw, zu_ix, zi_ne0, zi_sub, zi_m1, Nat.add_sub_cancel, Nat.reduceMul, Nat.reduceSub]
      exact fin
    · refine sX10_keep_9 _ _ _ _ _ ?_
      simp (disch := omega) only [oAld, oAld1, oCV, oGI, oGR, oIfc, oIld, oRI, hM.1, hM.r32, hM.t32, hM.n32, hl, hnw, List.getElem?_cons_zero, List.getElem?_cons_succ, List.set_cons_zero, List.set_cons_succ, List.drop_succ_cons, List.drop_zero, List.take_succ_cons, List.take_zero, List.length_cons, List.length_nil, List.reverse_cons, List.reverse_nil, List.nil_append, List.cons_append, Option.toList_some, Option.toList_none, va_rf_s, true_and, and_true, true_implies, false_implies, not_true_eq_false, not_false_eq_true, Nat.reduceAdd, Nat.reduceLeDiff, Nat.le_add_left, Nat.zero_le, Nat.le_refl, znew, true_or, or_true, b01_t, b01_f, b01_ok, bool_ft, vp_b01, vp_b0, vp_b1, b01_eq0, b01_eq1, implies_true, nI_add, nI_clamp, zi_in, zi_le_t, zi_le_f, zi_lt_t, zi_lt_f, zi_eq_t, zi_eq_f, nI_leI, nI_ltI, nI_eq, z_in, pk_mul, zu_same, zu_rw, zu_ix, zi_ne0, zi_sub, zi_m1, Nat.add_sub_cancel, Nat.reduceMul, Nat.reduceSub]
      refine zC.of0 (zX10_firstOut hM hX1 hN) (by omega) (Nat.zero_le _) (Nat.zero_le _) ?_
      rintro _ _ ⟨rfl, rfl⟩
      rw [hp, show oM none = -1 from rfl]
      refine sX10_keep_26 _ _ _ _ _ ?_
      simp (disch := omega) only [oAld, oCV, oIf, oIld, oInc, oIst, oNop, oRI, hM.1, m1lt, List.getElem?_cons_zero, List.getElem?_cons_succ, List.set_cons_zero, List.set_cons_succ, List.drop_succ_cons, List.drop_zero, List.take_succ_cons, List.take_zero, List.length_cons, List.length_nil, List.reverse_cons, List.reverse_nil, List.nil_append, List.cons_append, Option.toList_some, Option.toList_none, va_rf_s, true_and, and_true, true_implies, false_implies, not_true_eq_false, not_false_eq_true, Nat.reduceAdd, Nat.reduceLeDiff, Nat.le_add_left, Nat.zero_le, Nat.le_refl, znew, true_or, or_true, b01_t, b01_f, b01_ok, bool_ft, vp_b01, vp_b0, vp_b1, b01_eq0, b01_eq1, implies_true, nI_add, nI_clamp, zi_in, zi_le_t, zi_le_f, zi_lt_t, zi_lt_f, zi_eq_t, zi_eq_f, nI_leI, nI_ltI, nI_eq, z_in, pk_mul, zu_same, zu_rw, zu_ix, zi_ne0, zi_sub, zi_m1, Nat.add_sub_cancel, Nat.reduceMul, Nat.reduceSub]
      exact fin
  | some p =>
    have hpl := (firstF_lt hp).1
    have loop : ∀ y, y ≤ tnw t → ∀ S', zfr [34, 35] [52] b S1 S' → zW V YX10_keep 9 [some (.ref b), some (.int (oN (amax (keepF t T p) y))), some (.int (nI y))] [] (z, h, S', L) 0 0 := by
      refine z_down ?_ (fun y hy ih => ?_)
      · intro S' hf1
        have e1 := (hf1.f (j := 18) rfl).trans hl
        have e2 : S' (b + 19) lv = nI (tnw t) := by rw [hf1.at (o := 19) rfl rfl]; exact hnw
        refine sX10_keep_9 _ _ _ _ _ ?_
        simp (disch := omega) only [oAld, oAld1, oCV, oGI, oGR, oIfc, oIld, oRI, hM.1, hM.r32, hM.t32, hM.n32, e1, e2, List.getElem?_cons_zero, List.getElem?_cons_succ, List.set_cons_zero, List.set_cons_succ, List.drop_succ_cons, List.drop_zero, List.take_succ_cons, List.take_zero, List.length_cons, List.length_nil, List.reverse_cons, List.reverse_nil, List.nil_append, List.cons_append, Option.toList_some, Option.toList_none, va_rf_s, true_and, and_true, true_implies, false_implies, not_true_eq_false, not_false_eq_true, Nat.reduceAdd, Nat.reduceLeDiff, Nat.le_add_left, Nat.zero_le, Nat.le_refl, znew, true_or, or_true, b01_t, b01_f, b01_ok, bool_ft, vp_b01, vp_b0, vp_b1, b01_eq0, b01_eq1, implies_true, nI_add, nI_clamp, zi_in, zi_le_t, zi_le_f, zi_lt_t, zi_lt_f, zi_eq_t, zi_eq_f, nI_leI, nI_ltI, nI_eq, z_in, pk_mul, zu_same, zu_rw, zu_ix, zi_ne0, zi_sub, zi_m1, Nat.add_sub_cancel, Nat.reduceMul, Nat.reduceSub]
        exact hVQ _ _ ⟨S', rfl, hE.q hf1 rfl rfl rfl, by rw [keepR, hp]⟩
      · intro S' hf1
        have hX' := hX1.fr hf1 rfl rfl
        have hr' := (hf1.at (o := 37) rfl rfl).trans hr
        have hN' := (hf1.at (o := 36) rfl rfl).trans hN
        have e1 := (hf1.f (j := 18) rfl).trans hl
        have e2 : S' (b + 19) lv = nI (tnw t) := by rw [hf1.at (o := 19) rfl rfl]; exact hnw
        refine sX10_keep_9 _ _ _ _ _ ?_
        simp (disch := omega) only [oAld, oAld1, oCV, oGI, oGR, oIfc, oIld, oRI, hM.1, hM.r32, hM.t32, hM.n32, e1, e2, List.getElem?_cons_zero, List.getElem?_cons_succ, List.set_cons_zero, List.set_cons_succ, List.drop_succ_cons, List.drop_zero, List.take_succ_cons, List.take_zero, List.length_cons, List.length_nil, List.reverse_cons, List.reverse_nil, List.nil_append, List.cons_append, Option.toList_some, Option.toList_none, va_rf_s, true_and, and_true, true_implies, false_implies, not_true_eq_false, not_false_eq_true, Nat.reduceAdd, Nat.reduceLeDiff, Nat.le_add_left, Nat.zero_le, Nat.le_refl, znew, true_or, or_true, b01_t, b01_f, b01_ok, bool_ft, vp_b01, vp_b0, vp_b1, b01_eq0, b01_eq1, implies_true, nI_add, nI_clamp, zi_in, zi_le_t, zi_le_f, zi_lt_t, zi_lt_f, zi_eq_t, zi_eq_f, nI_leI, nI_ltI, nI_eq, z_in, pk_mul, zu_same, zu_rw, zu_ix, zi_ne0, zi_sub, zi_m1, Nat.add_sub_cancel, Nat.reduceMul, Nat.reduceSub]
        refine zC.of0 (zX10_firstOut hM hX' hN') (by omega) (Nat.zero_le _) (Nat.zero_le _) ?_
        rintro _ _ ⟨rfl, rfl⟩
        rw [hp, show oM (some p) = nI p from rfl]
        cases ha : amax (keepF t T p) y with
        | none =>
          have ih := ih S' hf1
          rw [amax_n ha] at ih
          rw [show oN none = -2 from rfl]
          refine sX10_keep_26 _ _ _ _ _ ?_
          simp (disch := omega) only [oAld, oCV, oIf, oIld, oInc, oIst, oNop, oRI, hM.1, m2lt, List.getElem?_cons_zero, List.getElem?_cons_succ, List.set_cons_zero, List.set_cons_succ, List.drop_succ_cons, List.drop_zero, List.take_succ_cons, List.take_zero, List.length_cons, List.length_nil, List.reverse_cons, List.reverse_nil, List.nil_append, List.cons_append, Option.toList_some, Option.toList_none, va_rf_s, true_and, and_true, true_implies, false_implies, not_true_eq_false, not_false_eq_true, Nat.reduceAdd, Nat.reduceLeDiff, Nat.le_add_left, Nat.zero_le, Nat.le_refl, znew, true_or, or_true, b01_t, b01_f, b01_ok, bool_ft, vp_b01, vp_b0, vp_b1, b01_eq0, b01_eq1, implies_true, nI_add, nI_clamp, zi_in, zi_le_t, zi_le_f, zi_lt_t, zi_lt_f, zi_eq_t, zi_eq_f, nI_leI, nI_ltI, nI_eq, z_in, pk_mul, zu_same, zu_rw, zu_ix, zi_ne0, zi_sub, zi_m1, Nat.add_sub_cancel, Nat.reduceMul, Nat.reduceSub]
          exact ih
        | some c =>
          have hc := amax_lt ha
          rw [show oN (some c) = nI c from rfl]
          refine sX10_keep_26 _ _ _ _ _ ?_
          simp (disch := omega) only [oAld, oCV, oIf, oIld, oInc, oIst, oNop, oRI, hM.1, List.getElem?_cons_zero, List.getElem?_cons_succ, List.set_cons_zero, List.set_cons_succ, List.drop_succ_cons, List.drop_zero, List.take_succ_cons, List.take_zero, List.length_cons, List.length_nil, List.reverse_cons, List.reverse_nil, List.nil_append, List.cons_append, Option.toList_some, Option.toList_none, va_rf_s, true_and, and_true, true_implies, false_implies, not_true_eq_false, not_false_eq_true, Nat.reduceAdd, Nat.reduceLeDiff, Nat.le_add_left, Nat.zero_le, Nat.le_refl, znew, true_or, or_true, b01_t, b01_f, b01_ok, bool_ft, vp_b01, vp_b0, vp_b1, b01_eq0, b01_eq1, implies_true, nI_add, nI_clamp, zi_in, zi_le_t, zi_le_f, zi_lt_t, zi_lt_f, zi_eq_t, zi_eq_f, nI_leI, nI_ltI, nI_eq, z_in, pk_mul, zu_same, zu_rw, zu_ix, zi_ne0, zi_sub, zi_m1, Nat.add_sub_cancel, Nat.reduceMul, Nat.reduceSub]
          refine zC.of0 (zX10_keepBy hM hX' hr' hN' hp (show y < 5 by omega)) (by omega) (Nat.zero_le _) (Nat.zero_le _) ?_
          rintro _ _ ⟨S2, rfl, hf2, rfl⟩
          have hf12 := hf1.tt hf2
          refine sX10_keep_38 _ _ _ _ _ ?_
          simp (disch := omega) only [oAld, oCV, oIld, hM.1, List.getElem?_cons_zero, List.getElem?_cons_succ, List.set_cons_zero, List.set_cons_succ, List.drop_succ_cons, List.drop_zero, List.take_succ_cons, List.take_zero, List.length_cons, List.length_nil, List.reverse_cons, List.reverse_nil, List.nil_append, List.cons_append, Option.toList_some, Option.toList_none, va_rf_s, true_and, and_true, true_implies, false_implies, not_true_eq_false, not_false_eq_true, Nat.reduceAdd, Nat.reduceLeDiff, Nat.le_add_left, Nat.zero_le, Nat.le_refl, znew, true_or, or_true, b01_t, b01_f, b01_ok, bool_ft, vp_b01, vp_b0, vp_b1, b01_eq0, b01_eq1, implies_true, nI_add, nI_clamp, zi_in, zi_le_t, zi_le_f, zi_lt_t, zi_lt_f, zi_eq_t, zi_eq_f, nI_leI, nI_ltI, nI_eq, z_in, pk_mul, zu_same, zu_rw, zu_ix, zi_ne0, zi_sub, zi_m1, Nat.add_sub_cancel, Nat.reduceMul, Nat.reduceSub]
          refine zC.of0 (zX10_keepBy hM (hX1.fr hf12 rfl rfl) ((hf12.at (o := 37) rfl rfl).trans hr) ((hf12.at (o := 36) rfl rfl).trans hN) hp (show c < 5 by omega)) (by omega) (Nat.zero_le _) (Nat.zero_le _) ?_
          rintro _ _ ⟨S3, rfl, hf3, rfl⟩
          refine sX10_keep_43 _ _ _ _ _ ?_
          simp (disch := omega) only [oIfc, oIld, oInc, oIst, oNop, List.getElem?_cons_zero, List.getElem?_cons_succ, List.set_cons_zero, List.set_cons_succ, List.drop_succ_cons, List.drop_zero, List.take_succ_cons, List.take_zero, List.length_cons, List.length_nil, List.reverse_cons, List.reverse_nil, List.nil_append, List.cons_append, Option.toList_some, Option.toList_none, va_rf_s, true_and, and_true, true_implies, false_implies, not_true_eq_false, not_false_eq_true, Nat.reduceAdd, Nat.reduceLeDiff, Nat.le_add_left, Nat.zero_le, Nat.le_refl, znew, true_or, or_true, b01_t, b01_f, b01_ok, bool_ft, vp_b01, vp_b0, vp_b1, b01_eq0, b01_eq1, implies_true, nI_add, nI_clamp, zi_in, zi_le_t, zi_le_f, zi_lt_t, zi_lt_f, zi_eq_t, zi_eq_f, nI_leI, nI_ltI, nI_eq, z_in, pk_mul, zu_same, zu_rw, zu_ix, zi_ne0, zi_sub, zi_m1, Nat.add_sub_cancel, Nat.reduceMul, Nat.reduceSub]
          have ih := ih S3 (hf12.tt hf3)
          refine ⟨fun h0 => ?_, fun h0 => ?_⟩
          · rw [amax_f ha (i_nle h0)] at ih; exact ih
          · rw [amax_t ha (i_lt h0)] at ih; exact ih
    refine sX10_keep_4 _ _ _ _ _ ?_
    simp (disch := omega) only [oIst, oPush, List.getElem?_cons_zero, List.getElem?_cons_succ, List.set_cons_zero, List.set_cons_succ, List.drop_succ_cons, List.drop_zero, List.take_succ_cons, List.take_zero, List.length_cons, List.length_nil, List.reverse_cons, List.reverse_nil, List.nil_append, List.cons_append, Option.toList_some, Option.toList_none, va_rf_s, true_and, and_true, true_implies, false_implies, not_true_eq_false, not_false_eq_true, Nat.reduceAdd, Nat.reduceLeDiff, Nat.le_add_left, Nat.zero_le, Nat.le_refl, znew, true_or, or_true, b01_t, b01_f, b01_ok, bool_ft, vp_b01, vp_b0, vp_b1, b01_eq0, b01_eq1, implies_true, nI_add, nI_clamp, zi_in, zi_le_t, zi_le_f, zi_lt_t, zi_lt_f, zi_eq_t, zi_eq_f, nI_leI, nI_ltI, nI_eq, z_in, pk_mul, zu_same, zu_rw, zu_ix, zi_ne0, zi_sub, zi_m1, Nat.add_sub_cancel, Nat.reduceMul, Nat.reduceSub]
    exact loop 0 (by omega) S1 zfr.rf
theorem zX10_twins (hM : isM h b) (hQ : mQ b S lv t T) (what : Int32) :
    zM l E 3 YX10_twins [.ref b, .int what] (z, h, S, L) 0 0 (fun r X => ∃ S', X = (z, h, S', L) ∧ mE b S S' ∧ r = some (.int (twinsR t T what))) (fun _ _ => False) := by
  have hZ := hQ.2.1
  refine zM.go rfl rfl (Nat.le_of_ble_eq_true rfl) (ls := [some (.ref b), some (.int what), none, none, none, none, none, none, none]) rfl ?_
  intro V hVl hVE hVd hVc hVs hVQ hVX
  refine sX10_twins_0 _ _ _ _ _ ?_
  simp (disch := omega) only [oCS, oIld, oPush, List.getElem?_cons_zero, List.getElem?_cons_succ, List.set_cons_zero, List.set_cons_succ, List.drop_succ_cons, List.drop_zero, List.take_succ_cons, List.take_zero, List.length_cons, List.length_nil, List.reverse_cons, List.reverse_nil, List.nil_append, List.cons_append, Option.toList_some, Option.toList_none, va_rf_s, true_and, and_true, true_implies, false_implies, not_true_eq_false, not_false_eq_true, Nat.reduceAdd, Nat.reduceLeDiff, Nat.le_add_left, Nat.zero_le, Nat.le_refl, znew, true_or, or_true, b01_t, b01_f, b01_ok, bool_ft, vp_b01, vp_b0, vp_b1, b01_eq0, b01_eq1, implies_true, nI_add, nI_clamp, zi_in, zi_le_t, zi_le_f, zi_lt_t, zi_lt_f, zi_eq_t, zi_eq_f, nI_leI, nI_ltI, nI_eq, z_in, pk_mul, zu_same, zu_rw, zu_ix, zi_ne0, zi_sub, zi_m1, Nat.add_sub_cancel, Nat.reduceMul, Nat.reduceSub]
  refine zC.of0 (zX10_in _ _ _ _) (by omega) (Nat.zero_le _) (Nat.zero_le _) ?_
  rintro _ _ ⟨rfl, rfl⟩
  rw [okI_dec2 (by omega)]
  cases hw : okI what (1 + 1) with
  | false =>
    refine sX10_twins_6 _ _ _ _ _ ?_
    simp (disch := omega) only [oAld, oCV, oIf, oPush, oRI, hM.1, List.getElem?_cons_zero, List.getElem?_cons_succ, List.set_cons_zero, List.set_cons_succ, List.drop_succ_cons, List.drop_zero, List.take_succ_cons, List.take_zero, List.length_cons, List.length_nil, List.reverse_cons, List.reverse_nil, List.nil_append, List.cons_append, Option.toList_some, Option.toList_none, va_rf_s, true_and, and_true, true_implies, false_implies, not_true_eq_false, not_false_eq_true, Nat.reduceAdd, Nat.reduceLeDiff, Nat.le_add_left, Nat.zero_le, Nat.le_refl, znew, true_or, or_true, b01_t, b01_f, b01_ok, bool_ft, vp_b01, vp_b0, vp_b1, b01_eq0, b01_eq1, implies_true, nI_add, nI_clamp, zi_in, zi_le_t, zi_le_f, zi_lt_t, zi_lt_f, zi_eq_t, zi_eq_f, nI_leI, nI_ltI, nI_eq, z_in, pk_mul, zu_same, zu_rw, zu_ix, zi_ne0, zi_sub, zi_m1, Nat.add_sub_cancel, Nat.reduceMul, Nat.reduceSub]
    exact hVQ _ _ ⟨S, rfl, mE.rf hZ, by simp [twinsR, hw]⟩
  | true =>
    refine sX10_twins_6 _ _ _ _ _ ?_
    simp (disch := omega) only [oAld, oCV, oIf, oPush, oRI, hM.1, List.getElem?_cons_zero, List.getElem?_cons_succ, List.set_cons_zero, List.set_cons_succ, List.drop_succ_cons, List.drop_zero, List.take_succ_cons, List.take_zero, List.length_cons, List.length_nil, List.reverse_cons, List.reverse_nil, List.nil_append, List.cons_append, Option.toList_some, Option.toList_none, va_rf_s, true_and, and_true, true_implies, false_implies, not_true_eq_false, not_false_eq_true, Nat.reduceAdd, Nat.reduceLeDiff, Nat.le_add_left, Nat.zero_le, Nat.le_refl, znew, true_or, or_true, b01_t, b01_f, b01_ok, bool_ft, vp_b01, vp_b0, vp_b1, b01_eq0, b01_eq1, implies_true, nI_add, nI_clamp, zi_in, zi_le_t, zi_le_f, zi_lt_t, zi_lt_f, zi_eq_t, zi_eq_f, nI_leI, nI_ltI, nI_eq, z_in, pk_mul, zu_same, zu_rw, zu_ix, zi_ne0, zi_sub, zi_m1, Nat.add_sub_cancel, Nat.reduceMul, Nat.reduceSub]
    refine zC.of0 (zG_copies hM hQ) (by omega) (Nat.zero_le _) (Nat.zero_le _) ?_
    rintro _ _ ⟨rfl, S1, rfl, hE, hX1, hr, hN, -, -⟩
    obtain ⟨⟨hl, hlv⟩, -, -, ⟨hny, hny6⟩, ⟨hnw, hnw5⟩⟩ := id hX1.1
    -- the sum over the young ones
    have loopY : ∀ w, w < 5 → ∀ o, o < 5 → ∀ a : zAc, acB a → (∀ S' x6 x7 x8, zfr [34, 35] [52] b S1 S' → zW V YX10_twins 44 [some (.ref b), some (.int what), some (.int (ac1 (minS a (10 * w + o) (twV t T w o)))), some (.int (ac2 (minS a (10 * w + o) (twV t T w o)))), some (.int (nI w)), some (.int (nI (o + 1))), x6, x7, x8] [] (z, h, S', L) 0 0) →
        ∀ y, y ≤ tny t → ∀ S' x8, zfr [34, 35] [52] b S1 S' → zW V YX10_twins 64 [some (.ref b), some (.int what), some (.int (ac1 a)), some (.int (ac2 a)), some (.int (nI w)), some (.int (nI o)), some (.int (sumI (fun y => if T (12 + y) = nI 0 then absF (glT t T y w - glT t T y o) else nI 0) y)), some (.int (nI y)), x8] [] (z, h, S', L) 0 0 := by
      intro w hw5 o ho5 a hB hn
      refine z_down ?_ (fun y hy ih => ?_)
      · intro S' x8 hf1
        have e1 := (hf1.f (j := 18) rfl).trans hl
        have e2 : S' (b + 15) lv = nI (tny t) := by rw [hf1.at (o := 15) rfl rfl]; exact hny
        change zW V YX10_twins 64 [some (.ref b), some (.int what), some (.int (ac1 a)), some (.int (ac2 a)), some (.int (nI w)), some (.int (nI o)), some (.int (twV t T w o)), some (.int (nI (tny t))), x8] [] (z, h, S', L) 0 0
        cases a with
        | none =>
          rw [show ac1 none = -2 from rfl, show ac2 none = -2 from rfl]
          refine sX10_twins_64 _ _ _ _ _ ?_
          simp (disch := omega) only [oAld, oAld1, oBin, oCV, oGI, oGR, oIf, oIfc, oIld, oInc, oIst, oNop, oPush, hM.1, hM.r28, hM.t28, hM.n28, e1, e2, m2lt, List.getElem?_cons_zero, List.getElem?_cons_succ, List.set_cons_zero, List.set_cons_succ, List.drop_succ_cons, List.drop_zero, List.take_succ_cons, List.take_zero, List.length_cons, List.length_nil, List.reverse_cons, List.reverse_nil, List.nil_append, List.cons_append, Option.toList_some, Option.toList_none, va_rf_s, true_and, and_true, true_implies, false_implies, not_true_eq_false, not_false_eq_true, Nat.reduceAdd, Nat.reduceLeDiff, Nat.le_add_left, Nat.zero_le, Nat.le_refl, znew, true_or, or_true, b01_t, b01_f, b01_ok, bool_ft, vp_b01, vp_b0, vp_b1, b01_eq0, b01_eq1, implies_true, nI_add, nI_clamp, zi_in, zi_le_t, zi_le_f, zi_lt_t, zi_lt_f, zi_eq_t, zi_eq_f, nI_leI, nI_ltI, nI_eq, z_in, pk_mul, zu_same, zu_rw, zu_ix, zi_ne0, zi_sub, zi_m1, Nat.add_sub_cancel, Nat.reduceMul, Nat.reduceSub]
          exact hn S' _ _ _ hf1
        | some q =>
          have hq := hB q.1 q.2 rfl
          rw [show ac1 (some q) = nI q.1 from rfl, show ac2 (some q) = q.2 from rfl]
          refine sX10_twins_64 _ _ _ _ _ ?_
          simp (disch := omega) only [oAld, oAld1, oBin, oCV, oGI, oGR, oIf, oIfc, oIld, oInc, oIst, oNop, oPush, hM.1, hM.r28, hM.t28, hM.n28, e1, e2, List.getElem?_cons_zero, List.getElem?_cons_succ, List.set_cons_zero, List.set_cons_succ, List.drop_succ_cons, List.drop_zero, List.take_succ_cons, List.take_zero, List.length_cons, List.length_nil, List.reverse_cons, List.reverse_nil, List.nil_append, List.cons_append, Option.toList_some, Option.toList_none, va_rf_s, true_and, and_true, true_implies, false_implies, not_true_eq_false, not_false_eq_true, Nat.reduceAdd, Nat.reduceLeDiff, Nat.le_add_left, Nat.zero_le, Nat.le_refl, znew, true_or, or_true, b01_t, b01_f, b01_ok, bool_ft, vp_b01, vp_b0, vp_b1, b01_eq0, b01_eq1, implies_true, nI_add, nI_clamp, zi_in, zi_le_t, zi_le_f, zi_lt_t, zi_lt_f, zi_eq_t, zi_eq_f, nI_leI, nI_ltI, nI_eq, z_in, pk_mul, zu_same, zu_rw, zu_ix, zi_ne0, zi_sub, zi_m1, Nat.add_sub_cancel, Nat.reduceMul, Nat.reduceSub]
          have hn := fun x7 => hn S' (some (.int (twV t T w o))) x7 x8 hf1
          unfold minS at hn
          refine ⟨fun hc => ?_, fun hc => ?_⟩
          · simp only [if_pos hc] at hn; exact hn _
          · simp only [if_neg hc] at hn; exact hn _
      · intro S' x8 hf1
        have hX' := hX1.fr hf1 rfl rfl
        have e1 := (hf1.f (j := 18) rfl).trans hl
        have e2 : S' (b + 15) lv = nI (tny t) := by rw [hf1.at (o := 15) rfl rfl]; exact hny
        refine sX10_twins_64 _ _ _ _ _ ?_
        simp (disch := omega) only [oAld, oAld1, oBin, oCV, oGI, oGR, oIf, oIfc, oIld, oInc, oIst, oNop, oPush, hM.1, hM.r28, hM.t28, hM.n28, e1, e2, List.getElem?_cons_zero, List.getElem?_cons_succ, List.set_cons_zero, List.set_cons_succ, List.drop_succ_cons, List.drop_zero, List.take_succ_cons, List.take_zero, List.length_cons, List.length_nil, List.reverse_cons, List.reverse_nil, List.nil_append, List.cons_append, Option.toList_some, Option.toList_none, va_rf_s, true_and, and_true, true_implies, false_implies, not_true_eq_false, not_false_eq_true, Nat.reduceAdd, Nat.reduceLeDiff, Nat.le_add_left, Nat.zero_le, Nat.le_refl, znew, true_or, or_true, b01_t, b01_f, b01_ok, bool_ft, vp_b01, vp_b0, vp_b1, b01_eq0, b01_eq1, implies_true, nI_add, nI_clamp, zi_in, zi_le_t, zi_le_f, zi_lt_t, zi_lt_f, zi_eq_t, zi_eq_f, nI_leI, nI_ltI, nI_eq, z_in, pk_mul, zu_same, zu_rw, zu_ix, zi_ne0, zi_sub, zi_m1, Nat.add_sub_cancel, Nat.reduceMul, Nat.reduceSub]
        refine zC.of0 (zG_glows hM hX' ((hf1.at (o := 37) rfl rfl).trans hr) hy hw5) (by omega) (Nat.zero_le _) (Nat.zero_le _) ?_
        rintro _ _ ⟨S2, rfl, hf2, rfl⟩
        have hf12 := hf1.tt hf2
        refine sX10_twins_86 _ _ _ _ _ ?_
        simp (disch := omega) only [oAld, oCV, oIld, hM.1, List.getElem?_cons_zero, List.getElem?_cons_succ, List.set_cons_zero, List.set_cons_succ, List.drop_succ_cons, List.drop_zero, List.take_succ_cons, List.take_zero, List.length_cons, List.length_nil, List.reverse_cons, List.reverse_nil, List.nil_append, List.cons_append, Option.toList_some, Option.toList_none, va_rf_s, true_and, and_true, true_implies, false_implies, not_true_eq_false, not_false_eq_true, Nat.reduceAdd, Nat.reduceLeDiff, Nat.le_add_left, Nat.zero_le, Nat.le_refl, znew, true_or, or_true, b01_t, b01_f, b01_ok, bool_ft, vp_b01, vp_b0, vp_b1, b01_eq0, b01_eq1, implies_true, nI_add, nI_clamp, zi_in, zi_le_t, zi_le_f, zi_lt_t, zi_lt_f, zi_eq_t, zi_eq_f, nI_leI, nI_ltI, nI_eq, z_in, pk_mul, zu_same, zu_rw, zu_ix, zi_ne0, zi_sub, zi_m1, Nat.add_sub_cancel, Nat.reduceMul, Nat.reduceSub]
        refine zC.of0 (zG_glows hM (hX1.fr hf12 rfl rfl) ((hf12.at (o := 37) rfl rfl).trans hr) hy ho5) (by omega) (Nat.zero_le _) (Nat.zero_le _) ?_
        rintro _ _ ⟨S3, rfl, hf3, rfl⟩
        have hf13 := hf12.tt hf3
        have hX3 := hX1.fr hf13 rfl rfl
        refine sX10_twins_94 _ _ _ _ _ ?_
        simp (disch := omega) only [oAld, oBin, oCV, oIld, oIst, hM.1, List.getElem?_cons_zero, List.getElem?_cons_succ, List.set_cons_zero, List.set_cons_succ, List.drop_succ_cons, List.drop_zero, List.take_succ_cons, List.take_zero, List.length_cons, List.length_nil, List.reverse_cons, List.reverse_nil, List.nil_append, List.cons_append, Option.toList_some, Option.toList_none, va_rf_s, true_and, and_true, true_implies, false_implies, not_true_eq_false, not_false_eq_true, Nat.reduceAdd, Nat.reduceLeDiff, Nat.le_add_left, Nat.zero_le, Nat.le_refl, znew, true_or, or_true, b01_t, b01_f, b01_ok, bool_ft, vp_b01, vp_b0, vp_b1, b01_eq0, b01_eq1, implies_true, nI_add, nI_clamp, zi_in, zi_le_t, zi_le_f, zi_lt_t, zi_lt_f, zi_eq_t, zi_eq_f, nI_leI, nI_ltI, nI_eq, z_in, pk_mul, zu_same, zu_rw, zu_ix, zi_ne0, zi_sub, zi_m1, Nat.add_sub_cancel, Nat.reduceMul, Nat.reduceSub]
        refine zC.of0 (zX10_isOut hM hX3.1 _) (by omega) (Nat.zero_le _) (Nat.zero_le _) ?_
        rintro _ _ ⟨rfl, rfl⟩
        rw [(hf13.at (o := 36) rfl rfl).trans hN, nI_clamp (by omega), okI_nI (by omega), decide_eq_true hy, Bool.true_and]
        refine sX10_twins_103 _ _ _ _ _ ?_
        simp (disch := omega) only [oBin, oIf, oIld, oInc, oIst, oNop, oUn, List.getElem?_cons_zero, List.getElem?_cons_succ, List.set_cons_zero, List.set_cons_succ, List.drop_succ_cons, List.drop_zero, List.take_succ_cons, List.take_zero, List.length_cons, List.length_nil, List.reverse_cons, List.reverse_nil, List.nil_append, List.cons_append, Option.toList_some, Option.toList_none, va_rf_s, true_and, and_true, true_implies, false_implies, not_true_eq_false, not_false_eq_true, Nat.reduceAdd, Nat.reduceLeDiff, Nat.le_add_left, Nat.zero_le, Nat.le_refl, znew, true_or, or_true, b01_t, b01_f, b01_ok, bool_ft, vp_b01, vp_b0, vp_b1, b01_eq0, b01_eq1, implies_true, nI_add, nI_clamp, zi_in, zi_le_t, zi_le_f, zi_lt_t, zi_lt_f, zi_eq_t, zi_eq_f, nI_leI, nI_ltI, nI_eq, z_in, pk_mul, zu_same, zu_rw, zu_ix, zi_ne0, zi_sub, zi_m1, Nat.add_sub_cancel, Nat.reduceMul, Nat.reduceSub]
        have ih := fun x8 => ih S3 x8 hf13
        simp only [sumI] at ih
        refine ⟨fun h0 => ?_, fun h0 => ⟨fun h1 => ?_, fun h1 => ?_⟩⟩
        · have h0 : ¬ T (12 + y) = nI 0 := by simpa using h0
          simp only [if_neg h0, i_add0] at ih; exact ih _
        · have h0 : T (12 + y) = nI 0 := by simpa using h0
          simp only [if_pos h0, absF, if_pos h1] at ih; exact ih _
        · have h0 : T (12 + y) = nI 0 := by simpa using h0
          simp only [if_pos h0, absF, if_neg h1] at ih; exact ih _
    -- the second word
    have loopO : ∀ w, w < tnw t → ∀ a : zAc, acB a → (∀ S' x5 x6 x7 x8, zfr [34, 35] [52] b S1 S' → zW V YX10_twins 24 [some (.ref b), some (.int what), some (.int (ac1 (twI t T w (tnw t - (w + 1)) a))), some (.int (ac2 (twI t T w (tnw t - (w + 1)) a))), some (.int (nI (w + 1))), x5, x6, x7, x8] [] (z, h, S', L) 0 0) →
        ∀ k, k ≤ tnw t - (w + 1) → ∀ S' x6 x7 x8, zfr [34, 35] [52] b S1 S' → zW V YX10_twins 44 [some (.ref b), some (.int what), some (.int (ac1 (twI t T w k a))), some (.int (ac2 (twI t T w k a))), some (.int (nI w)), some (.int (nI (w + 1 + k))), x6, x7, x8] [] (z, h, S', L) 0 0 := by
      intro w hwn a hB hn
      refine z_down ?_ (fun k hk ih => ?_)
      · intro S' x6 x7 x8 hf1
        have e1 := (hf1.f (j := 18) rfl).trans hl
        have e2 : S' (b + 19) lv = nI (tnw t) := by rw [hf1.at (o := 19) rfl rfl]; exact hnw
        refine sX10_twins_44 _ _ _ _ _ ?_
        simp (disch := omega) only [oAld, oAld1, oGI, oGR, oIfc, oIld, oInc, oIst, oNop, oPush, hM.1, hM.r32, hM.t32, hM.n32, e1, e2, List.getElem?_cons_zero, List.getElem?_cons_succ, List.set_cons_zero, List.set_cons_succ, List.drop_succ_cons, List.drop_zero, List.take_succ_cons, List.take_zero, List.length_cons, List.length_nil, List.reverse_cons, List.reverse_nil, List.nil_append, List.cons_append, Option.toList_some, Option.toList_none, va_rf_s, true_and, and_true, true_implies, false_implies, not_true_eq_false, not_false_eq_true, Nat.reduceAdd, Nat.reduceLeDiff, Nat.le_add_left, Nat.zero_le, Nat.le_refl, znew, true_or, or_true, b01_t, b01_f, b01_ok, bool_ft, vp_b01, vp_b0, vp_b1, b01_eq0, b01_eq1, implies_true, nI_add, nI_clamp, zi_in, zi_le_t, zi_le_f, zi_lt_t, zi_lt_f, zi_eq_t, zi_eq_f, nI_leI, nI_ltI, nI_eq, z_in, pk_mul, zu_same, zu_rw, zu_ix, zi_ne0, zi_sub, zi_m1, Nat.add_sub_cancel, Nat.reduceMul, Nat.reduceSub]
        exact hn S' _ _ _ _ hf1
      · intro S' x6 x7 x8 hf1
        have e1 := (hf1.f (j := 18) rfl).trans hl
        have e2 : S' (b + 19) lv = nI (tnw t) := by rw [hf1.at (o := 19) rfl rfl]; exact hnw
        refine sX10_twins_44 _ _ _ _ _ ?_
        simp (disch := omega) only [oAld, oAld1, oGI, oGR, oIfc, oIld, oInc, oIst, oNop, oPush, hM.1, hM.r32, hM.t32, hM.n32, e1, e2, List.getElem?_cons_zero, List.getElem?_cons_succ, List.set_cons_zero, List.set_cons_succ, List.drop_succ_cons, List.drop_zero, List.take_succ_cons, List.take_zero, List.length_cons, List.length_nil, List.reverse_cons, List.reverse_nil, List.nil_append, List.cons_append, Option.toList_some, Option.toList_none, va_rf_s, true_and, and_true, true_implies, false_implies, not_true_eq_false, not_false_eq_true, Nat.reduceAdd, Nat.reduceLeDiff, Nat.le_add_left, Nat.zero_le, Nat.le_refl, znew, true_or, or_true, b01_t, b01_f, b01_ok, bool_ft, vp_b01, vp_b0, vp_b1, b01_eq0, b01_eq1, implies_true, nI_add, nI_clamp, zi_in, zi_le_t, zi_le_f, zi_lt_t, zi_lt_f, zi_eq_t, zi_eq_f, nI_leI, nI_ltI, nI_eq, z_in, pk_mul, zu_same, zu_rw, zu_ix, zi_ne0, zi_sub, zi_m1, Nat.add_sub_cancel, Nat.reduceMul, Nat.reduceSub]
        exact loopY w (by omega) (w + 1 + k) (by omega) (twI t T w k a) (twI_B (by omega) (by omega) hB) (fun S' x6 x7 x8 hf => ih S' x6 x7 x8 hf) 0 (by omega) S' _ hf1
    have loopW : ∀ w, w ≤ tnw t → ∀ S' x5 x6 x7 x8, zfr [34, 35] [52] b S1 S' → zW V YX10_twins 24 [some (.ref b), some (.int what), some (.int (ac1 (twO t T w))), some (.int (ac2 (twO t T w))), some (.int (nI w)), x5, x6, x7, x8] [] (z, h, S', L) 0 0 := by
      refine z_down ?_ (fun w hwn ih => ?_)
      · intro S' x5 x6 x7 x8 hf1
        have e1 := (hf1.f (j := 18) rfl).trans hl
        have e2 : S' (b + 19) lv = nI (tnw t) := by rw [hf1.at (o := 19) rfl rfl]; exact hnw
        refine sX10_twins_24 _ _ _ _ _ ?_
        simp (disch := omega) only [oAld, oAld1, oBin, oGI, oGR, oIf, oIfc, oIld, oIst, oNop, oPush, oRI, hM.1, hM.r32, hM.t32, hM.n32, e1, e2, List.getElem?_cons_zero, List.getElem?_cons_succ, List.set_cons_zero, List.set_cons_succ, List.drop_succ_cons, List.drop_zero, List.take_succ_cons, List.take_zero, List.length_cons, List.length_nil, List.reverse_cons, List.reverse_nil, List.nil_append, List.cons_append, Option.toList_some, Option.toList_none, va_rf_s, true_and, and_true, true_implies, false_implies, not_true_eq_false, not_false_eq_true, Nat.reduceAdd, Nat.reduceLeDiff, Nat.le_add_left, Nat.zero_le, Nat.le_refl, znew, true_or, or_true, b01_t, b01_f, b01_ok, bool_ft, vp_b01, vp_b0, vp_b1, b01_eq0, b01_eq1, implies_true, nI_add, nI_clamp, zi_in, zi_le_t, zi_le_f, zi_lt_t, zi_lt_f, zi_eq_t, zi_eq_f, nI_leI, nI_ltI, nI_eq, z_in, pk_mul, zu_same, zu_rw, zu_ix, zi_ne0, zi_sub, zi_m1, Nat.add_sub_cancel, Nat.reduceMul, Nat.reduceSub]
        refine ⟨fun h0 => hVQ _ _ ⟨S', rfl, hE.q hf1 rfl rfl rfl, ?_⟩, fun h0 => hVQ _ _ ⟨S', rfl, hE.q hf1 rfl rfl rfl, ?_⟩⟩
        · rw [twinsR, if_pos hw, if_pos h0]
        · rw [twinsR, if_pos hw, if_neg h0]
      · intro S' x5 x6 x7 x8 hf1
        have e1 := (hf1.f (j := 18) rfl).trans hl
        have e2 : S' (b + 19) lv = nI (tnw t) := by rw [hf1.at (o := 19) rfl rfl]; exact hnw
        refine sX10_twins_24 _ _ _ _ _ ?_
        simp (disch := omega) only [oAld, oAld1, oBin, oGI, oGR, oIf, oIfc, oIld, oIst, oNop, oPush, oRI, hM.1, hM.r32, hM.t32, hM.n32, e1, e2, List.getElem?_cons_zero, List.getElem?_cons_succ, List.set_cons_zero, List.set_cons_succ, List.drop_succ_cons, List.drop_zero, List.take_succ_cons, List.take_zero, List.length_cons, List.length_nil, List.reverse_cons, List.reverse_nil, List.nil_append, List.cons_append, Option.toList_some, Option.toList_none, va_rf_s, true_and, and_true, true_implies, false_implies, not_true_eq_false, not_false_eq_true, Nat.reduceAdd, Nat.reduceLeDiff, Nat.le_add_left, Nat.zero_le, Nat.le_refl, znew, true_or, or_true, b01_t, b01_f, b01_ok, bool_ft, vp_b01, vp_b0, vp_b1, b01_eq0, b01_eq1, implies_true, nI_add, nI_clamp, zi_in, zi_le_t, zi_le_f, zi_lt_t, zi_lt_f, zi_eq_t, zi_eq_f, nI_leI, nI_ltI, nI_eq, z_in, pk_mul, zu_same, zu_rw, zu_ix, zi_ne0, zi_sub, zi_m1, Nat.add_sub_cancel, Nat.reduceMul, Nat.reduceSub]
        exact loopO w hwn (twO t T w) (twO_B hnw5 (by omega)) (fun S' x5 x6 x7 x8 hf => ih S' x5 x6 x7 x8 hf) 0 (by omega) S' _ _ _ hf1
    refine sX10_twins_15 _ _ _ _ _ ?_
    simp (disch := omega) only [oIst, oPush, List.getElem?_cons_zero, List.getElem?_cons_succ, List.set_cons_zero, List.set_cons_succ, List.drop_succ_cons, List.drop_zero, List.take_succ_cons, List.take_zero, List.length_cons, List.length_nil, List.reverse_cons, List.reverse_nil, List.nil_append, List.cons_append, Option.toList_some, Option.toList_none, va_rf_s, true_and, and_true, true_implies, false_implies, not_true_eq_false, not_false_eq_true, Nat.reduceAdd, Nat.reduceLeDiff, Nat.le_add_left, Nat.zero_le, Nat.le_refl, znew, true_or, or_true, b01_t, b01_f, b01_ok, bool_ft, vp_b01, vp_b0, vp_b1, b01_eq0, b01_eq1, implies_true, nI_add, nI_clamp, zi_in, zi_le_t, zi_le_f, zi_lt_t, zi_lt_f, zi_eq_t, zi_eq_f, nI_leI, nI_ltI, nI_eq, z_in, pk_mul, zu_same, zu_rw, zu_ix, zi_ne0, zi_sub, zi_m1, Nat.add_sub_cancel, Nat.reduceMul, Nat.reduceSub]
    exact loopW 0 (by omega) S1 _ _ _ _ zfr.rf
end MM
