/-! the model: hours that would be, the brightest corner, counts -/
def oN (o : Option Nat) : Int32 := match o with
  | none => -2
  | some k => nI k
/-- the first best one below n -/
def amax (f : Nat → Int32) : Nat → Option Nat
  | 0 => none
  | n + 1 => match amax f n with
    | none => some n
    | some b => if f b < f n then some n else some b
theorem amax_lt {f : Nat → Int32} : ∀ {n b}, amax f n = some b → b < n
  | n + 1, b, h => by
    rw [amax] at h
    cases ha : amax f n with
    | none => rw [ha] at h; simp at h; omega
    | some c =>
      rw [ha] at h
      have := amax_lt ha
      by_cases hc : f c < f n
      · simp [hc] at h; omega
      · simp [hc] at h; omega
theorem amax_n {f : Nat → Int32} {n : Nat} (h : amax f n = none) : amax f (n + 1) = some n := by rw [amax, h]
theorem amax_t {f : Nat → Int32} {n b : Nat} (h : amax f n = some b) (hc : f b < f n) : amax f (n + 1) = some n := by rw [amax, h]; simp [hc]
theorem amax_f {f : Nat → Int32} {n b : Nat} (h : amax f n = some b) (hc : ¬ f b < f n) : amax f (n + 1) = some b := by rw [amax, h]; simp [hc]
theorem m2lt : ((-2 : Int32) < nI 0) = True := eq_true (by decide)
theorem m1lt : ((-1 : Int32) < nI 0) = True := eq_true (by decide)
theorem i_nle {x y : Int32} (h : x ≤ y) : ¬ y < x := by
  rw [Int32.le_iff_toInt_le] at h; rw [Int32.lt_iff_toInt_lt]; omega
theorem i_lt {x y : Int32} (h : ¬ x ≤ y) : y < x := by
  rw [Int32.le_iff_toInt_le] at h; rw [Int32.lt_iff_toInt_lt]; omega
theorem i_le {x y : Int32} (h : ¬ x < y) : y ≤ x := by
  rw [Int32.lt_iff_toInt_lt] at h; rw [Int32.le_iff_toInt_le]; omega
def litR (t : ZT) (T : Nat → Int32) : Int32 := setF (fun s => decide (tlo t s ≤ lightF (tny t) T (nI (tone t s)) + lightF (tny t) T (nI (toth t s)))) (tns t)
def homeR (t : ZT) (T : Nat → Int32) : Int32 := setF (fun y => decide (T (12 + y) = nI 1)) (tny t)
/-- the young ones are home or not -/
def rowH (t : ZT) (T : Nat → Int32) : Prop := ∀ y, y < tny t → T (12 + y) = nI 0 ∨ T (12 + y) = nI 1
theorem setF_ext {p q : Nat → Bool} : ∀ {n : Nat}, (∀ k, k < n → p k = q k) → setF p n = setF q n
  | 0, _ => rfl
  | n + 1, h => by rw [setF, setF, setF_ext (fun k hk => h k (by omega)), h n (by omega)]
def brightR (t : ZT) (T : Nat → Int32) (what : Int32) : Int32 := if okI what 2 = true then (match amax (fun c => lightF (tny t) T (nI c)) (tnc t) with
  | none => -2
  | some c => if what = nI 0 then nI c else lightF (tny t) T (nI c)) else -1
def glowInR (t : ZT) (T : Nat → Int32) (y n : Int32) : Int32 := if okI y (tny t) = true ∧ okI n 73 = true then hoursT t (nI 0) (tsd t) n.toNatClampNeg T (6 + y.toNatClampNeg) else -1
def thenR (t : ZT) (T : Nat → Int32) (n what : Int32) : Int32 := if okI n 73 = true ∧ okI what 2 = true then (if what = nI 0 then litR t (hoursT t (nI 0) (tsd t) n.toNatClampNeg T) else homeR t (hoursT t (nI 0) (tsd t) n.toNatClampNeg T)) else -1
def yearC (t : ZT) (T : Nat → Int32) (s n : Nat) : Nat → Nat
  | 0 => 0
  | k + 1 => if needR t (hoursT t (nI 0) (tsd t + nI k) n T) s = nI 0 then yearC t T s n k + 1 else yearC t T s n k
theorem yearC_le {t : ZT} {T : Nat → Int32} {s n : Nat} : ∀ k, yearC t T s n k ≤ k
  | 0 => Nat.le_refl _
  | k + 1 => by rw [yearC]; have := yearC_le (t := t) (T := T) (s := s) (n := n) k; split <;> omega
def yearR (t : ZT) (T : Nat → Int32) (s n many : Int32) : Int32 := if okI s (tns t) = true ∧ okI n 73 = true ∧ (nI 1 ≤ many ∧ many ≤ nI 20) then nI (yearC t T s.toNatClampNeg n.toNatClampNeg many.toNatClampNeg) else -1
def darkC (t : ZT) (s : Nat) : Nat → Nat → (Nat → Int32) → Int32
  | 0, _, _ => -2
  | f + 1, n, R => if nI 0 < needR t R s then nI n else darkC t s f (n + 1) (hourT t (nI 1) (tsd t) R)
def darkensR (t : ZT) (T : Nat → Int32) (s : Int32) : Int32 := if okI s (tns t) = true then darkC t s.toNatClampNeg 101 0 T else -1
def sumI (f : Nat → Int32) : Nat → Int32
  | 0 => nI 0
  | n + 1 => sumI f n + f n
theorem zM.weak {l : Launch} {E : zE} {d mc ms : Nat} {Y : zY} {av : List Value} {X : zX} {Q Q' : Option Value → zX → Prop} {QX : Nat → zX → Prop} (hM : zM l E d Y av X mc ms Q QX) (h : ∀ r X, Q r X → Q' r X) : zM l E d Y av X mc ms Q' QX := by
  intro p e ha hc hk s m args below hf happ hP hK
  obtain ⟨n, o, h1, h2, h3, h4⟩ := hM p e ha hc hk s m args below hf happ hP hK
  refine ⟨n, o, h1, h2, h3, h4.imp ?_ id⟩
  rintro ⟨⟨r, X, q1, q2, q3⟩, q4⟩
  exact ⟨⟨r, X, q1, h _ _ q2, q3⟩, q4⟩
section MK
variable {l : Launch} {E : zE} {b z : Nat} {h : Nat → Option zSh} {S : Nat → Nat → Int32} {L : Nat → Nat → Int64} {lv : Nat} {t : ZT} {T R : Nat → Int32}
theorem zG_lit (hM : isM h b) (hX : mX b S lv t) (hr : S (b + 37) = R) :
    zM l E 1 YX10_litBits [.ref b] (z, h, S, L) 0 0 (fun r X => ∃ S', X = (z, h, S', L) ∧ zfr [40] [] b S S' ∧ r = some (.int (litR t R))) (fun _ _ => False) := by
  have hE : setF (fun s => decide (S (b + 14) (10 * lv + s) ≤ lightF (tny t) (S (b + 37)) (nI (tone t s)) + lightF (tny t) (S (b + 37)) (nI (toth t s)))) (tns t) = litR t R := setF_ext (fun k hk => by rw [hX.2.2.2.2.1 k hk, hr])
  rw [← hE]
  exact zX10_litBits hM hX.1 hX.2.1
theorem zG_home (hM : isM h b) (hX : mX b S lv t) (hr : S (b + 37) = R) (hH : rowH t R) :
    zM l E 0 YX10_homeBits [.ref b] (z, h, S, L) 0 0 (fun r X => r = some (.int (homeR t R)) ∧ X = (z, h, S, L)) (fun _ _ => False) := by
  have := zX10_homeBits (l := l) (E := E) (z := z) (L := L) hM hX.1 (fun y hy => by rw [hr]; exact hH y hy)
  rw [hr] at this; exact this
theorem zG_needs (hM : isM h b) (hX : mX b S lv t) (hr : S (b + 37) = R) {s : Nat} (hs : s < tns t) :
    zM l E 1 YX10_needsOf [.ref b, .int (nI s)] (z, h, S, L) 0 0 (fun r X => r = some (.int (needR t R s)) ∧ X = (z, h, S, L)) (fun _ _ => False) := by
  have := zX10_needsOf (l := l) (E := E) (z := z) (L := L) hM hX.1 hX.2.1 hs
  rw [hr, hX.2.2.2.2.1 s hs] at this; exact this
theorem hoursT_hi {still seed : Int32} (hX : mX b S lv t) {n j : Nat} (hj : 48 ≤ j) : hoursT t still seed n T j = T j := by
  unfold hoursT
  exact hoursF_hi hX.1.2.2.2.1.2 hj n T
theorem hourT_hi {still seed : Int32} (hX : mX b S lv t) {j : Nat} (hj : 48 ≤ j) : hourT t still seed T j = T j := by
  unfold hourT
  exact hourF_hi hX.1.2.2.2.1.2 hj
/-- hours on a copy -/
theorem zG_goes {seed : Int32} (hM : isM h b) (hX : mX b S lv t) (hr : S (b + 37) = R) (hs : S b 55 = seed) (hst : S b 56 = nI 0) {m : Nat} (hm : m ≤ 1000) :
    zM l E 4 YX10_goes [.ref b, .int (nI m)] (z, h, S, L) 0 0 (fun r X => r = none ∧ ∃ S', X = (z, h, S', L) ∧ zfr [34, 35, 37, 38, 39] [52] b S S' ∧ S' (b + 37) = hoursT t (nI 0) seed m R) (fun _ _ => False) := by
  have := zX10_goes (l := l) (E := E) (z := z) (L := L) hM hX.1 hX.2.2.1 hX.2.2.2.1 hm
  rw [hr, hs, hst, hX.2.2.2.2.2.1] at this
  exact this
/-- a fresh copy -/
theorem zG_copies (hM : isM h b) (hQ : mQ b S lv t T) :
    zM l E 0 YX10_copies [.ref b] (z, h, S, L) 0 0 (fun r X => r = none ∧ ∃ S', X = (z, h, S', L) ∧ mE b S S' ∧ mX b S' lv t ∧ S' (b + 37) = T ∧ S' (b + 36) = T ∧ S' b 55 = tsd t ∧ S' b 56 = nI 0) (fun _ _ => False) := by
  obtain ⟨hX, hZ, hN⟩ := hQ
  have hC := zX10_copies (l := l) (E := E) (z := z) (L := L) hM hX.1 hZ
  refine zM.weak hC ?_
  rintro r X ⟨rfl, S1, rfl, hf1, hr1, hl1, hs1⟩
  exact ⟨rfl, S1, rfl, mE.of hZ hf1 rfl rfl (fun j hj => by rw [hr1]; exact hZ.1 j hj), hX.fr hf1 rfl rfl, hr1.trans hN, (hf1.at (o := 36) rfl rfl).trans hN, hl1.trans hX.2.2.2.2.2.2, hs1⟩
theorem zX10_brightest (hM : isM h b) (hQ : mQ b S lv t T) (what : Int32) :
    zM l E 2 YX10_brightest [.ref b, .int what] (z, h, S, L) 0 0 (fun r X => ∃ S', X = (z, h, S', L) ∧ mE b S S' ∧ r = some (.int (brightR t T what))) (fun _ _ => False) := by
  have hZ := hQ.2.1
  refine zM.go rfl rfl (Nat.le_of_ble_eq_true rfl) (ls := [some (.ref b), some (.int what), none, none]) rfl ?_
  intro V hVl hVE hVd hVc hVs hVQ hVX
  refine sX10_brightest_0 _ _ _ _ _ ?_
  simp (disch := omega) only [oCS, oIld, oPush, List.getElem?_cons_zero, List.getElem?_cons_succ, List.set_cons_zero, List.set_cons_succ, List.drop_succ_cons, List.drop_zero, List.take_succ_cons, List.take_zero, List.length_cons, List.length_nil, List.reverse_cons, List.reverse_nil, List.nil_append, List.cons_append, Option.toList_some, Option.toList_none, va_rf_s, true_and, and_true, true_implies, false_implies, not_true_eq_false, not_false_eq_true, Nat.reduceAdd, Nat.reduceLeDiff, Nat.le_add_left, Nat.zero_le, Nat.le_refl, znew, true_or, or_true, b01_t, b01_f, b01_ok, bool_ft, vp_b01, vp_b0, vp_b1, b01_eq0, b01_eq1, implies_true, nI_add, nI_clamp, zi_in, zi_le_t, zi_le_f, zi_lt_t, zi_lt_f, zi_eq_t, zi_eq_f, nI_leI, nI_ltI, nI_eq, z_in, pk_mul, zu_same, zu_rw, zu_ix, zi_ne0, zi_sub, zi_m1, Nat.add_sub_cancel, Nat.reduceMul, Nat.reduceSub]
  refine zC.of0 (zX10_in _ _ _ _) (by omega) (Nat.zero_le _) (Nat.zero_le _) ?_
  rintro _ _ ⟨rfl, rfl⟩
  rw [okI_dec2 (by omega)]
  cases hw : okI what (1 + 1) with
  | false =>
    refine sX10_brightest_6 _ _ _ _ _ ?_
    simp (disch := omega) only [oAld, oCV, oIf, oPush, oRI, hM.1, List.getElem?_cons_zero, List.getElem?_cons_succ, List.set_cons_zero, List.set_cons_succ, List.drop_succ_cons, List.drop_zero, List.take_succ_cons, List.take_zero, List.length_cons, List.length_nil, List.reverse_cons, List.reverse_nil, List.nil_append, List.cons_append, Option.toList_some, Option.toList_none, va_rf_s, true_and, and_true, true_implies, false_implies, not_true_eq_false, not_false_eq_true, Nat.reduceAdd, Nat.reduceLeDiff, Nat.le_add_left, Nat.zero_le, Nat.le_refl, znew, true_or, or_true, b01_t, b01_f, b01_ok, bool_ft, vp_b01, vp_b0, vp_b1, b01_eq0, b01_eq1, implies_true, nI_add, nI_clamp, zi_in, zi_le_t, zi_le_f, zi_lt_t, zi_lt_f, zi_eq_t, zi_eq_f, nI_leI, nI_ltI, nI_eq, z_in, pk_mul, zu_same, zu_rw, zu_ix, zi_ne0, zi_sub, zi_m1, Nat.add_sub_cancel, Nat.reduceMul, Nat.reduceSub]
    exact hVQ _ _ ⟨S, rfl, mE.rf hZ, by simp [brightR, hw]⟩
  | true =>
    refine sX10_brightest_6 _ _ _ _ _ ?_
    simp (disch := omega) only [oAld, oCV, oIf, oPush, oRI, hM.1, List.getElem?_cons_zero, List.getElem?_cons_succ, List.set_cons_zero, List.set_cons_succ, List.drop_succ_cons, List.drop_zero, List.take_succ_cons, List.take_zero, List.length_cons, List.length_nil, List.reverse_cons, List.reverse_nil, List.nil_append, List.cons_append, Option.toList_some, Option.toList_none, va_rf_s, true_and, and_true, true_implies, false_implies, not_true_eq_false, not_false_eq_true, Nat.reduceAdd, Nat.reduceLeDiff, Nat.le_add_left, Nat.zero_le, Nat.le_refl, znew, true_or, or_true, b01_t, b01_f, b01_ok, bool_ft, vp_b01, vp_b0, vp_b1, b01_eq0, b01_eq1, implies_true, nI_add, nI_clamp, zi_in, zi_le_t, zi_le_f, zi_lt_t, zi_lt_f, zi_eq_t, zi_eq_f, nI_leI, nI_ltI, nI_eq, z_in, pk_mul, zu_same, zu_rw, zu_ix, zi_ne0, zi_sub, zi_m1, Nat.add_sub_cancel, Nat.reduceMul, Nat.reduceSub]
    refine zC.of0 (zG_copies hM hQ) (by omega) (Nat.zero_le _) (Nat.zero_le _) ?_
    rintro _ _ ⟨rfl, S1, rfl, hE, hX1, hr, -, -, -⟩
    obtain ⟨⟨hl, hlv⟩, ⟨hnc, hnc7⟩, -⟩ := id hX1.1
    generalize hf : (fun c => lightF (tny t) T (nI c)) = f
    have hf' : ∀ c, lightF (tny t) T (nI c) = f c := fun c => by rw [← hf]
    have loop : ∀ y, y ≤ tnc t → zW V YX10_brightest 20 [some (.ref b), some (.int what), some (.int (oN (amax f y))), some (.int (nI y))] [] (z, h, S1, L) 0 0 := by
      refine z_down ?_ (fun y hy ih => ?_)
      · cases ha : amax f (tnc t) with
        | none =>
          rw [show oN none = -2 from rfl]
          refine sX10_brightest_20 _ _ _ _ _ ?_
          simp (disch := omega) only [oAld, oAld1, oCV, oGI, oGR, oIf, oIfc, oIld, oInc, oIst, oNop, hM.1, hM.r23, hM.t23, hM.n23, hl, hnc, m2lt, List.getElem?_cons_zero, List.getElem?_cons_succ, List.set_cons_zero, List.set_cons_succ, List.drop_succ_cons, List.drop_zero, List.take_succ_cons, List.take_zero, List.length_cons, List.length_nil, List.reverse_cons, List.reverse_nil, List.nil_append, List.cons_append, Option.toList_some, Option.toList_none, va_rf_s, true_and, and_true, true_implies, false_implies, not_true_eq_false, not_false_eq_true, Nat.reduceAdd, Nat.reduceLeDiff, Nat.le_add_left, Nat.zero_le, Nat.le_refl, znew, true_or, or_true, b01_t, b01_f, b01_ok, bool_ft, vp_b01, vp_b0, vp_b1, b01_eq0, b01_eq1, implies_true, nI_add, nI_clamp, zi_in, zi_le_t, zi_le_f, zi_lt_t, zi_lt_f, zi_eq_t, zi_eq_f, nI_leI, nI_ltI, nI_eq, z_in, pk_mul, zu_same, zu_rw, zu_ix, zi_ne0, zi_sub, zi_m1, Nat.add_sub_cancel, Nat.reduceMul, Nat.reduceSub]
          refine sX10_brightest_75 _ _ _ _ _ ?_
          simp (disch := omega) only [oRI, List.getElem?_cons_zero, List.getElem?_cons_succ, List.set_cons_zero, List.set_cons_succ, List.drop_succ_cons, List.drop_zero, List.take_succ_cons, List.take_zero, List.length_cons, List.length_nil, List.reverse_cons, List.reverse_nil, List.nil_append, List.cons_append, Option.toList_some, Option.toList_none, va_rf_s, true_and, and_true, true_implies, false_implies, not_true_eq_false, not_false_eq_true, Nat.reduceAdd, Nat.reduceLeDiff, Nat.le_add_left, Nat.zero_le, Nat.le_refl, znew, true_or, or_true, b01_t, b01_f, b01_ok, bool_ft, vp_b01, vp_b0, vp_b1, b01_eq0, b01_eq1, implies_true, nI_add, nI_clamp, zi_in, zi_le_t, zi_le_f, zi_lt_t, zi_lt_f, zi_eq_t, zi_eq_f, nI_leI, nI_ltI, nI_eq, z_in, pk_mul, zu_same, zu_rw, zu_ix, zi_ne0, zi_sub, zi_m1, Nat.add_sub_cancel, Nat.reduceMul, Nat.reduceSub]
          exact hVQ _ _ ⟨S1, rfl, hE, by rw [brightR, if_pos hw, hf, ha]⟩
        | some c =>
          have hc := amax_lt ha
          rw [show oN (some c) = nI c from rfl]
          refine sX10_brightest_20 _ _ _ _ _ ?_
          simp (disch := omega) only [oAld, oAld1, oCV, oGI, oGR, oIf, oIfc, oIld, oInc, oIst, oNop, hM.1, hM.r23, hM.t23, hM.n23, hl, hnc, List.getElem?_cons_zero, List.getElem?_cons_succ, List.set_cons_zero, List.set_cons_succ, List.drop_succ_cons, List.drop_zero, List.take_succ_cons, List.take_zero, List.length_cons, List.length_nil, List.reverse_cons, List.reverse_nil, List.nil_append, List.cons_append, Option.toList_some, Option.toList_none, va_rf_s, true_and, and_true, true_implies, false_implies, not_true_eq_false, not_false_eq_true, Nat.reduceAdd, Nat.reduceLeDiff, Nat.le_add_left, Nat.zero_le, Nat.le_refl, znew, true_or, or_true, b01_t, b01_f, b01_ok, bool_ft, vp_b01, vp_b0, vp_b1, b01_eq0, b01_eq1, implies_true, nI_add, nI_clamp, zi_in, zi_le_t, zi_le_f, zi_lt_t, zi_lt_f, zi_eq_t, zi_eq_f, nI_leI, nI_ltI, nI_eq, z_in, pk_mul, zu_same, zu_rw, zu_ix, zi_ne0, zi_sub, zi_m1, Nat.add_sub_cancel, Nat.reduceMul, Nat.reduceSub]
          refine ⟨fun h0 => ?_, fun h0 => ?_⟩
          · refine sX10_brightest_75 _ _ _ _ _ ?_
            simp (disch := omega) only [oRI, List.getElem?_cons_zero, List.getElem?_cons_succ, List.set_cons_zero, List.set_cons_succ, List.drop_succ_cons, List.drop_zero, List.take_succ_cons, List.take_zero, List.length_cons, List.length_nil, List.reverse_cons, List.reverse_nil, List.nil_append, List.cons_append, Option.toList_some, Option.toList_none, va_rf_s, true_and, and_true, true_implies, false_implies, not_true_eq_false, not_false_eq_true, Nat.reduceAdd, Nat.reduceLeDiff, Nat.le_add_left, Nat.zero_le, Nat.le_refl, znew, true_or, or_true, b01_t, b01_f, b01_ok, bool_ft, vp_b01, vp_b0, vp_b1, b01_eq0, b01_eq1, implies_true, nI_add, nI_clamp, zi_in, zi_le_t, zi_le_f, zi_lt_t, zi_lt_f, zi_eq_t, zi_eq_f, nI_leI, nI_ltI, nI_eq, z_in, pk_mul, zu_same, zu_rw, zu_ix, zi_ne0, zi_sub, zi_m1, Nat.add_sub_cancel, Nat.reduceMul, Nat.reduceSub]
            exact hVQ _ _ ⟨S1, rfl, hE, by rw [brightR, if_pos hw, hf, ha]; simp only []; rw [if_pos h0]⟩
          · refine zC.of0 (zX10_lightAt hM hX1.1 _) (by omega) (Nat.zero_le _) (Nat.zero_le _) ?_
            rintro _ _ ⟨rfl, rfl⟩
            rw [hr, hf']
            refine sX10_brightest_75 _ _ _ _ _ ?_
            simp (disch := omega) only [oRI, List.getElem?_cons_zero, List.getElem?_cons_succ, List.set_cons_zero, List.set_cons_succ, List.drop_succ_cons, List.drop_zero, List.take_succ_cons, List.take_zero, List.length_cons, List.length_nil, List.reverse_cons, List.reverse_nil, List.nil_append, List.cons_append, Option.toList_some, Option.toList_none, va_rf_s, true_and, and_true, true_implies, false_implies, not_true_eq_false, not_false_eq_true, Nat.reduceAdd, Nat.reduceLeDiff, Nat.le_add_left, Nat.zero_le, Nat.le_refl, znew, true_or, or_true, b01_t, b01_f, b01_ok, bool_ft, vp_b01, vp_b0, vp_b1, b01_eq0, b01_eq1, implies_true, nI_add, nI_clamp, zi_in, zi_le_t, zi_le_f, zi_lt_t, zi_lt_f, zi_eq_t, zi_eq_f, nI_leI, nI_ltI, nI_eq, z_in, pk_mul, zu_same, zu_rw, zu_ix, zi_ne0, zi_sub, zi_m1, Nat.add_sub_cancel, Nat.reduceMul, Nat.reduceSub]
            exact hVQ _ _ ⟨S1, rfl, hE, by rw [brightR, if_pos hw, hf, ha]; simp only []; rw [if_neg h0, hf']⟩
      · cases ha : amax f y with
        | none =>
          rw [amax_n ha] at ih
          rw [show oN none = -2 from rfl]
          refine sX10_brightest_20 _ _ _ _ _ ?_
          simp (disch := omega) only [oAld, oAld1, oCV, oGI, oGR, oIf, oIfc, oIld, oInc, oIst, oNop, hM.1, hM.r23, hM.t23, hM.n23, hl, hnc, m2lt, List.getElem?_cons_zero, List.getElem?_cons_succ, List.set_cons_zero, List.set_cons_succ, List.drop_succ_cons, List.drop_zero, List.take_succ_cons, List.take_zero, List.length_cons, List.length_nil, List.reverse_cons, List.reverse_nil, List.nil_append, List.cons_append, Option.toList_some, Option.toList_none, va_rf_s, true_and, and_true, true_implies, false_implies, not_true_eq_false, not_false_eq_true, Nat.reduceAdd, Nat.reduceLeDiff, Nat.le_add_left, Nat.zero_le, Nat.le_refl, znew, true_or, or_true, b01_t, b01_f, b01_ok, bool_ft, vp_b01, vp_b0, vp_b1, b01_eq0, b01_eq1, implies_true, nI_add, nI_clamp, zi_in, zi_le_t, zi_le_f, zi_lt_t, zi_lt_f, zi_eq_t, zi_eq_f, nI_leI, nI_ltI, nI_eq, z_in, pk_mul, zu_same, zu_rw, zu_ix, zi_ne0, zi_sub, zi_m1, Nat.add_sub_cancel, Nat.reduceMul, Nat.reduceSub]
          exact ih
        | some c =>
          have hc := amax_lt ha
          rw [show oN (some c) = nI c from rfl]
          refine sX10_brightest_20 _ _ _ _ _ ?_
          simp (disch := omega) only [oAld, oAld1, oCV, oGI, oGR, oIf, oIfc, oIld, oInc, oIst, oNop, hM.1, hM.r23, hM.t23, hM.n23, hl, hnc, List.getElem?_cons_zero, List.getElem?_cons_succ, List.set_cons_zero, List.set_cons_succ, List.drop_succ_cons, List.drop_zero, List.take_succ_cons, List.take_zero, List.length_cons, List.length_nil, List.reverse_cons, List.reverse_nil, List.nil_append, List.cons_append, Option.toList_some, Option.toList_none, va_rf_s, true_and, and_true, true_implies, false_implies, not_true_eq_false, not_false_eq_true, Nat.reduceAdd, Nat.reduceLeDiff, Nat.le_add_left, Nat.zero_le, Nat.le_refl, znew, true_or, or_true, b01_t, b01_f, b01_ok, bool_ft, vp_b01, vp_b0, vp_b1, b01_eq0, b01_eq1, implies_true, nI_add, nI_clamp, zi_in, zi_le_t, zi_le_f, zi_lt_t, zi_lt_f, zi_eq_t, zi_eq_f, nI_leI, nI_ltI, nI_eq, z_in, pk_mul, zu_same, zu_rw, zu_ix, zi_ne0, zi_sub, zi_m1, Nat.add_sub_cancel, Nat.reduceMul, Nat.reduceSub]
          refine zC.of0 (zX10_lightAt hM hX1.1 _) (by omega) (Nat.zero_le _) (Nat.zero_le _) ?_
          rintro _ _ ⟨rfl, rfl⟩
          rw [hr, hf']
          refine sX10_brightest_42 _ _ _ _ _ ?_
          simp (disch := omega) only [oAld, oCV, oIld, hM.1, List.getElem?_cons_zero, List.getElem?_cons_succ, List.set_cons_zero, List.set_cons_succ, List.drop_succ_cons, List.drop_zero, List.take_succ_cons, List.take_zero, List.length_cons, List.length_nil, List.reverse_cons, List.reverse_nil, List.nil_append, List.cons_append, Option.toList_some, Option.toList_none, va_rf_s, true_and, and_true, true_implies, false_implies, not_true_eq_false, not_false_eq_true, Nat.reduceAdd, Nat.reduceLeDiff, Nat.le_add_left, Nat.zero_le, Nat.le_refl, znew, true_or, or_true, b01_t, b01_f, b01_ok, bool_ft, vp_b01, vp_b0, vp_b1, b01_eq0, b01_eq1, implies_true, nI_add, nI_clamp, zi_in, zi_le_t, zi_le_f, zi_lt_t, zi_lt_f, zi_eq_t, zi_eq_f, nI_leI, nI_ltI, nI_eq, z_in, pk_mul, zu_same, zu_rw, zu_ix, zi_ne0, zi_sub, zi_m1, Nat.add_sub_cancel, Nat.reduceMul, Nat.reduceSub]
          refine zC.of0 (zX10_lightAt hM hX1.1 _) (by omega) (Nat.zero_le _) (Nat.zero_le _) ?_
          rintro _ _ ⟨rfl, rfl⟩
          rw [hr, hf']
          refine sX10_brightest_47 _ _ _ _ _ ?_
          simp (disch := omega) only [oIfc, oIld, oInc, oIst, oNop, List.getElem?_cons_zero, List.getElem?_cons_succ, List.set_cons_zero, List.set_cons_succ, List.drop_succ_cons, List.drop_zero, List.take_succ_cons, List.take_zero, List.length_cons, List.length_nil, List.reverse_cons, List.reverse_nil, List.nil_append, List.cons_append, Option.toList_some, Option.toList_none, va_rf_s, true_and, and_true, true_implies, false_implies, not_true_eq_false, not_false_eq_true, Nat.reduceAdd, Nat.reduceLeDiff, Nat.le_add_left, Nat.zero_le, Nat.le_refl, znew, true_or, or_true, b01_t, b01_f, b01_ok, bool_ft, vp_b01, vp_b0, vp_b1, b01_eq0, b01_eq1, implies_true, nI_add, nI_clamp, zi_in, zi_le_t, zi_le_f, zi_lt_t, zi_lt_f, zi_eq_t, zi_eq_f, nI_leI, nI_ltI, nI_eq, z_in, pk_mul, zu_same, zu_rw, zu_ix, zi_ne0, zi_sub, zi_m1, Nat.add_sub_cancel, Nat.reduceMul, Nat.reduceSub]
          refine ⟨fun h0 => ?_, fun h0 => ?_⟩
          · rw [amax_f ha (i_nle h0)] at ih; exact ih
          · rw [amax_t ha (i_lt h0)] at ih; exact ih
    refine sX10_brightest_15 _ _ _ _ _ ?_
    simp (disch := omega) only [oIst, oPush, List.getElem?_cons_zero, List.getElem?_cons_succ, List.set_cons_zero, List.set_cons_succ, List.drop_succ_cons, List.drop_zero, List.take_succ_cons, List.take_zero, List.length_cons, List.length_nil, List.reverse_cons, List.reverse_nil, List.nil_append, List.cons_append, Option.toList_some, Option.toList_none, va_rf_s, true_and, and_true, true_implies, false_implies, not_true_eq_false, not_false_eq_true, Nat.reduceAdd, Nat.reduceLeDiff, Nat.le_add_left, Nat.zero_le, Nat.le_refl, znew, true_or, or_true, b01_t, b01_f, b01_ok, bool_ft, vp_b01, vp_b0, vp_b1, b01_eq0, b01_eq1, implies_true, nI_add, nI_clamp, zi_in, zi_le_t, zi_le_f, zi_lt_t, zi_lt_f, zi_eq_t, zi_eq_f, nI_leI, nI_ltI, nI_eq, z_in, pk_mul, zu_same, zu_rw, zu_ix, zi_ne0, zi_sub, zi_m1, Nat.add_sub_cancel, Nat.reduceMul, Nat.reduceSub]
    exact loop 0 (by omega)
theorem zX10_glowIn (hM : isM h b) (hQ : mQ b S lv t T) (y n : Int32) :
    zM l E 5 YX10_glowIn [.ref b, .int y, .int n] (z, h, S, L) 0 0 (fun r X => ∃ S', X = (z, h, S', L) ∧ mE b S S' ∧ r = some (.int (glowInR t T y n))) (fun _ _ => False) := by
  obtain ⟨hX, hZ, hN⟩ := id hQ
  have hny6 : tny t ≤ 6 := hX.1.2.2.2.1.2
  refine zM.go rfl rfl (Nat.le_of_ble_eq_true rfl) (ls := [some (.ref b), some (.int y), some (.int n)]) rfl ?_
  intro V hVl hVE hVd hVc hVs hVQ hVX
  refine sX10_glowIn_0 _ _ _ _ _ ?_
  simp (disch := omega) only [oAld, oCV, oIld, hM.1, List.getElem?_cons_zero, List.getElem?_cons_succ, List.set_cons_zero, List.set_cons_succ, List.drop_succ_cons, List.drop_zero, List.take_succ_cons, List.take_zero, List.length_cons, List.length_nil, List.reverse_cons, List.reverse_nil, List.nil_append, List.cons_append, Option.toList_some, Option.toList_none, va_rf_s, true_and, and_true, true_implies, false_implies, not_true_eq_false, not_false_eq_true, Nat.reduceAdd, Nat.reduceLeDiff, Nat.le_add_left, Nat.zero_le, Nat.le_refl, znew, true_or, or_true, b01_t, b01_f, b01_ok, bool_ft, vp_b01, vp_b0, vp_b1, b01_eq0, b01_eq1, implies_true, nI_add, nI_clamp, zi_in, zi_le_t, zi_le_f, zi_lt_t, zi_lt_f, zi_eq_t, zi_eq_f, nI_leI, nI_ltI, nI_eq, z_in, pk_mul, zu_same, zu_rw, zu_ix, zi_ne0, zi_sub, zi_m1, Nat.add_sub_cancel, Nat.reduceMul, Nat.reduceSub]
  refine zC.of0 (zX10_isYoung hM hX.1 _) (by omega) (Nat.zero_le _) (Nat.zero_le _) ?_
  rintro _ _ ⟨rfl, rfl⟩
  refine sX10_glowIn_5 _ _ _ _ _ ?_
  simp (disch := omega) only [oCS, oIf, oIld, oPush, oRI, List.getElem?_cons_zero, List.getElem?_cons_succ, List.set_cons_zero, List.set_cons_succ, List.drop_succ_cons, List.drop_zero, List.take_succ_cons, List.take_zero, List.length_cons, List.length_nil, List.reverse_cons, List.reverse_nil, List.nil_append, List.cons_append, Option.toList_some, Option.toList_none, va_rf_s, true_and, and_true, true_implies, false_implies, not_true_eq_false, not_false_eq_true, Nat.reduceAdd, Nat.reduceLeDiff, Nat.le_add_left, Nat.zero_le, Nat.le_refl, znew, true_or, or_true, b01_t, b01_f, b01_ok, bool_ft, vp_b01, vp_b0, vp_b1, b01_eq0, b01_eq1, implies_true, nI_add, nI_clamp, zi_in, zi_le_t, zi_le_f, zi_lt_t, zi_lt_f, zi_eq_t, zi_eq_f, nI_leI, nI_ltI, nI_eq, z_in, pk_mul, zu_same, zu_rw, zu_ix, zi_ne0, zi_sub, zi_m1, Nat.add_sub_cancel, Nat.reduceMul, Nat.reduceSub]
  refine ⟨fun hok => hVQ _ _ ⟨S, rfl, mE.rf hZ, ?_⟩, fun hok => ?_⟩
  · simp [glowInR, hok]
  have hok : okI y (tny t) = true := by simpa using hok
  obtain ⟨j, hj, rfl⟩ := (okI_iff (by omega)).mp hok
  refine zC.of0 (zX10_in _ _ _ _) (by omega) (Nat.zero_le _) (Nat.zero_le _) ?_
  rintro _ _ ⟨rfl, rfl⟩
  rw [okI_dec2 (by omega)]
  cases hw : okI n (72 + 1) with
  | false =>
    refine sX10_glowIn_15 _ _ _ _ _ ?_
    simp (disch := omega) only [oAld, oCV, oIf, oPush, oRI, hM.1, List.getElem?_cons_zero, List.getElem?_cons_succ, List.set_cons_zero, List.set_cons_succ, List.drop_succ_cons, List.drop_zero, List.take_succ_cons, List.take_zero, List.length_cons, List.length_nil, List.reverse_cons, List.reverse_nil, List.nil_append, List.cons_append, Option.toList_some, Option.toList_none, va_rf_s, true_and, and_true, true_implies, false_implies, not_true_eq_false, not_false_eq_true, Nat.reduceAdd, Nat.reduceLeDiff, Nat.le_add_left, Nat.zero_le, Nat.le_refl, znew, true_or, or_true, b01_t, b01_f, b01_ok, bool_ft, vp_b01, vp_b0, vp_b1, b01_eq0, b01_eq1, implies_true, nI_add, nI_clamp, zi_in, zi_le_t, zi_le_f, zi_lt_t, zi_lt_f, zi_eq_t, zi_eq_f, nI_leI, nI_ltI, nI_eq, z_in, pk_mul, zu_same, zu_rw, zu_ix, zi_ne0, zi_sub, zi_m1, Nat.add_sub_cancel, Nat.reduceMul, Nat.reduceSub]
    exact hVQ _ _ ⟨S, rfl, mE.rf hZ, by simp [glowInR, hw]⟩
  | true =>
    obtain ⟨m, hm, rfl⟩ := (okI_iff (by omega)).mp hw
    refine sX10_glowIn_15 _ _ _ _ _ ?_
    simp (disch := omega) only [oAld, oCV, oIf, oPush, oRI, hM.1, List.getElem?_cons_zero, List.getElem?_cons_succ, List.set_cons_zero, List.set_cons_succ, List.drop_succ_cons, List.drop_zero, List.take_succ_cons, List.take_zero, List.length_cons, List.length_nil, List.reverse_cons, List.reverse_nil, List.nil_append, List.cons_append, Option.toList_some, Option.toList_none, va_rf_s, true_and, and_true, true_implies, false_implies, not_true_eq_false, not_false_eq_true, Nat.reduceAdd, Nat.reduceLeDiff, Nat.le_add_left, Nat.zero_le, Nat.le_refl, znew, true_or, or_true, b01_t, b01_f, b01_ok, bool_ft, vp_b01, vp_b0, vp_b1, b01_eq0, b01_eq1, implies_true, nI_add, nI_clamp, zi_in, zi_le_t, zi_le_f, zi_lt_t, zi_lt_f, zi_eq_t, zi_eq_f, nI_leI, nI_ltI, nI_eq, z_in, pk_mul, zu_same, zu_rw, zu_ix, zi_ne0, zi_sub, zi_m1, Nat.add_sub_cancel, Nat.reduceMul, Nat.reduceSub]
    refine zC.of0 (zG_copies hM hQ) (by omega) (Nat.zero_le _) (Nat.zero_le _) ?_
    rintro _ _ ⟨rfl, S1, rfl, hE, hX1, hr, -, h55, h56⟩
    refine sX10_glowIn_24 _ _ _ _ _ ?_
    simp (disch := omega) only [oAld, oCV, oIld, hM.1, List.getElem?_cons_zero, List.getElem?_cons_succ, List.set_cons_zero, List.set_cons_succ, List.drop_succ_cons, List.drop_zero, List.take_succ_cons, List.take_zero, List.length_cons, List.length_nil, List.reverse_cons, List.reverse_nil, List.nil_append, List.cons_append, Option.toList_some, Option.toList_none, va_rf_s, true_and, and_true, true_implies, false_implies, not_true_eq_false, not_false_eq_true, Nat.reduceAdd, Nat.reduceLeDiff, Nat.le_add_left, Nat.zero_le, Nat.le_refl, znew, true_or, or_true, b01_t, b01_f, b01_ok, bool_ft, vp_b01, vp_b0, vp_b1, b01_eq0, b01_eq1, implies_true, nI_add, nI_clamp, zi_in, zi_le_t, zi_le_f, zi_lt_t, zi_lt_f, zi_eq_t, zi_eq_f, nI_leI, nI_ltI, nI_eq, z_in, pk_mul, zu_same, zu_rw, zu_ix, zi_ne0, zi_sub, zi_m1, Nat.add_sub_cancel, Nat.reduceMul, Nat.reduceSub]
    refine zC.of0 (zG_goes hM hX1 hr h55 h56 (show m ≤ 1000 by omega)) (by omega) (Nat.zero_le _) (Nat.zero_le _) ?_
    rintro _ _ ⟨rfl, S2, rfl, hf2, hr2⟩
    refine sX10_glowIn_29 _ _ _ _ _ ?_
    simp (disch := omega) only [oAld, oAld1, oBin, oGR, oIld, oPush, oRI, hM.1, hM.r54, hM.t54, hM.n54, hr2, List.getElem?_cons_zero, List.getElem?_cons_succ, List.set_cons_zero, List.set_cons_succ, List.drop_succ_cons, List.drop_zero, List.take_succ_cons, List.take_zero, List.length_cons, List.length_nil, List.reverse_cons, List.reverse_nil, List.nil_append, List.cons_append, Option.toList_some, Option.toList_none, va_rf_s, true_and, and_true, true_implies, false_implies, not_true_eq_false, not_false_eq_true, Nat.reduceAdd, Nat.reduceLeDiff, Nat.le_add_left, Nat.zero_le, Nat.le_refl, znew, true_or, or_true, b01_t, b01_f, b01_ok, bool_ft, vp_b01, vp_b0, vp_b1, b01_eq0, b01_eq1, implies_true, nI_add, nI_clamp, zi_in, zi_le_t, zi_le_f, zi_lt_t, zi_lt_f, zi_eq_t, zi_eq_f, nI_leI, nI_ltI, nI_eq, z_in, pk_mul, zu_same, zu_rw, zu_ix, zi_ne0, zi_sub, zi_m1, Nat.add_sub_cancel, Nat.reduceMul, Nat.reduceSub]
    refine hVQ _ _ ⟨S2, rfl, hE.w hf2 rfl rfl hr2 (fun k hk => by rw [hoursT_hi hX hk, ← hN]; exact hZ.1 k hk), ?_⟩
    rw [glowInR, if_pos ⟨hok, hw⟩, nI_clamp (by omega), nI_clamp (by omega)]
theorem zX10_then (hM : isM h b) (hQ : mQ b S lv t T) (hH : ∀ m, rowH t (hoursT t (nI 0) (tsd t) m T)) (n what : Int32) :
    zM l E 5 YX10_then [.ref b, .int n, .int what] (z, h, S, L) 0 0 (fun r X => ∃ S', X = (z, h, S', L) ∧ mE b S S' ∧ r = some (.int (thenR t T n what))) (fun _ _ => False) := by
  obtain ⟨hX, hZ, hN⟩ := id hQ
  refine zM.go rfl rfl (Nat.le_of_ble_eq_true rfl) (ls := [some (.ref b), some (.int n), some (.int what)]) rfl ?_
  intro V hVl hVE hVd hVc hVs hVQ hVX
  refine sX10_then_0 _ _ _ _ _ ?_
  simp (disch := omega) only [oCS, oIld, oPush, List.getElem?_cons_zero, List.getElem?_cons_succ, List.set_cons_zero, List.set_cons_succ, List.drop_succ_cons, List.drop_zero, List.take_succ_cons, List.take_zero, List.length_cons, List.length_nil, List.reverse_cons, List.reverse_nil, List.nil_append, List.cons_append, Option.toList_some, Option.toList_none, va_rf_s, true_and, and_true, true_implies, false_implies, not_true_eq_false, not_false_eq_true, Nat.reduceAdd, Nat.reduceLeDiff, Nat.le_add_left, Nat.zero_le, Nat.le_refl, znew, true_or, or_true, b01_t, b01_f, b01_ok, bool_ft, vp_b01, vp_b0, vp_b1, b01_eq0, b01_eq1, implies_true, nI_add, nI_clamp, zi_in, zi_le_t, zi_le_f, zi_lt_t, zi_lt_f, zi_eq_t, zi_eq_f, nI_leI, nI_ltI, nI_eq, z_in, pk_mul, zu_same, zu_rw, zu_ix, zi_ne0, zi_sub, zi_m1, Nat.add_sub_cancel, Nat.reduceMul, Nat.reduceSub]
  refine zC.of0 (zX10_in _ _ _ _) (by omega) (Nat.zero_le _) (Nat.zero_le _) ?_
  rintro _ _ ⟨rfl, rfl⟩
  rw [okI_dec2 (by omega)]
  cases hn : okI n (72 + 1) with
  | false =>
    refine sX10_then_7 _ _ _ _ _ ?_
    simp (disch := omega) only [oCS, oIf, oIld, oPush, oRI, List.getElem?_cons_zero, List.getElem?_cons_succ, List.set_cons_zero, List.set_cons_succ, List.drop_succ_cons, List.drop_zero, List.take_succ_cons, List.take_zero, List.length_cons, List.length_nil, List.reverse_cons, List.reverse_nil, List.nil_append, List.cons_append, Option.toList_some, Option.toList_none, va_rf_s, true_and, and_true, true_implies, false_implies, not_true_eq_false, not_false_eq_true, Nat.reduceAdd, Nat.reduceLeDiff, Nat.le_add_left, Nat.zero_le, Nat.le_refl, znew, true_or, or_true, b01_t, b01_f, b01_ok, bool_ft, vp_b01, vp_b0, vp_b1, b01_eq0, b01_eq1, implies_true, nI_add, nI_clamp, zi_in, zi_le_t, zi_le_f, zi_lt_t, zi_lt_f, zi_eq_t, zi_eq_f, nI_leI, nI_ltI, nI_eq, z_in, pk_mul, zu_same, zu_rw, zu_ix, zi_ne0, zi_sub, zi_m1, Nat.add_sub_cancel, Nat.reduceMul, Nat.reduceSub]
    exact hVQ _ _ ⟨S, rfl, mE.rf hZ, by simp [thenR, hn]⟩
  | true =>
    obtain ⟨m, hm, rfl⟩ := (okI_iff (by omega)).mp hn
    refine sX10_then_7 _ _ _ _ _ ?_
    simp (disch := omega) only [oCS, oIf, oIld, oPush, oRI, List.getElem?_cons_zero, List.getElem?_cons_succ, List.set_cons_zero, List.set_cons_succ, List.drop_succ_cons, List.drop_zero, List.take_succ_cons, List.take_zero, List.length_cons, List.length_nil, List.reverse_cons, List.reverse_nil, List.nil_append, List.cons_append, Option.toList_some, Option.toList_none, va_rf_s, true_and, and_true, true_implies, false_implies, not_true_eq_false, not_false_eq_true, Nat.reduceAdd, Nat.reduceLeDiff, Nat.le_add_left, Nat.zero_le, Nat.le_refl, znew, true_or, or_true, b01_t, b01_f, b01_ok, bool_ft, vp_b01, vp_b0, vp_b1, b01_eq0, b01_eq1, implies_true, nI_add, nI_clamp, zi_in, zi_le_t, zi_le_f, zi_lt_t, zi_lt_f, zi_eq_t, zi_eq_f, nI_leI, nI_ltI, nI_eq, z_in, pk_mul, zu_same, zu_rw, zu_ix, zi_ne0, zi_sub, zi_m1, Nat.add_sub_cancel, Nat.reduceMul, Nat.reduceSub]
    refine zC.of0 (zX10_in _ _ _ _) (by omega) (Nat.zero_le _) (Nat.zero_le _) ?_
    rintro _ _ ⟨rfl, rfl⟩
    rw [okI_dec2 (by omega)]
    cases hw : okI what (1 + 1) with
    | false =>
      refine sX10_then_16 _ _ _ _ _ ?_
      simp (disch := omega) only [oAld, oCV, oIf, oPush, oRI, hM.1, List.getElem?_cons_zero, List.getElem?_cons_succ, List.set_cons_zero, List.set_cons_succ, List.drop_succ_cons, List.drop_zero, List.take_succ_cons, List.take_zero, List.length_cons, List.length_nil, List.reverse_cons, List.reverse_nil, List.nil_append, List.cons_append, Option.toList_some, Option.toList_none, va_rf_s, true_and, and_true, true_implies, false_implies, not_true_eq_false, not_false_eq_true, Nat.reduceAdd, Nat.reduceLeDiff, Nat.le_add_left, Nat.zero_le, Nat.le_refl, znew, true_or, or_true, b01_t, b01_f, b01_ok, bool_ft, vp_b01, vp_b0, vp_b1, b01_eq0, b01_eq1, implies_true, nI_add, nI_clamp, zi_in, zi_le_t, zi_le_f, zi_lt_t, zi_lt_f, zi_eq_t, zi_eq_f, nI_leI, nI_ltI, nI_eq, z_in, pk_mul, zu_same, zu_rw, zu_ix, zi_ne0, zi_sub, zi_m1, Nat.add_sub_cancel, Nat.reduceMul, Nat.reduceSub]
      exact hVQ _ _ ⟨S, rfl, mE.rf hZ, by simp [thenR, hw]⟩
    | true =>
      refine sX10_then_16 _ _ _ _ _ ?_
      simp (disch := omega) only [oAld, oCV, oIf, oPush, oRI, hM.1, List.getElem?_cons_zero, List.getElem?_cons_succ, List.set_cons_zero, List.set_cons_succ, List.drop_succ_cons, List.drop_zero, List.take_succ_cons, List.take_zero, List.length_cons, List.length_nil, List.reverse_cons, List.reverse_nil, List.nil_append, List.cons_append, Option.toList_some, Option.toList_none, va_rf_s, true_and, and_true, true_implies, false_implies, not_true_eq_false, not_false_eq_true, Nat.reduceAdd, Nat.reduceLeDiff, Nat.le_add_left, Nat.zero_le, Nat.le_refl, znew, true_or, or_true, b01_t, b01_f, b01_ok, bool_ft, vp_b01, vp_b0, vp_b1, b01_eq0, b01_eq1, implies_true, nI_add, nI_clamp, zi_in, zi_le_t, zi_le_f, zi_lt_t, zi_lt_f, zi_eq_t, zi_eq_f, nI_leI, nI_ltI, nI_eq, z_in, pk_mul, zu_same, zu_rw, zu_ix, zi_ne0, zi_sub, zi_m1, Nat.add_sub_cancel, Nat.reduceMul, Nat.reduceSub]
      refine zC.of0 (zG_copies hM hQ) (by omega) (Nat.zero_le _) (Nat.zero_le _) ?_
      rintro _ _ ⟨rfl, S1, rfl, hE, hX1, hr, -, h55, h56⟩
      refine sX10_then_25 _ _ _ _ _ ?_
      simp (disch := omega) only [oAld, oCV, oIld, hM.1, List.getElem?_cons_zero, List.getElem?_cons_succ, List.set_cons_zero, List.set_cons_succ, List.drop_succ_cons, List.drop_zero, List.take_succ_cons, List.take_zero, List.length_cons, List.length_nil, List.reverse_cons, List.reverse_nil, List.nil_append, List.cons_append, Option.toList_some, Option.toList_none, va_rf_s, true_and, and_true, true_implies, false_implies, not_true_eq_false, not_false_eq_true, Nat.reduceAdd, Nat.reduceLeDiff, Nat.le_add_left, Nat.zero_le, Nat.le_refl, znew, true_or, or_true, b01_t, b01_f, b01_ok, bool_ft, vp_b01, vp_b0, vp_b1, b01_eq0, b01_eq1, implies_true, nI_add, nI_clamp, zi_in, zi_le_t, zi_le_f, zi_lt_t, zi_lt_f, zi_eq_t, zi_eq_f, nI_leI, nI_ltI, nI_eq, z_in, pk_mul, zu_same, zu_rw, zu_ix, zi_ne0, zi_sub, zi_m1, Nat.add_sub_cancel, Nat.reduceMul, Nat.reduceSub]
      refine zC.of0 (zG_goes hM hX1 hr h55 h56 (show m ≤ 1000 by omega)) (by omega) (Nat.zero_le _) (Nat.zero_le _) ?_
      rintro _ _ ⟨rfl, S2, rfl, hf2, hr2⟩
      have hE2 := hE.w hf2 rfl rfl hr2 (fun k hk => by rw [hoursT_hi hX hk, ← hN]; exact hZ.1 k hk)
      have hX2 := hX1.fr hf2 rfl rfl
      refine sX10_then_30 _ _ _ _ _ ?_
      simp (disch := omega) only [oAld, oCV, oIf, oIld, hM.1, List.getElem?_cons_zero, List.getElem?_cons_succ, List.set_cons_zero, List.set_cons_succ, List.drop_succ_cons, List.drop_zero, List.take_succ_cons, List.take_zero, List.length_cons, List.length_nil, List.reverse_cons, List.reverse_nil, List.nil_append, List.cons_append, Option.toList_some, Option.toList_none, va_rf_s, true_and, and_true, true_implies, false_implies, not_true_eq_false, not_false_eq_true, Nat.reduceAdd, Nat.reduceLeDiff, Nat.le_add_left, Nat.zero_le, Nat.le_refl, znew, true_or, or_true, b01_t, b01_f, b01_ok, bool_ft, vp_b01, vp_b0, vp_b1, b01_eq0, b01_eq1, implies_true, nI_add, nI_clamp, zi_in, zi_le_t, zi_le_f, zi_lt_t, zi_lt_f, zi_eq_t, zi_eq_f, nI_leI, nI_ltI, nI_eq, z_in, pk_mul, zu_same, zu_rw, zu_ix, zi_ne0, zi_sub, zi_m1, Nat.add_sub_cancel, Nat.reduceMul, Nat.reduceSub]
      refine ⟨fun h0 => ?_, fun h0 => ?_⟩
      · refine zC.of0 (zG_lit hM hX2 hr2) (by omega) (Nat.zero_le _) (Nat.zero_le _) ?_
        rintro _ _ ⟨S3, rfl, hf3, rfl⟩
        refine sX10_then_38 _ _ _ _ _ ?_
        simp (disch := omega) only [oNop, List.getElem?_cons_zero, List.getElem?_cons_succ, List.set_cons_zero, List.set_cons_succ, List.drop_succ_cons, List.drop_zero, List.take_succ_cons, List.take_zero, List.length_cons, List.length_nil, List.reverse_cons, List.reverse_nil, List.nil_append, List.cons_append, Option.toList_some, Option.toList_none, va_rf_s, true_and, and_true, true_implies, false_implies, not_true_eq_false, not_false_eq_true, Nat.reduceAdd, Nat.reduceLeDiff, Nat.le_add_left, Nat.zero_le, Nat.le_refl, znew, true_or, or_true, b01_t, b01_f, b01_ok, bool_ft, vp_b01, vp_b0, vp_b1, b01_eq0, b01_eq1, implies_true, nI_add, nI_clamp, zi_in, zi_le_t, zi_le_f, zi_lt_t, zi_lt_f, zi_eq_t, zi_eq_f, nI_leI, nI_ltI, nI_eq, z_in, pk_mul, zu_same, zu_rw, zu_ix, zi_ne0, zi_sub, zi_m1, Nat.add_sub_cancel, Nat.reduceMul, Nat.reduceSub]
        refine sX10_then_45 _ _ _ _ _ ?_
        simp (disch := omega) only [oRI, List.getElem?_cons_zero, List.getElem?_cons_succ, List.set_cons_zero, List.set_cons_succ, List.drop_succ_cons, List.drop_zero, List.take_succ_cons, List.take_zero, List.length_cons, List.length_nil, List.reverse_cons, List.reverse_nil, List.nil_append, List.cons_append, Option.toList_some, Option.toList_none, va_rf_s, true_and, and_true, true_implies, false_implies, not_true_eq_false, not_false_eq_true, Nat.reduceAdd, Nat.reduceLeDiff, Nat.le_add_left, Nat.zero_le, Nat.le_refl, znew, true_or, or_true, b01_t, b01_f, b01_ok, bool_ft, vp_b01, vp_b0, vp_b1, b01_eq0, b01_eq1, implies_true, nI_add, nI_clamp, zi_in, zi_le_t, zi_le_f, zi_lt_t, zi_lt_f, zi_eq_t, zi_eq_f, nI_leI, nI_ltI, nI_eq, z_in, pk_mul, zu_same, zu_rw, zu_ix, zi_ne0, zi_sub, zi_m1, Nat.add_sub_cancel, Nat.reduceMul, Nat.reduceSub]
        exact hVQ _ _ ⟨S3, rfl, hE2.q hf3 rfl rfl rfl, by rw [thenR, if_pos ⟨hn, hw⟩, if_pos h0, nI_clamp (by omega)]⟩
      · refine zC.of0 (zG_home hM hX2 hr2 (hH m)) (by omega) (Nat.zero_le _) (Nat.zero_le _) ?_
        rintro _ _ ⟨rfl, rfl⟩
        refine sX10_then_45 _ _ _ _ _ ?_
        simp (disch := omega) only [oRI, List.getElem?_cons_zero, List.getElem?_cons_succ, List.set_cons_zero, List.set_cons_succ, List.drop_succ_cons, List.drop_zero, List.take_succ_cons, List.take_zero, List.length_cons, List.length_nil, List.reverse_cons, List.reverse_nil, List.nil_append, List.cons_append, Option.toList_some, Option.toList_none, va_rf_s, true_and, and_true, true_implies, false_implies, not_true_eq_false, not_false_eq_true, Nat.reduceAdd, Nat.reduceLeDiff, Nat.le_add_left, Nat.zero_le, Nat.le_refl, znew, true_or, or_true, b01_t, b01_f, b01_ok, bool_ft, vp_b01, vp_b0, vp_b1, b01_eq0, b01_eq1, implies_true, nI_add, nI_clamp, zi_in, zi_le_t, zi_le_f, zi_lt_t, zi_lt_f, zi_eq_t, zi_eq_f, nI_leI, nI_ltI, nI_eq, z_in, pk_mul, zu_same, zu_rw, zu_ix, zi_ne0, zi_sub, zi_m1, Nat.add_sub_cancel, Nat.reduceMul, Nat.reduceSub]
        exact hVQ _ _ ⟨S2, rfl, hE2, by rw [thenR, if_pos ⟨hn, hw⟩, if_neg h0, nI_clamp (by omega)]⟩
theorem zX10_year (hM : isM h b) (hQ : mQ b S lv t T) (s n many : Int32) :
    zM l E 5 YX10_year [.ref b, .int s, .int n, .int many] (z, h, S, L) 0 0 (fun r X => ∃ S', X = (z, h, S', L) ∧ mE b S S' ∧ r = some (.int (yearR t T s n many))) (fun _ _ => False) := by
  obtain ⟨hX, hZ, hN⟩ := id hQ
  have hns10 : tns t ≤ 10 := hX.1.2.2.1.2
  refine zM.go rfl rfl (Nat.le_of_ble_eq_true rfl) (ls := [some (.ref b), some (.int s), some (.int n), some (.int many), none, none]) rfl ?_
  intro V hVl hVE hVd hVc hVs hVQ hVX
  refine sX10_year_0 _ _ _ _ _ ?_
  simp (disch := omega) only [oAld, oCV, oIld, hM.1, List.getElem?_cons_zero, List.getElem?_cons_succ, List.set_cons_zero, List.set_cons_succ, List.drop_succ_cons, List.drop_zero, List.take_succ_cons, List.take_zero, List.length_cons, List.length_nil, List.reverse_cons, List.reverse_nil, List.nil_append, List.cons_append, Option.toList_some, Option.toList_none, va_rf_s, true_and, and_true, true_implies, false_implies, not_true_eq_false, not_false_eq_true, Nat.reduceAdd, Nat.reduceLeDiff, Nat.le_add_left, Nat.zero_le, Nat.le_refl, znew, true_or, or_true, b01_t, b01_f, b01_ok, bool_ft, vp_b01, vp_b0, vp_b1, b01_eq0, b01_eq1, implies_true, nI_add, nI_clamp, zi_in, zi_le_t, zi_le_f, zi_lt_t, zi_lt_f, zi_eq_t, zi_eq_f, nI_leI, nI_ltI, nI_eq, z_in, pk_mul, zu_same, zu_rw, zu_ix, zi_ne0, zi_sub, zi_m1, Nat.add_sub_cancel, Nat.reduceMul, Nat.reduceSub]
  refine zC.of0 (zX10_isStreet hM hX.1 _) (by omega) (Nat.zero_le _) (Nat.zero_le _) ?_
  rintro _ _ ⟨rfl, rfl⟩
  refine sX10_year_5 _ _ _ _ _ ?_
  simp (disch := omega) only [oCS, oIf, oIld, oPush, oRI, List.getElem?_cons_zero, List.getElem?_cons_succ, List.set_cons_zero, List.set_cons_succ, List.drop_succ_cons, List.drop_zero, List.take_succ_cons, List.take_zero, List.length_cons, List.length_nil, List.reverse_cons, List.reverse_nil, List.nil_append, List.cons_append, Option.toList_some, Option.toList_none, va_rf_s, true_and, and_true, true_implies, false_implies, not_true_eq_false, not_false_eq_true, Nat.reduceAdd, Nat.reduceLeDiff, Nat.le_add_left, Nat.zero_le, Nat.le_refl, znew, true_or, or_true, b01_t, b01_f, b01_ok, bool_ft, vp_b01, vp_b0, vp_b1, b01_eq0, b01_eq1, implies_true, nI_add, nI_clamp, zi_in, zi_le_t, zi_le_f, zi_lt_t, zi_lt_f, zi_eq_t, zi_eq_f, nI_leI, nI_ltI, nI_eq, z_in, pk_mul, zu_same, zu_rw, zu_ix, zi_ne0, zi_sub, zi_m1, Nat.add_sub_cancel, Nat.reduceMul, Nat.reduceSub]
  refine ⟨fun hok => hVQ _ _ ⟨S, rfl, mE.rf hZ, ?_⟩, fun hok => ?_⟩
  · simp [yearR, hok]
  have hok : okI s (tns t) = true := by simpa using hok
  obtain ⟨j, hj, rfl⟩ := (okI_iff (by omega)).mp hok
  refine zC.of0 (zX10_in _ _ _ _) (by omega) (Nat.zero_le _) (Nat.zero_le _) ?_
  rintro _ _ ⟨rfl, rfl⟩
  rw [okI_dec2 (by omega)]
  cases hn : okI n (72 + 1) with
  | false =>
    refine sX10_year_15 _ _ _ _ _ ?_
    simp (disch := omega) only [oCS, oIf, oIld, oPush, oRI, List.getElem?_cons_zero, List.getElem?_cons_succ, List.set_cons_zero, List.set_cons_succ, List.drop_succ_cons, List.drop_zero, List.take_succ_cons, List.take_zero, List.length_cons, List.length_nil, List.reverse_cons, List.reverse_nil, List.nil_append, List.cons_append, Option.toList_some, Option.toList_none, va_rf_s, true_and, and_true, true_implies, false_implies, not_true_eq_false, not_false_eq_true, Nat.reduceAdd, Nat.reduceLeDiff, Nat.le_add_left, Nat.zero_le, Nat.le_refl, znew, true_or, or_true, b01_t, b01_f, b01_ok, bool_ft, vp_b01, vp_b0, vp_b1, b01_eq0, b01_eq1, implies_true, nI_add, nI_clamp, zi_in, zi_le_t, zi_le_f, zi_lt_t, zi_lt_f, zi_eq_t, zi_eq_f, nI_leI, nI_ltI, nI_eq, z_in, pk_mul, zu_same, zu_rw, zu_ix, zi_ne0, zi_sub, zi_m1, Nat.add_sub_cancel, Nat.reduceMul, Nat.reduceSub]
    exact hVQ _ _ ⟨S, rfl, mE.rf hZ, by simp [yearR, hn]⟩
  | true =>
    obtain ⟨m, hm, rfl⟩ := (okI_iff (by omega)).mp hn
    refine sX10_year_15 _ _ _ _ _ ?_
    simp (disch := omega) only [oCS, oIf, oIld, oPush, oRI, List.getElem?_cons_zero, List.getElem?_cons_succ, List.set_cons_zero, List.set_cons_succ, List.drop_succ_cons, List.drop_zero, List.take_succ_cons, List.take_zero, List.length_cons, List.length_nil, List.reverse_cons, List.reverse_nil, List.nil_append, List.cons_append, Option.toList_some, Option.toList_none, va_rf_s, true_and, and_true, true_implies, false_implies, not_true_eq_false, not_false_eq_true, Nat.reduceAdd, Nat.reduceLeDiff, Nat.le_add_left, Nat.zero_le, Nat.le_refl, znew, true_or, or_true, b01_t, b01_f, b01_ok, bool_ft, vp_b01, vp_b0, vp_b1, b01_eq0, b01_eq1, implies_true, nI_add, nI_clamp, zi_in, zi_le_t, zi_le_f, zi_lt_t, zi_lt_f, zi_eq_t, zi_eq_f, nI_leI, nI_ltI, nI_eq, z_in, pk_mul, zu_same, zu_rw, zu_ix, zi_ne0, zi_sub, zi_m1, Nat.add_sub_cancel, Nat.reduceMul, Nat.reduceSub]
    refine zC.of0 (zX10_in _ _ _ _) (by omega) (Nat.zero_le _) (Nat.zero_le _) ?_
    rintro _ _ ⟨rfl, rfl⟩
    by_cases hc : nI 1 ≤ many ∧ many ≤ nI 20
    · rw [decide_eq_true hc]
      have hk : okI many (20 + 1) = true := by
        rw [← okI_dec2 (by omega), decide_eq_true_iff]
        refine ⟨?_, hc.2⟩
        have := hc.1
        rw [Int32.le_iff_toInt_le] at this ⊢
        exact Int.le_trans (by decide) this
      obtain ⟨k, hk20, rfl⟩ := (okI_iff (by omega)).mp hk
      have loop : ∀ y, y ≤ k → ∀ S', mE b S S' → zW V YX10_year 36 [some (.ref b), some (.int (nI j)), some (.int (nI m)), some (.int (nI k)), some (.int (nI (yearC t T j m y))), some (.int (nI y))] [] (z, h, S', L) 0 0 := by
        refine z_down ?_ (fun y hy ih => ?_)
        · intro S' hE
          refine sX10_year_36 _ _ _ _ _ ?_
          simp (disch := omega) only [oAld, oCV, oIfc, oIld, oRI, hM.1, List.getElem?_cons_zero, List.getElem?_cons_succ, List.set_cons_zero, List.set_cons_succ, List.drop_succ_cons, List.drop_zero, List.take_succ_cons, List.take_zero, List.length_cons, List.length_nil, List.reverse_cons, List.reverse_nil, List.nil_append, List.cons_append, Option.toList_some, Option.toList_none, va_rf_s, true_and, and_true, true_implies, false_implies, not_true_eq_false, not_false_eq_true, Nat.reduceAdd, Nat.reduceLeDiff, Nat.le_add_left, Nat.zero_le, Nat.le_refl, znew, true_or, or_true, b01_t, b01_f, b01_ok, bool_ft, vp_b01, vp_b0, vp_b1, b01_eq0, b01_eq1, implies_true, nI_add, nI_clamp, zi_in, zi_le_t, zi_le_f, zi_lt_t, zi_lt_f, zi_eq_t, zi_eq_f, nI_leI, nI_ltI, nI_eq, z_in, pk_mul, zu_same, zu_rw, zu_ix, zi_ne0, zi_sub, zi_m1, Nat.add_sub_cancel, Nat.reduceMul, Nat.reduceSub]
          refine hVQ _ _ ⟨S', rfl, hE, ?_⟩
          rw [yearR, if_pos ⟨hok, hn, hc⟩, nI_clamp (by omega), nI_clamp (by omega), nI_clamp (by omega)]
        · intro S' hE
          have hQ' := hQ.fr hE
          refine sX10_year_36 _ _ _ _ _ ?_
          simp (disch := omega) only [oAld, oCV, oIfc, oIld, oRI, hM.1, List.getElem?_cons_zero, List.getElem?_cons_succ, List.set_cons_zero, List.set_cons_succ, List.drop_succ_cons, List.drop_zero, List.take_succ_cons, List.take_zero, List.length_cons, List.length_nil, List.reverse_cons, List.reverse_nil, List.nil_append, List.cons_append, Option.toList_some, Option.toList_none, va_rf_s, true_and, and_true, true_implies, false_implies, not_true_eq_false, not_false_eq_true, Nat.reduceAdd, Nat.reduceLeDiff, Nat.le_add_left, Nat.zero_le, Nat.le_refl, znew, true_or, or_true, b01_t, b01_f, b01_ok, bool_ft, vp_b01, vp_b0, vp_b1, b01_eq0, b01_eq1, implies_true, nI_add, nI_clamp, zi_in, zi_le_t, zi_le_f, zi_lt_t, zi_lt_f, zi_eq_t, zi_eq_f, nI_leI, nI_ltI, nI_eq, z_in, pk_mul, zu_same, zu_rw, zu_ix, zi_ne0, zi_sub, zi_m1, Nat.add_sub_cancel, Nat.reduceMul, Nat.reduceSub]
          refine zC.of0 (zG_copies hM hQ') (by omega) (Nat.zero_le _) (Nat.zero_le _) ?_
          rintro _ _ ⟨rfl, S1, rfl, hE1, hX1, hr, -, h55, h56⟩
          have hfu : zfr [] [55] b S1 (zu S1 b 55 (tsd t + nI y)) := zfr.rf.fld (by decide)
          refine sX10_year_46 _ _ _ _ _ ?_
          simp (disch := omega) only [oAld, oBin, oCV, oDup, oGI, oIld, oPI, hM.1, h55, List.getElem?_cons_zero, List.getElem?_cons_succ, List.set_cons_zero, List.set_cons_succ, List.drop_succ_cons, List.drop_zero, List.take_succ_cons, List.take_zero, List.length_cons, List.length_nil, List.reverse_cons, List.reverse_nil, List.nil_append, List.cons_append, Option.toList_some, Option.toList_none, va_rf_s, true_and, and_true, true_implies, false_implies, not_true_eq_false, not_false_eq_true, Nat.reduceAdd, Nat.reduceLeDiff, Nat.le_add_left, Nat.zero_le, Nat.le_refl, znew, true_or, or_true, b01_t, b01_f, b01_ok, bool_ft, vp_b01, vp_b0, vp_b1, b01_eq0, b01_eq1, implies_true, nI_add, nI_clamp, zi_in, zi_le_t, zi_le_f, zi_lt_t, zi_lt_f, zi_eq_t, zi_eq_f, nI_leI, nI_ltI, nI_eq, z_in, pk_mul, zu_same, zu_rw, zu_ix, zi_ne0, zi_sub, zi_m1, Nat.add_sub_cancel, Nat.reduceMul, Nat.reduceSub]
          refine zC.of0 (zG_goes hM (hX1.fr hfu rfl rfl) ((hfu.at (o := 37) rfl rfl).trans hr) (zu_same _ _ _ _) ((hfu.f (j := 56) rfl).trans h56) (show m ≤ 1000 by omega)) (by omega) (Nat.zero_le _) (Nat.zero_le _) ?_
          rintro _ _ ⟨rfl, S2, rfl, hf2, hr2⟩
          have hE2 := ((hE.tr hE1).q hfu rfl rfl rfl).w hf2 rfl rfl hr2 (fun k hk => by rw [hoursT_hi hX hk, ← hN]; exact hZ.1 k hk)
          refine sX10_year_62 _ _ _ _ _ ?_
          simp (disch := omega) only [oAld, oCV, oIld, hM.1, List.getElem?_cons_zero, List.getElem?_cons_succ, List.set_cons_zero, List.set_cons_succ, List.drop_succ_cons, List.drop_zero, List.take_succ_cons, List.take_zero, List.length_cons, List.length_nil, List.reverse_cons, List.reverse_nil, List.nil_append, List.cons_append, Option.toList_some, Option.toList_none, va_rf_s, true_and, and_true, true_implies, false_implies, not_true_eq_false, not_false_eq_true, Nat.reduceAdd, Nat.reduceLeDiff, Nat.le_add_left, Nat.zero_le, Nat.le_refl, znew, true_or, or_true, b01_t, b01_f, b01_ok, bool_ft, vp_b01, vp_b0, vp_b1, b01_eq0, b01_eq1, implies_true, nI_add, nI_clamp, zi_in, zi_le_t, zi_le_f, zi_lt_t, zi_lt_f, zi_eq_t, zi_eq_f, nI_leI, nI_ltI, nI_eq, z_in, pk_mul, zu_same, zu_rw, zu_ix, zi_ne0, zi_sub, zi_m1, Nat.add_sub_cancel, Nat.reduceMul, Nat.reduceSub]
          refine zC.of0 (zG_needs hM ((hX1.fr hfu rfl rfl).fr hf2 rfl rfl) hr2 hj) (by omega) (Nat.zero_le _) (Nat.zero_le _) ?_
          rintro _ _ ⟨rfl, rfl⟩
          refine sX10_year_67 _ _ _ _ _ ?_
          simp (disch := omega) only [oIf, oInc, oNop, List.getElem?_cons_zero, List.getElem?_cons_succ, List.set_cons_zero, List.set_cons_succ, List.drop_succ_cons, List.drop_zero, List.take_succ_cons, List.take_zero, List.length_cons, List.length_nil, List.reverse_cons, List.reverse_nil, List.nil_append, List.cons_append, Option.toList_some, Option.toList_none, va_rf_s, true_and, and_true, true_implies, false_implies, not_true_eq_false, not_false_eq_true, Nat.reduceAdd, Nat.reduceLeDiff, Nat.le_add_left, Nat.zero_le, Nat.le_refl, znew, true_or, or_true, b01_t, b01_f, b01_ok, bool_ft, vp_b01, vp_b0, vp_b1, b01_eq0, b01_eq1, implies_true, nI_add, nI_clamp, zi_in, zi_le_t, zi_le_f, zi_lt_t, zi_lt_f, zi_eq_t, zi_eq_f, nI_leI, nI_ltI, nI_eq, z_in, pk_mul, zu_same, zu_rw, zu_ix, zi_ne0, zi_sub, zi_m1, Nat.add_sub_cancel, Nat.reduceMul, Nat.reduceSub]
          refine ⟨fun h0 => ?_, fun h0 => ?_⟩
          · have := ih S2 hE2
            rw [yearC, if_pos h0] at this; exact this
          · have := ih S2 hE2
            rw [yearC, if_neg h0] at this; exact this
      refine sX10_year_25 _ _ _ _ _ ?_
      simp (disch := omega) only [oIf, oIst, oPush, oRI, List.getElem?_cons_zero, List.getElem?_cons_succ, List.set_cons_zero, List.set_cons_succ, List.drop_succ_cons, List.drop_zero, List.take_succ_cons, List.take_zero, List.length_cons, List.length_nil, List.reverse_cons, List.reverse_nil, List.nil_append, List.cons_append, Option.toList_some, Option.toList_none, va_rf_s, true_and, and_true, true_implies, false_implies, not_true_eq_false, not_false_eq_true, Nat.reduceAdd, Nat.reduceLeDiff, Nat.le_add_left, Nat.zero_le, Nat.le_refl, znew, true_or, or_true, b01_t, b01_f, b01_ok, bool_ft, vp_b01, vp_b0, vp_b1, b01_eq0, b01_eq1, implies_true, nI_add, nI_clamp, zi_in, zi_le_t, zi_le_f, zi_lt_t, zi_lt_f, zi_eq_t, zi_eq_f, nI_leI, nI_ltI, nI_eq, z_in, pk_mul, zu_same, zu_rw, zu_ix, zi_ne0, zi_sub, zi_m1, Nat.add_sub_cancel, Nat.reduceMul, Nat.reduceSub]
      exact loop 0 (by omega) S (mE.rf hZ)
    · rw [decide_eq_false hc]
      refine sX10_year_25 _ _ _ _ _ ?_
      simp (disch := omega) only [oIf, oIst, oPush, oRI, List.getElem?_cons_zero, List.getElem?_cons_succ, List.set_cons_zero, List.set_cons_succ, List.drop_succ_cons, List.drop_zero, List.take_succ_cons, List.take_zero, List.length_cons, List.length_nil, List.reverse_cons, List.reverse_nil, List.nil_append, List.cons_append, Option.toList_some, Option.toList_none, va_rf_s, true_and, and_true, true_implies, false_implies, not_true_eq_false, not_false_eq_true, Nat.reduceAdd, Nat.reduceLeDiff, Nat.le_add_left, Nat.zero_le, Nat.le_refl, znew, true_or, or_true, b01_t, b01_f, b01_ok, bool_ft, vp_b01, vp_b0, vp_b1, b01_eq0, b01_eq1, implies_true, nI_add, nI_clamp, zi_in, zi_le_t, zi_le_f, zi_lt_t, zi_lt_f, zi_eq_t, zi_eq_f, nI_leI, nI_ltI, nI_eq, z_in, pk_mul, zu_same, zu_rw, zu_ix, zi_ne0, zi_sub, zi_m1, Nat.add_sub_cancel, Nat.reduceMul, Nat.reduceSub]
      exact hVQ _ _ ⟨S, rfl, mE.rf hZ, by rw [yearR, if_neg (fun q => hc q.2.2)]⟩
theorem zX10_darkens (hM : isM h b) (hQ : mQ b S lv t T) (s : Int32) :
    zM l E 4 YX10_darkens [.ref b, .int s] (z, h, S, L) 0 0 (fun r X => ∃ S', X = (z, h, S', L) ∧ mE b S S' ∧ r = some (.int (darkensR t T s))) (fun _ _ => False) := by
  obtain ⟨hX, hZ, hN⟩ := id hQ
  have hns10 : tns t ≤ 10 := hX.1.2.2.1.2
  refine zM.go rfl rfl (Nat.le_of_ble_eq_true rfl) (ls := [some (.ref b), some (.int s), none]) rfl ?_
  intro V hVl hVE hVd hVc hVs hVQ hVX
  refine sX10_darkens_0 _ _ _ _ _ ?_
  simp (disch := omega) only [oAld, oCV, oIld, hM.1, List.getElem?_cons_zero, List.getElem?_cons_succ, List.set_cons_zero, List.set_cons_succ, List.drop_succ_cons, List.drop_zero, List.take_succ_cons, List.take_zero, List.length_cons, List.length_nil, List.reverse_cons, List.reverse_nil, List.nil_append, List.cons_append, Option.toList_some, Option.toList_none, va_rf_s, true_and, and_true, true_implies, false_implies, not_true_eq_false, not_false_eq_true, Nat.reduceAdd, Nat.reduceLeDiff, Nat.le_add_left, Nat.zero_le, Nat.le_refl, znew, true_or, or_true, b01_t, b01_f, b01_ok, bool_ft, vp_b01, vp_b0, vp_b1, b01_eq0, b01_eq1, implies_true, nI_add, nI_clamp, zi_in, zi_le_t, zi_le_f, zi_lt_t, zi_lt_f, zi_eq_t, zi_eq_f, nI_leI, nI_ltI, nI_eq, z_in, pk_mul, zu_same, zu_rw, zu_ix, zi_ne0, zi_sub, zi_m1, Nat.add_sub_cancel, Nat.reduceMul, Nat.reduceSub]
  refine zC.of0 (zX10_isStreet hM hX.1 _) (by omega) (Nat.zero_le _) (Nat.zero_le _) ?_
  rintro _ _ ⟨rfl, rfl⟩
  refine sX10_darkens_5 _ _ _ _ _ ?_
  simp (disch := omega) only [oAld, oCV, oIf, oPush, oRI, hM.1, List.getElem?_cons_zero, List.getElem?_cons_succ, List.set_cons_zero, List.set_cons_succ, List.drop_succ_cons, List.drop_zero, List.take_succ_cons, List.take_zero, List.length_cons, List.length_nil, List.reverse_cons, List.reverse_nil, List.nil_append, List.cons_append, Option.toList_some, Option.toList_none, va_rf_s, true_and, and_true, true_implies, false_implies, not_true_eq_false, not_false_eq_true, Nat.reduceAdd, Nat.reduceLeDiff, Nat.le_add_left, Nat.zero_le, Nat.le_refl, znew, true_or, or_true, b01_t, b01_f, b01_ok, bool_ft, vp_b01, vp_b0, vp_b1, b01_eq0, b01_eq1, implies_true, nI_add, nI_clamp, zi_in, zi_le_t, zi_le_f, zi_lt_t, zi_lt_f, zi_eq_t, zi_eq_f, nI_leI, nI_ltI, nI_eq, z_in, pk_mul, zu_same, zu_rw, zu_ix, zi_ne0, zi_sub, zi_m1, Nat.add_sub_cancel, Nat.reduceMul, Nat.reduceSub]
  refine ⟨fun hok => hVQ _ _ ⟨S, rfl, mE.rf hZ, ?_⟩, fun hok => ?_⟩
  · simp [darkensR, hok]
  have hok : okI s (tns t) = true := by simpa using hok
  obtain ⟨j, hj, rfl⟩ := (okI_iff (by omega)).mp hok
  refine zC.of0 (zX10_copiesStill hM hX.1 hZ) (by omega) (Nat.zero_le _) (Nat.zero_le _) ?_
  rintro _ _ ⟨rfl, S1, rfl, hf1, hr1, hl1, hs1⟩
  have hE1 := mE.of hZ hf1 rfl rfl (fun j hj => by rw [hr1]; exact hZ.1 j hj)
  have loop : ∀ f y, y + f = 101 → ∀ S' R, mE b S S' → S' (b + 37) = R → (∀ k, 48 ≤ k → R k = nI 0) → S' b 55 = tsd t → S' b 56 = nI 1 → darkC t j f y R = darkC t j 101 0 T → zW V YX10_darkens 16 [some (.ref b), some (.int (nI j)), some (.int (nI y))] [] (z, h, S', L) 0 0 := by
    intro f
    induction f with
    | zero =>
      intro y hy S' R hE hr hR h55 h56 hd
      obtain rfl : y = 101 := by omega
      refine sX10_darkens_16 _ _ _ _ _ ?_
      simp (disch := omega) only [oAld, oCV, oIfc, oIld, oPush, oRI, hM.1, List.getElem?_cons_zero, List.getElem?_cons_succ, List.set_cons_zero, List.set_cons_succ, List.drop_succ_cons, List.drop_zero, List.take_succ_cons, List.take_zero, List.length_cons, List.length_nil, List.reverse_cons, List.reverse_nil, List.nil_append, List.cons_append, Option.toList_some, Option.toList_none, va_rf_s, true_and, and_true, true_implies, false_implies, not_true_eq_false, not_false_eq_true, Nat.reduceAdd, Nat.reduceLeDiff, Nat.le_add_left, Nat.zero_le, Nat.le_refl, znew, true_or, or_true, b01_t, b01_f, b01_ok, bool_ft, vp_b01, vp_b0, vp_b1, b01_eq0, b01_eq1, implies_true, nI_add, nI_clamp, zi_in, zi_le_t, zi_le_f, zi_lt_t, zi_lt_f, zi_eq_t, zi_eq_f, nI_leI, nI_ltI, nI_eq, z_in, pk_mul, zu_same, zu_rw, zu_ix, zi_ne0, zi_sub, zi_m1, Nat.add_sub_cancel, Nat.reduceMul, Nat.reduceSub]
      exact hVQ _ _ ⟨S', rfl, hE, by rw [darkensR, if_pos hok, nI_clamp (by omega), ← hd]; rfl⟩
    | succ f ih =>
      intro y hy S' R hE hr hR h55 h56 hd
      have hX' := hX.fr hE.1 rfl rfl
      refine sX10_darkens_16 _ _ _ _ _ ?_
      simp (disch := omega) only [oAld, oCV, oIfc, oIld, oPush, oRI, hM.1, List.getElem?_cons_zero, List.getElem?_cons_succ, List.set_cons_zero, List.set_cons_succ, List.drop_succ_cons, List.drop_zero, List.take_succ_cons, List.take_zero, List.length_cons, List.length_nil, List.reverse_cons, List.reverse_nil, List.nil_append, List.cons_append, Option.toList_some, Option.toList_none, va_rf_s, true_and, and_true, true_implies, false_implies, not_true_eq_false, not_false_eq_true, Nat.reduceAdd, Nat.reduceLeDiff, Nat.le_add_left, Nat.zero_le, Nat.le_refl, znew, true_or, or_true, b01_t, b01_f, b01_ok, bool_ft, vp_b01, vp_b0, vp_b1, b01_eq0, b01_eq1, implies_true, nI_add, nI_clamp, zi_in, zi_le_t, zi_le_f, zi_lt_t, zi_lt_f, zi_eq_t, zi_eq_f, nI_leI, nI_ltI, nI_eq, z_in, pk_mul, zu_same, zu_rw, zu_ix, zi_ne0, zi_sub, zi_m1, Nat.add_sub_cancel, Nat.reduceMul, Nat.reduceSub]
      refine zC.of0 (zG_needs hM hX' hr hj) (by omega) (Nat.zero_le _) (Nat.zero_le _) ?_
      rintro _ _ ⟨rfl, rfl⟩
      refine sX10_darkens_27 _ _ _ _ _ ?_
      simp (disch := omega) only [oAld, oCV, oIf, oIld, oRI, hM.1, List.getElem?_cons_zero, List.getElem?_cons_succ, List.set_cons_zero, List.set_cons_succ, List.drop_succ_cons, List.drop_zero, List.take_succ_cons, List.take_zero, List.length_cons, List.length_nil, List.reverse_cons, List.reverse_nil, List.nil_append, List.cons_append, Option.toList_some, Option.toList_none, va_rf_s, true_and, and_true, true_implies, false_implies, not_true_eq_false, not_false_eq_true, Nat.reduceAdd, Nat.reduceLeDiff, Nat.le_add_left, Nat.zero_le, Nat.le_refl, znew, true_or, or_true, b01_t, b01_f, b01_ok, bool_ft, vp_b01, vp_b0, vp_b1, b01_eq0, b01_eq1, implies_true, nI_add, nI_clamp, zi_in, zi_le_t, zi_le_f, zi_lt_t, zi_lt_f, zi_eq_t, zi_eq_f, nI_leI, nI_ltI, nI_eq, z_in, pk_mul, zu_same, zu_rw, zu_ix, zi_ne0, zi_sub, zi_m1, Nat.add_sub_cancel, Nat.reduceMul, Nat.reduceSub]
      rw [darkC] at hd
      refine ⟨fun h0 => ?_, fun h0 => ?_⟩
      · rw [if_neg (i_nle h0)] at hd
        refine zC.of0 (zX10_hourGoes hM hX'.1 hX'.2.2.1 hX'.2.2.2.1) (by omega) (Nat.zero_le _) (Nat.zero_le _) ?_
        rintro _ _ ⟨rfl, S2, rfl, hf2, hr2⟩
        rw [hr, h55, h56, hX'.2.2.2.2.2.1] at hr2
        have hR2 : ∀ k, 48 ≤ k → hourT t (nI 1) (tsd t) R k = nI 0 := fun k hk => by rw [hourT_hi hX hk]; exact hR k hk
        refine sX10_darkens_36 _ _ _ _ _ ?_
        simp (disch := omega) only [oInc, oNop, List.getElem?_cons_zero, List.getElem?_cons_succ, List.set_cons_zero, List.set_cons_succ, List.drop_succ_cons, List.drop_zero, List.take_succ_cons, List.take_zero, List.length_cons, List.length_nil, List.reverse_cons, List.reverse_nil, List.nil_append, List.cons_append, Option.toList_some, Option.toList_none, va_rf_s, true_and, and_true, true_implies, false_implies, not_true_eq_false, not_false_eq_true, Nat.reduceAdd, Nat.reduceLeDiff, Nat.le_add_left, Nat.zero_le, Nat.le_refl, znew, true_or, or_true, b01_t, b01_f, b01_ok, bool_ft, vp_b01, vp_b0, vp_b1, b01_eq0, b01_eq1, implies_true, nI_add, nI_clamp, zi_in, zi_le_t, zi_le_f, zi_lt_t, zi_lt_f, zi_eq_t, zi_eq_f, nI_leI, nI_ltI, nI_eq, z_in, pk_mul, zu_same, zu_rw, zu_ix, zi_ne0, zi_sub, zi_m1, Nat.add_sub_cancel, Nat.reduceMul, Nat.reduceSub]
        exact ih (y + 1) (by omega) S2 _ (hE.w hf2 rfl rfl hr2 hR2) hr2 hR2 ((hf2.f (j := 55) rfl).trans h55) ((hf2.f (j := 56) rfl).trans h56) hd
      · rw [if_pos (i_lt h0)] at hd
        exact hVQ _ _ ⟨S', rfl, hE, by rw [darkensR, if_pos hok, nI_clamp (by omega), ← hd]⟩
  refine sX10_darkens_14 _ _ _ _ _ ?_
  simp (disch := omega) only [oIst, oPush, List.getElem?_cons_zero, List.getElem?_cons_succ, List.set_cons_zero, List.set_cons_succ, List.drop_succ_cons, List.drop_zero, List.take_succ_cons, List.take_zero, List.length_cons, List.length_nil, List.reverse_cons, List.reverse_nil, List.nil_append, List.cons_append, Option.toList_some, Option.toList_none, va_rf_s, true_and, and_true, true_implies, false_implies, not_true_eq_false, not_false_eq_true, Nat.reduceAdd, Nat.reduceLeDiff, Nat.le_add_left, Nat.zero_le, Nat.le_refl, znew, true_or, or_true, b01_t, b01_f, b01_ok, bool_ft, vp_b01, vp_b0, vp_b1, b01_eq0, b01_eq1, implies_true, nI_add, nI_clamp, zi_in, zi_le_t, zi_le_f, zi_lt_t, zi_lt_f, zi_eq_t, zi_eq_f, nI_leI, nI_ltI, nI_eq, z_in, pk_mul, zu_same, zu_rw, zu_ix, zi_ne0, zi_sub, zi_m1, Nat.add_sub_cancel, Nat.reduceMul, Nat.reduceSub]
  exact loop 101 0 rfl S1 T hE1 (hr1.trans hN) (fun k hk => by rw [← hN]; exact hZ.1 k hk) (hl1.trans hX.2.2.2.2.2.2) hs1 rfl
theorem zX10_sumNow (hM : isM h b) (hN : S (b + 36) = T) {f m : Nat} (hfm : f + m ≤ 48) :
    zM l E 0 YX10_sumNow [.ref b, .int (nI f), .int (nI m)] (z, h, S, L) 0 0 (fun r X => r = some (.int (sumI (fun k => T (f + k)) m)) ∧ X = (z, h, S, L)) (fun _ _ => False) := by
  refine zM.go rfl rfl (Nat.le_of_ble_eq_true rfl) (ls := [some (.ref b), some (.int (nI f)), some (.int (nI m)), none, none]) rfl ?_
  intro V hVl hVE hVd hVc hVs hVQ hVX
  have loop : ∀ y, y ≤ m → zW V YX10_sumNow 5 [some (.ref b), some (.int (nI f)), some (.int (nI m)), some (.int (sumI (fun k => T (f + k)) y)), some (.int (nI (f + y)))] [] (z, h, S, L) 0 0 := by
    refine z_down ?_ (fun y hy ih => ?_)
    · refine sX10_sumNow_5 _ _ _ _ _ ?_
      simp (disch := omega) only [oAld, oAld1, oBin, oGR, oIfc, oIld, oInc, oIst, oNop, oRI, hM.1, hM.r53, hM.t53, hM.n53, List.getElem?_cons_zero, List.getElem?_cons_succ, List.set_cons_zero, List.set_cons_succ, List.drop_succ_cons, List.drop_zero, List.take_succ_cons, List.take_zero, List.length_cons, List.length_nil, List.reverse_cons, List.reverse_nil, List.nil_append, List.cons_append, Option.toList_some, Option.toList_none, va_rf_s, true_and, and_true, true_implies, false_implies, not_true_eq_false, not_false_eq_true, Nat.reduceAdd, Nat.reduceLeDiff, Nat.le_add_left, Nat.zero_le, Nat.le_refl, znew, true_or, or_true, b01_t, b01_f, b01_ok, bool_ft, vp_b01, vp_b0, vp_b1, b01_eq0, b01_eq1, implies_true, nI_add, nI_clamp, zi_in, zi_le_t, zi_le_f, zi_lt_t, zi_lt_f, zi_eq_t, zi_eq_f, nI_leI, nI_ltI, nI_eq, z_in, pk_mul, zu_same, zu_rw, zu_ix, zi_ne0, zi_sub, zi_m1, Nat.add_sub_cancel, Nat.reduceMul, Nat.reduceSub]
      exact hVQ _ _ ⟨rfl, rfl⟩
    · refine sX10_sumNow_5 _ _ _ _ _ ?_
      simp (disch := omega) only [oAld, oAld1, oBin, oGR, oIfc, oIld, oInc, oIst, oNop, oRI, hM.1, hM.r53, hM.t53, hM.n53, hN, List.getElem?_cons_zero, List.getElem?_cons_succ, List.set_cons_zero, List.set_cons_succ, List.drop_succ_cons, List.drop_zero, List.take_succ_cons, List.take_zero, List.length_cons, List.length_nil, List.reverse_cons, List.reverse_nil, List.nil_append, List.cons_append, Option.toList_some, Option.toList_none, va_rf_s, true_and, and_true, true_implies, false_implies, not_true_eq_false, not_false_eq_true, Nat.reduceAdd, Nat.reduceLeDiff, Nat.le_add_left, Nat.zero_le, Nat.le_refl, znew, true_or, or_true, b01_t, b01_f, b01_ok, bool_ft, vp_b01, vp_b0, vp_b1, b01_eq0, b01_eq1, implies_true, nI_add, nI_clamp, zi_in, zi_le_t, zi_le_f, zi_lt_t, zi_lt_f, zi_eq_t, zi_eq_f, nI_leI, nI_ltI, nI_eq, z_in, pk_mul, zu_same, zu_rw, zu_ix, zi_ne0, zi_sub, zi_m1, Nat.add_sub_cancel, Nat.reduceMul, Nat.reduceSub]
      exact ih
  refine sX10_sumNow_0 _ _ _ _ _ ?_
  simp (disch := omega) only [oIld, oIst, oPush, List.getElem?_cons_zero, List.getElem?_cons_succ, List.set_cons_zero, List.set_cons_succ, List.drop_succ_cons, List.drop_zero, List.take_succ_cons, List.take_zero, List.length_cons, List.length_nil, List.reverse_cons, List.reverse_nil, List.nil_append, List.cons_append, Option.toList_some, Option.toList_none, va_rf_s, true_and, and_true, true_implies, false_implies, not_true_eq_false, not_false_eq_true, Nat.reduceAdd, Nat.reduceLeDiff, Nat.le_add_left, Nat.zero_le, Nat.le_refl, znew, true_or, or_true, b01_t, b01_f, b01_ok, bool_ft, vp_b01, vp_b0, vp_b1, b01_eq0, b01_eq1, implies_true, nI_add, nI_clamp, zi_in, zi_le_t, zi_le_f, zi_lt_t, zi_lt_f, zi_eq_t, zi_eq_f, nI_leI, nI_ltI, nI_eq, z_in, pk_mul, zu_same, zu_rw, zu_ix, zi_ne0, zi_sub, zi_m1, Nat.add_sub_cancel, Nat.reduceMul, Nat.reduceSub]
  exact loop 0 (by omega)
end MK
