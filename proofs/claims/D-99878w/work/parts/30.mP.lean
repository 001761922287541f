/-! the model: moves, the tree -/
def mayB (t : ZT) (T : Nat → Int32) (s y : Nat) : Bool := decide (T (12 + y) = nI 0) && !(decide (nI (tone t s) = T y) || decide (nI (toth t s) = T y))
def mayR (t : ZT) (T : Nat → Int32) (s : Nat) : Int32 := setF (mayB t T s) (tny t)
def mvP (T : Nat → Int32) (set y : Nat) : Int32 := if bt (nI set) y = true then T (6 + y) else nI 0
def mvS (T : Nat → Int32) (set : Nat) : Int32 := sumI (mvP T set) 6
def mvL (a : Option Nat) (set : Nat) : Prop := match a with
  | none => True
  | some b => bitsF 10 (nI set) < bitsF 10 (nI b)
def mvO (may needs : Int32) (T : Nat → Int32) : Nat → Option Nat
  | 0 => none
  | set + 1 => if nI set &&& (may ^^^ (-1)) = nI 0 ∧ needs ≤ mvS T set then (match mvO may needs T set with
    | none => some set
    | some b => if bitsF 10 (nI set) < bitsF 10 (nI b) then some set else some b) else mvO may needs T set
theorem mvO_lt {may needs : Int32} {T : Nat → Int32} : ∀ {n b}, mvO may needs T n = some b → b < n
  | n + 1, b, h => by
    rw [mvO] at h
    split at h
    · cases ha : mvO may needs T n with
      | none => rw [ha] at h; simp at h; omega
      | some c =>
        rw [ha] at h
        have := mvO_lt ha
        simp only [] at h
        split at h <;> (simp at h; omega)
    · have := mvO_lt h; omega
def movesR (t : ZT) (T : Nat → Int32) (s what : Int32) : Int32 := if okI s (tns t) = true ∧ okI what 2 = true then (match mvO (mayR t T s.toNatClampNeg) (needR t T s.toNatClampNeg) T 64 with
  | none => -2
  | some k => if what = nI 1 then nI k else bitsF 10 (nI k)) else -1
/-- the shortest street out of a set of corners -/
def shO (t : ZT) (inn : Int32) : Nat → Option Nat
  | 0 => none
  | s + 1 => if bt inn (tone t s) = bt inn (toth t s) then shO t inn s else (match shO t inn s with
    | none => some s
    | some b => if tlo t s < tlo t b then some s else some b)
theorem shO_lt {t : ZT} {inn : Int32} : ∀ {n b}, shO t inn n = some b → b < n ∧ bt inn (tone t b) ≠ bt inn (toth t b)
  | n + 1, b, h => by
    rw [shO] at h
    split at h
    · have := shO_lt h; exact ⟨by omega, this.2⟩
    · rename_i hne
      cases ha : shO t inn n with
      | none => rw [ha] at h; simp at h; subst h; exact ⟨by omega, hne⟩
      | some c =>
        rw [ha] at h
        have := shO_lt ha
        simp only [] at h
        split at h
        · simp at h; subst h; exact ⟨by omega, hne⟩
        · simp at h; subst h; exact ⟨by omega, this.2⟩
def trF (t : ZT) : Nat → Int32 → Int32 → Int32
  | 0, _, _ => -2
  | f + 1, inn, sum => if inn = bitF (tnc t) - nI 1 then sum else (match shO t inn (tns t) with
    | none => -2
    | some s => trF t f (inn ||| (bitF (tone t s) ||| bitF (toth t s))) (sum + tlo t s))
def treeR (t : ZT) : Int32 := if tnc t = 0 then -2 else trF t 9 (nI 1) (nI 0)
theorem cntN_mono {p q : Nat → Bool} (h : ∀ i, p i = true → q i = true) : ∀ n, cntN p n ≤ cntN q n
  | 0 => Nat.le_refl _
  | n + 1 => by
    have := cntN_mono h n
    rw [cntN, cntN]
    by_cases hp : p n = true
    · rw [if_pos hp, if_pos (h n hp)]; omega
    · rw [if_neg hp]; split <;> omega
theorem cntN_more {p q : Nat → Bool} (h : ∀ i, p i = true → q i = true) {k : Nat} (hp : p k = false) (hq : q k = true) : ∀ n, k < n → cntN p n < cntN q n
  | 0, hk => absurd hk (by omega)
  | n + 1, hk => by
    rw [cntN, cntN]
    by_cases hkn : k = n
    · subst hkn
      rw [if_neg (by rw [hp]; decide), if_pos hq]
      have := cntN_mono h k; omega
    · have := cntN_more h hp hq n (by omega)
      by_cases hp : p n = true
      · rw [if_pos hp, if_pos (h n hp)]; omega
      · rw [if_neg hp]; split <;> omega
/-- with such a street more corners are joined -/
theorem tr_more {t : ZT} {inn : Int32} {s : Nat} (h7 : tnc t ≤ 7) (h1 : tone t s < tnc t) (h2 : toth t s < tnc t) (hne : bt inn (tone t s) ≠ bt inn (toth t s)) : cntN (bt inn) (tnc t) < cntN (bt (inn ||| (bitF (tone t s) ||| bitF (toth t s)))) (tnc t) := by
  have hm : ∀ i, bt inn i = true → bt (inn ||| (bitF (tone t s) ||| bitF (toth t s))) i = true := fun i hi => by rw [b_or, hi]; rfl
  cases hb : bt inn (tone t s) with
  | false => exact cntN_more hm hb (by rw [b_or, b_or, bt_bitF (by omega) (by omega)]; simp) _ h1
  | true =>
    have hb2 : bt inn (toth t s) = false := by
      cases h : bt inn (toth t s) with
      | false => rfl
      | true => exact absurd (hb.trans h.symm) hne
    exact cntN_more hm hb2 (by rw [b_or, b_or, bt_bitF (s := toth t s) (by omega) (by omega)]; simp) _ h2
theorem b_oneq (x : Int32) {a c : Nat} (ha : a < 32) (hc : c < 32) : ((x >>> (nI a &&& 31)) &&& nI 1 = (x >>> (nI c &&& 31)) &&& nI 1) = (bt x a = bt x c) := by
  rw [b_one x ha, b_one x hc]
  cases bt x a <;> cases bt x c <;> first | exact propext ⟨fun _ => rfl, fun _ => rfl⟩ | exact propext ⟨fun h => absurd h (by decide), fun h => by cases h⟩
def oK (lv : Nat) (o : Option Nat) : Int32 := match o with
  | none => -1
  | some k => nI (10 * lv + k)
theorem m1nle : (nI 0 ≤ (-1 : Int32)) = False := eq_false (by decide)
section MP
variable {l : Launch} {E : zE} {b z : Nat} {h : Nat → Option zSh} {S : Nat → Nat → Int32} {L : Nat → Nat → Int64} {lv : Nat} {t : ZT} {T R : Nat → Int32}
theorem zX10_moves (hM : isM h b) (hQ : mQ b S lv t T) (s what : Int32) :
    zM l E 2 YX10_moves [.ref b, .int s, .int what] (z, h, S, L) 0 0 (fun r X => ∃ S', X = (z, h, S', L) ∧ mE b S S' ∧ r = some (.int (movesR t T s what))) (fun _ _ => False) := by
  obtain ⟨hX, hZ, hN⟩ := id hQ
  have hns10 : tns t ≤ 10 := hX.1.2.2.1.2
  refine zM.go rfl rfl (Nat.le_of_ble_eq_true rfl) (ls := [some (.ref b), some (.int s), some (.int what), none, none, none, none, none, none]) rfl ?_
  intro V hVl hVE hVd hVc hVs hVQ hVX
  refine sX10_moves_0 _ _ _ _ _ ?_
  simp (disch := omega) only [oAld, oCV, oIld, hM.1, List.getElem?_cons_zero, List.getElem?_cons_succ, List.set_cons_zero, List.set_cons_succ, List.drop_succ_cons, List.drop_zero, List.take_succ_cons, List.take_zero, List.length_cons, List.length_nil, List.reverse_cons, List.reverse_nil, List.nil_append, List.cons_append, Option.toList_some, Option.toList_none, va_rf_s, true_and, and_true, true_implies, false_implies, not_true_eq_false, not_false_eq_true, Nat.reduceAdd, Nat.reduceLeDiff, Nat.le_add_left, Nat.zero_le, Nat.le_refl, znew, true_or, or_true, b01_t, b01_f, b01_ok, bool_ft, vp_b01, vp_b0, vp_b1, b01_eq0, b01_eq1, implies_true, nI_add, nI_clamp, zi_in, zi_le_t, zi_le_f, zi_lt_t, zi_lt_f, zi_eq_t, zi_eq_f, nI_leI, nI_ltI, nI_eq, z_in, pk_mul, zu_same, zu_rw, zu_ix, zi_ne0, zi_sub, zi_m1, Nat.add_sub_cancel, Nat.reduceMul, Nat.reduceSub]
  refine zC.of0 (zX10_isStreet hM hX.1 _) (by omega) (Nat.zero_le _) (Nat.zero_le _) ?_
  rintro _ _ ⟨rfl, rfl⟩
  refine sX10_moves_5 _ _ _ _ _ ?_
  simp (disch := omega) only [oCS, oIf, oIld, oPush, oRI, List.getElem?_cons_zero, List.getElem?_cons_succ, List.set_cons_zero, List.set_cons_succ, List.drop_succ_cons, List.drop_zero, List.take_succ_cons, List.take_zero, List.length_cons, List.length_nil, List.reverse_cons, List.reverse_nil, List.nil_append, List.cons_append, Option.toList_some, Option.toList_none, va_rf_s, true_and, and_true, true_implies, false_implies, not_true_eq_false, not_false_eq_true, Nat.reduceAdd, Nat.reduceLeDiff, Nat.le_add_left, Nat.zero_le, Nat.le_refl, znew, true_or, or_true, b01_t, b01_f, b01_ok, bool_ft, vp_b01, vp_b0, vp_b1, b01_eq0, b01_eq1, implies_true, nI_add, nI_clamp, zi_in, zi_le_t, zi_le_f, zi_lt_t, zi_lt_f, zi_eq_t, zi_eq_f, nI_leI, nI_ltI, nI_eq, z_in, pk_mul, zu_same, zu_rw, zu_ix, zi_ne0, zi_sub, zi_m1, Nat.add_sub_cancel, Nat.reduceMul, Nat.reduceSub]
  refine ⟨fun hok => hVQ _ _ ⟨S, rfl, mE.rf hZ, by simp [movesR, hok]⟩, fun hok => ?_⟩
  have hok : okI s (tns t) = true := by simpa using hok
  obtain ⟨j, hj, rfl⟩ := (okI_iff (by omega)).mp hok
  refine zC.of0 (zX10_in _ _ _ _) (by omega) (Nat.zero_le _) (Nat.zero_le _) ?_
  rintro _ _ ⟨rfl, rfl⟩
  rw [okI_dec2 (by omega)]
  cases hw : okI what (1 + 1) with
  | false =>
    refine sX10_moves_14 _ _ _ _ _ ?_
    simp (disch := omega) only [oAld, oCV, oIf, oPush, oRI, hM.1, List.getElem?_cons_zero, List.getElem?_cons_succ, List.set_cons_zero, List.set_cons_succ, List.drop_succ_cons, List.drop_zero, List.take_succ_cons, List.take_zero, List.length_cons, List.length_nil, List.reverse_cons, List.reverse_nil, List.nil_append, List.cons_append, Option.toList_some, Option.toList_none, va_rf_s, true_and, and_true, true_implies, false_implies, not_true_eq_false, not_false_eq_true, Nat.reduceAdd, Nat.reduceLeDiff, Nat.le_add_left, Nat.zero_le, Nat.le_refl, znew, true_or, or_true, b01_t, b01_f, b01_ok, bool_ft, vp_b01, vp_b0, vp_b1, b01_eq0, b01_eq1, implies_true, nI_add, nI_clamp, zi_in, zi_le_t, zi_le_f, zi_lt_t, zi_lt_f, zi_eq_t, zi_eq_f, nI_leI, nI_ltI, nI_eq, z_in, pk_mul, zu_same, zu_rw, zu_ix, zi_ne0, zi_sub, zi_m1, Nat.add_sub_cancel, Nat.reduceMul, Nat.reduceSub]
    exact hVQ _ _ ⟨S, rfl, mE.rf hZ, by simp [movesR, hw]⟩
  | true =>
    refine sX10_moves_14 _ _ _ _ _ ?_
    simp (disch := omega) only [oAld, oCV, oIf, oPush, oRI, hM.1, List.getElem?_cons_zero, List.getElem?_cons_succ, List.set_cons_zero, List.set_cons_succ, List.drop_succ_cons, List.drop_zero, List.take_succ_cons, List.take_zero, List.length_cons, List.length_nil, List.reverse_cons, List.reverse_nil, List.nil_append, List.cons_append, Option.toList_some, Option.toList_none, va_rf_s, true_and, and_true, true_implies, false_implies, not_true_eq_false, not_false_eq_true, Nat.reduceAdd, Nat.reduceLeDiff, Nat.le_add_left, Nat.zero_le, Nat.le_refl, znew, true_or, or_true, b01_t, b01_f, b01_ok, bool_ft, vp_b01, vp_b0, vp_b1, b01_eq0, b01_eq1, implies_true, nI_add, nI_clamp, zi_in, zi_le_t, zi_le_f, zi_lt_t, zi_lt_f, zi_eq_t, zi_eq_f, nI_leI, nI_ltI, nI_eq, z_in, pk_mul, zu_same, zu_rw, zu_ix, zi_ne0, zi_sub, zi_m1, Nat.add_sub_cancel, Nat.reduceMul, Nat.reduceSub]
    refine zC.of0 (zG_copies hM hQ) (by omega) (Nat.zero_le _) (Nat.zero_le _) ?_
    rintro _ _ ⟨rfl, S1, rfl, hE, hX1, hr, hN1, -, -⟩
    obtain ⟨⟨hl, hlv⟩, -, -, ⟨hny, hny6⟩, -⟩ := id hX1.1
    refine sX10_moves_23 _ _ _ _ _ ?_
    simp (disch := omega) only [oAld, oCV, oIld, hM.1, List.getElem?_cons_zero, List.getElem?_cons_succ, List.set_cons_zero, List.set_cons_succ, List.drop_succ_cons, List.drop_zero, List.take_succ_cons, List.take_zero, List.length_cons, List.length_nil, List.reverse_cons, List.reverse_nil, List.nil_append, List.cons_append, Option.toList_some, Option.toList_none, va_rf_s, true_and, and_true, true_implies, false_implies, not_true_eq_false, not_false_eq_true, Nat.reduceAdd, Nat.reduceLeDiff, Nat.le_add_left, Nat.zero_le, Nat.le_refl, znew, true_or, or_true, b01_t, b01_f, b01_ok, bool_ft, vp_b01, vp_b0, vp_b1, b01_eq0, b01_eq1, implies_true, nI_add, nI_clamp, zi_in, zi_le_t, zi_le_f, zi_lt_t, zi_lt_f, zi_eq_t, zi_eq_f, nI_leI, nI_ltI, nI_eq, z_in, pk_mul, zu_same, zu_rw, zu_ix, zi_ne0, zi_sub, zi_m1, Nat.add_sub_cancel, Nat.reduceMul, Nat.reduceSub]
    refine zC.of0 (zG_needs hM hX1 hr hj) (by omega) (Nat.zero_le _) (Nat.zero_le _) ?_
    rintro _ _ ⟨rfl, rfl⟩
    have hR : movesR t T (nI j) what = (match mvO (mayR t T j) (needR t T j) T 64 with
      | none => -2
      | some k => if what = nI 1 then nI k else bitsF 10 (nI k)) := by rw [movesR, if_pos ⟨hok, hw⟩, nI_clamp (by omega)]
    have hmay : mayR t T j = setF (mayB t T j) (tny t) := rfl
    generalize needR t T j = needs at hR ⊢
    -- the sets
    have loopS : ∀ may, (movesR t T (nI j) what = match mvO may needs T 64 with
        | none => -2
        | some k => if what = nI 1 then nI k else bitsF 10 (nI k)) → ∀ set, set ≤ 64 → ∀ x7 x8, zW V YX10_moves 99 [some (.ref b), some (.int (nI j)), some (.int what), some (.int needs), some (.int may), some (.int (oN (mvO may needs T set))), some (.int (nI set)), x7, x8] [] (z, h, S1, L) 0 0 := by
      intro may hR
      refine z_down ?_ (fun set hset ih => ?_)
      · intro x7 x8
        cases ha : mvO may needs T 64 with
        | none =>
          rw [ha] at hR
          rw [show oN none = -2 from rfl]
          refine sX10_moves_99 _ _ _ _ _ ?_
          simp (disch := omega) only [oCS, oIf, oIfc, oIld, oIst, oNop, oPush, m2lt, List.getElem?_cons_zero, List.getElem?_cons_succ, List.set_cons_zero, List.set_cons_succ, List.drop_succ_cons, List.drop_zero, List.take_succ_cons, List.take_zero, List.length_cons, List.length_nil, List.reverse_cons, List.reverse_nil, List.nil_append, List.cons_append, Option.toList_some, Option.toList_none, va_rf_s, true_and, and_true, true_implies, false_implies, not_true_eq_false, not_false_eq_true, Nat.reduceAdd, Nat.reduceLeDiff, Nat.le_add_left, Nat.zero_le, Nat.le_refl, znew, true_or, or_true, b01_t, b01_f, b01_ok, bool_ft, vp_b01, vp_b0, vp_b1, b01_eq0, b01_eq1, implies_true, nI_add, nI_clamp, zi_in, zi_le_t, zi_le_f, zi_lt_t, zi_lt_f, zi_eq_t, zi_eq_f, nI_leI, nI_ltI, nI_eq, z_in, pk_mul, zu_same, zu_rw, zu_ix, zi_ne0, zi_sub, zi_m1, Nat.add_sub_cancel, Nat.reduceMul, Nat.reduceSub]
          refine sX10_moves_215 _ _ _ _ _ ?_
          simp (disch := omega) only [oRI, List.getElem?_cons_zero, List.getElem?_cons_succ, List.set_cons_zero, List.set_cons_succ, List.drop_succ_cons, List.drop_zero, List.take_succ_cons, List.take_zero, List.length_cons, List.length_nil, List.reverse_cons, List.reverse_nil, List.nil_append, List.cons_append, Option.toList_some, Option.toList_none, va_rf_s, true_and, and_true, true_implies, false_implies, not_true_eq_false, not_false_eq_true, Nat.reduceAdd, Nat.reduceLeDiff, Nat.le_add_left, Nat.zero_le, Nat.le_refl, znew, true_or, or_true, b01_t, b01_f, b01_ok, bool_ft, vp_b01, vp_b0, vp_b1, b01_eq0, b01_eq1, implies_true, nI_add, nI_clamp, zi_in, zi_le_t, zi_le_f, zi_lt_t, zi_lt_f, zi_eq_t, zi_eq_f, nI_leI, nI_ltI, nI_eq, z_in, pk_mul, zu_same, zu_rw, zu_ix, zi_ne0, zi_sub, zi_m1, Nat.add_sub_cancel, Nat.reduceMul, Nat.reduceSub]
          exact hVQ _ _ ⟨S1, rfl, hE, by rw [hR]⟩
        | some k =>
          rw [ha] at hR
          have hk := mvO_lt ha
          rw [show oN (some k) = nI k from rfl]
          refine sX10_moves_99 _ _ _ _ _ ?_
          simp (disch := omega) only [oCS, oIf, oIfc, oIld, oIst, oNop, oPush, List.getElem?_cons_zero, List.getElem?_cons_succ, List.set_cons_zero, List.set_cons_succ, List.drop_succ_cons, List.drop_zero, List.take_succ_cons, List.take_zero, List.length_cons, List.length_nil, List.reverse_cons, List.reverse_nil, List.nil_append, List.cons_append, Option.toList_some, Option.toList_none, va_rf_s, true_and, and_true, true_implies, false_implies, not_true_eq_false, not_false_eq_true, Nat.reduceAdd, Nat.reduceLeDiff, Nat.le_add_left, Nat.zero_le, Nat.le_refl, znew, true_or, or_true, b01_t, b01_f, b01_ok, bool_ft, vp_b01, vp_b0, vp_b1, b01_eq0, b01_eq1, implies_true, nI_add, nI_clamp, zi_in, zi_le_t, zi_le_f, zi_lt_t, zi_lt_f, zi_eq_t, zi_eq_f, nI_leI, nI_ltI, nI_eq, z_in, pk_mul, zu_same, zu_rw, zu_ix, zi_ne0, zi_sub, zi_m1, Nat.add_sub_cancel, Nat.reduceMul, Nat.reduceSub]
          refine ⟨fun h0 => ?_, fun h0 => ?_⟩
          · refine sX10_moves_215 _ _ _ _ _ ?_
            simp (disch := omega) only [oRI, List.getElem?_cons_zero, List.getElem?_cons_succ, List.set_cons_zero, List.set_cons_succ, List.drop_succ_cons, List.drop_zero, List.take_succ_cons, List.take_zero, List.length_cons, List.length_nil, List.reverse_cons, List.reverse_nil, List.nil_append, List.cons_append, Option.toList_some, Option.toList_none, va_rf_s, true_and, and_true, true_implies, false_implies, not_true_eq_false, not_false_eq_true, Nat.reduceAdd, Nat.reduceLeDiff, Nat.le_add_left, Nat.zero_le, Nat.le_refl, znew, true_or, or_true, b01_t, b01_f, b01_ok, bool_ft, vp_b01, vp_b0, vp_b1, b01_eq0, b01_eq1, implies_true, nI_add, nI_clamp, zi_in, zi_le_t, zi_le_f, zi_lt_t, zi_lt_f, zi_eq_t, zi_eq_f, nI_leI, nI_ltI, nI_eq, z_in, pk_mul, zu_same, zu_rw, zu_ix, zi_ne0, zi_sub, zi_m1, Nat.add_sub_cancel, Nat.reduceMul, Nat.reduceSub]
            exact hVQ _ _ ⟨S1, rfl, hE, by rw [hR]; simp only []; rw [if_pos h0]⟩
          · refine zC.of0 (zX10_bits _ _) (by omega) (Nat.zero_le _) (Nat.zero_le _) ?_
            rintro _ _ ⟨rfl, rfl⟩
            refine sX10_moves_215 _ _ _ _ _ ?_
            simp (disch := omega) only [oRI, List.getElem?_cons_zero, List.getElem?_cons_succ, List.set_cons_zero, List.set_cons_succ, List.drop_succ_cons, List.drop_zero, List.take_succ_cons, List.take_zero, List.length_cons, List.length_nil, List.reverse_cons, List.reverse_nil, List.nil_append, List.cons_append, Option.toList_some, Option.toList_none, va_rf_s, true_and, and_true, true_implies, false_implies, not_true_eq_false, not_false_eq_true, Nat.reduceAdd, Nat.reduceLeDiff, Nat.le_add_left, Nat.zero_le, Nat.le_refl, znew, true_or, or_true, b01_t, b01_f, b01_ok, bool_ft, vp_b01, vp_b0, vp_b1, b01_eq0, b01_eq1, implies_true, nI_add, nI_clamp, zi_in, zi_le_t, zi_le_f, zi_lt_t, zi_lt_f, zi_eq_t, zi_eq_f, nI_leI, nI_ltI, nI_eq, z_in, pk_mul, zu_same, zu_rw, zu_ix, zi_ne0, zi_sub, zi_m1, Nat.add_sub_cancel, Nat.reduceMul, Nat.reduceSub]
            exact hVQ _ _ ⟨S1, rfl, hE, by rw [hR]; simp only []; rw [if_neg h0]⟩
      · intro x7 x8
        have hst : mvO may needs T (set + 1) = if nI set &&& (may ^^^ (-1)) = nI 0 ∧ needs ≤ mvS T set then (match mvO may needs T set with
          | none => some set
          | some b => if bitsF 10 (nI set) < bitsF 10 (nI b) then some set else some b) else mvO may needs T set := rfl
        rw [hst] at ih
        have loopY : ∀ y, y ≤ 6 → zW V YX10_moves 112 [some (.ref b), some (.int (nI j)), some (.int what), some (.int needs), some (.int may), some (.int (oN (mvO may needs T set))), some (.int (nI set)), some (.int (sumI (mvP T set) y)), some (.int (nI y))] [] (z, h, S1, L) 0 0 := by
          refine z_down ?_ (fun y hy ihy => ?_)
          · change zW V YX10_moves 112 [some (.ref b), some (.int (nI j)), some (.int what), some (.int needs), some (.int may), some (.int (oN (mvO may needs T set))), some (.int (nI set)), some (.int (mvS T set)), some (.int (nI 6))] [] (z, h, S1, L) 0 0
            cases ha : mvO may needs T set with
            | none =>
              rw [ha] at ih
              rw [show oN none = -2 from rfl]
              refine sX10_moves_112 _ _ _ _ _ ?_
              simp (disch := omega) only [oAld, oAld1, oBin, oCS, oGR, oIf, oIfc, oIld, oInc, oIst, oNop, oPush, hM.1, hM.r54, hM.t54, hM.n54, m2lt, List.getElem?_cons_zero, List.getElem?_cons_succ, List.set_cons_zero, List.set_cons_succ, List.drop_succ_cons, List.drop_zero, List.take_succ_cons, List.take_zero, List.length_cons, List.length_nil, List.reverse_cons, List.reverse_nil, List.nil_append, List.cons_append, Option.toList_some, Option.toList_none, va_rf_s, true_and, and_true, true_implies, false_implies, not_true_eq_false, not_false_eq_true, Nat.reduceAdd, Nat.reduceLeDiff, Nat.le_add_left, Nat.zero_le, Nat.le_refl, znew, true_or, or_true, b01_t, b01_f, b01_ok, bool_ft, vp_b01, vp_b0, vp_b1, b01_eq0, b01_eq1, implies_true, nI_add, nI_clamp, zi_in, zi_le_t, zi_le_f, zi_lt_t, zi_lt_f, zi_eq_t, zi_eq_f, nI_leI, nI_ltI, nI_eq, z_in, pk_mul, zu_same, zu_rw, zu_ix, zi_ne0, zi_sub, zi_m1, Nat.add_sub_cancel, Nat.reduceMul, Nat.reduceSub]
              refine ⟨fun h0 => ⟨fun h1 => ?_, fun h1 => ?_⟩, fun h0 => ?_⟩
              · rw [if_neg (fun q => (i_nle q.2) h1)] at ih; exact ih _ _
              · rw [if_pos ⟨h0, i_le h1⟩] at ih; exact ih _ _
              · rw [if_neg (fun q => h0 q.1)] at ih; exact ih _ _
            | some k =>
              rw [ha] at ih
              have hk := mvO_lt ha
              rw [show oN (some k) = nI k from rfl]
              refine sX10_moves_112 _ _ _ _ _ ?_
              simp (disch := omega) only [oAld, oAld1, oBin, oCS, oGR, oIf, oIfc, oIld, oInc, oIst, oNop, oPush, hM.1, hM.r54, hM.t54, hM.n54, List.getElem?_cons_zero, List.getElem?_cons_succ, List.set_cons_zero, List.set_cons_succ, List.drop_succ_cons, List.drop_zero, List.take_succ_cons, List.take_zero, List.length_cons, List.length_nil, List.reverse_cons, List.reverse_nil, List.nil_append, List.cons_append, Option.toList_some, Option.toList_none, va_rf_s, true_and, and_true, true_implies, false_implies, not_true_eq_false, not_false_eq_true, Nat.reduceAdd, Nat.reduceLeDiff, Nat.le_add_left, Nat.zero_le, Nat.le_refl, znew, true_or, or_true, b01_t, b01_f, b01_ok, bool_ft, vp_b01, vp_b0, vp_b1, b01_eq0, b01_eq1, implies_true, nI_add, nI_clamp, zi_in, zi_le_t, zi_le_f, zi_lt_t, zi_lt_f, zi_eq_t, zi_eq_f, nI_leI, nI_ltI, nI_eq, z_in, pk_mul, zu_same, zu_rw, zu_ix, zi_ne0, zi_sub, zi_m1, Nat.add_sub_cancel, Nat.reduceMul, Nat.reduceSub]
              refine ⟨fun h0 => ⟨fun h1 => ?_, fun h1 => ?_⟩, fun h0 => ?_⟩
              · rw [if_neg (fun q => (i_nle q.2) h1)] at ih; exact ih _ _
              · rw [if_pos ⟨h0, i_le h1⟩] at ih
                refine zC.of0 (zX10_bits _ _) (by omega) (Nat.zero_le _) (Nat.zero_le _) ?_
                rintro _ _ ⟨rfl, rfl⟩
                refine sX10_moves_177 _ _ _ _ _ ?_
                simp (disch := omega) only [oCS, oIld, List.getElem?_cons_zero, List.getElem?_cons_succ, List.set_cons_zero, List.set_cons_succ, List.drop_succ_cons, List.drop_zero, List.take_succ_cons, List.take_zero, List.length_cons, List.length_nil, List.reverse_cons, List.reverse_nil, List.nil_append, List.cons_append, Option.toList_some, Option.toList_none, va_rf_s, true_and, and_true, true_implies, false_implies, not_true_eq_false, not_false_eq_true, Nat.reduceAdd, Nat.reduceLeDiff, Nat.le_add_left, Nat.zero_le, Nat.le_refl, znew, true_or, or_true, b01_t, b01_f, b01_ok, bool_ft, vp_b01, vp_b0, vp_b1, b01_eq0, b01_eq1, implies_true, nI_add, nI_clamp, zi_in, zi_le_t, zi_le_f, zi_lt_t, zi_lt_f, zi_eq_t, zi_eq_f, nI_leI, nI_ltI, nI_eq, z_in, pk_mul, zu_same, zu_rw, zu_ix, zi_ne0, zi_sub, zi_m1, Nat.add_sub_cancel, Nat.reduceMul, Nat.reduceSub]
                refine zC.of0 (zX10_bits _ _) (by omega) (Nat.zero_le _) (Nat.zero_le _) ?_
                rintro _ _ ⟨rfl, rfl⟩
                refine sX10_moves_182 _ _ _ _ _ ?_
                simp (disch := omega) only [oIfc, oIld, oInc, oIst, oNop, List.getElem?_cons_zero, List.getElem?_cons_succ, List.set_cons_zero, List.set_cons_succ, List.drop_succ_cons, List.drop_zero, List.take_succ_cons, List.take_zero, List.length_cons, List.length_nil, List.reverse_cons, List.reverse_nil, List.nil_append, List.cons_append, Option.toList_some, Option.toList_none, va_rf_s, true_and, and_true, true_implies, false_implies, not_true_eq_false, not_false_eq_true, Nat.reduceAdd, Nat.reduceLeDiff, Nat.le_add_left, Nat.zero_le, Nat.le_refl, znew, true_or, or_true, b01_t, b01_f, b01_ok, bool_ft, vp_b01, vp_b0, vp_b1, b01_eq0, b01_eq1, implies_true, nI_add, nI_clamp, zi_in, zi_le_t, zi_le_f, zi_lt_t, zi_lt_f, zi_eq_t, zi_eq_f, nI_leI, nI_ltI, nI_eq, z_in, pk_mul, zu_same, zu_rw, zu_ix, zi_ne0, zi_sub, zi_m1, Nat.add_sub_cancel, Nat.reduceMul, Nat.reduceSub]
                refine ⟨fun h2 => ?_, fun h2 => ?_⟩
                · simp only [if_neg (i_nle h2)] at ih; exact ih _ _
                · simp only [if_pos (i_lt h2)] at ih; exact ih _ _
              · rw [if_neg (fun q => h0 q.1)] at ih; exact ih _ _
          · have hsy : sumI (mvP T set) (y + 1) = sumI (mvP T set) y + mvP T set y := rfl
            rw [hsy] at ihy
            refine sX10_moves_112 _ _ _ _ _ ?_
            simp (disch := omega) only [oAld, oAld1, oBin, oCS, oGR, oIf, oIfc, oIld, oInc, oIst, oNop, oPush, hM.1, hM.r54, hM.t54, hM.n54, hr, b_one1, List.getElem?_cons_zero, List.getElem?_cons_succ, List.set_cons_zero, List.set_cons_succ, List.drop_succ_cons, List.drop_zero, List.take_succ_cons, List.take_zero, List.length_cons, List.length_nil, List.reverse_cons, List.reverse_nil, List.nil_append, List.cons_append, Option.toList_some, Option.toList_none, va_rf_s, true_and, and_true, true_implies, false_implies, not_true_eq_false, not_false_eq_true, Nat.reduceAdd, Nat.reduceLeDiff, Nat.le_add_left, Nat.zero_le, Nat.le_refl, znew, true_or, or_true, b01_t, b01_f, b01_ok, bool_ft, vp_b01, vp_b0, vp_b1, b01_eq0, b01_eq1, implies_true, nI_add, nI_clamp, zi_in, zi_le_t, zi_le_f, zi_lt_t, zi_lt_f, zi_eq_t, zi_eq_f, nI_leI, nI_ltI, nI_eq, z_in, pk_mul, zu_same, zu_rw, zu_ix, zi_ne0, zi_sub, zi_m1, Nat.add_sub_cancel, Nat.reduceMul, Nat.reduceSub]
            refine ⟨fun h0 => ?_, fun h0 => ?_⟩
            · rw [mvP, if_pos h0] at ihy; exact ihy
            · rw [mvP, if_neg h0, i_add0] at ihy; exact ihy
        refine sX10_moves_99 _ _ _ _ _ ?_
        simp (disch := omega) only [oCS, oIf, oIfc, oIld, oIst, oNop, oPush, List.getElem?_cons_zero, List.getElem?_cons_succ, List.set_cons_zero, List.set_cons_succ, List.drop_succ_cons, List.drop_zero, List.take_succ_cons, List.take_zero, List.length_cons, List.length_nil, List.reverse_cons, List.reverse_nil, List.nil_append, List.cons_append, Option.toList_some, Option.toList_none, va_rf_s, true_and, and_true, true_implies, false_implies, not_true_eq_false, not_false_eq_true, Nat.reduceAdd, Nat.reduceLeDiff, Nat.le_add_left, Nat.zero_le, Nat.le_refl, znew, true_or, or_true, b01_t, b01_f, b01_ok, bool_ft, vp_b01, vp_b0, vp_b1, b01_eq0, b01_eq1, implies_true, nI_add, nI_clamp, zi_in, zi_le_t, zi_le_f, zi_lt_t, zi_lt_f, zi_eq_t, zi_eq_f, nI_leI, nI_ltI, nI_eq, z_in, pk_mul, zu_same, zu_rw, zu_ix, zi_ne0, zi_sub, zi_m1, Nat.add_sub_cancel, Nat.reduceMul, Nat.reduceSub]
        exact loopY 0 (by omega)
    have loopM : ∀ y, y ≤ tny t → zW V YX10_moves 35 [some (.ref b), some (.int (nI j)), some (.int what), some (.int needs), some (.int (setF (mayB t T j) y)), some (.int (nI y)), none, none, none] [] (z, h, S1, L) 0 0 := by
      refine z_down ?_ (fun y hy ih => ?_)
      · refine sX10_moves_35 _ _ _ _ _ ?_
        simp (disch := omega) only [oAld, oAld1, oBin, oCV, oGI, oGR, oIf, oIfc, oIld, oInc, oIst, oNop, oPush, hM.1, hM.r28, hM.t28, hM.n28, hM.r54, hM.t54, hM.n54, hl, hny, List.getElem?_cons_zero, List.getElem?_cons_succ, List.set_cons_zero, List.set_cons_succ, List.drop_succ_cons, List.drop_zero, List.take_succ_cons, List.take_zero, List.length_cons, List.length_nil, List.reverse_cons, List.reverse_nil, List.nil_append, List.cons_append, Option.toList_some, Option.toList_none, va_rf_s, true_and, and_true, true_implies, false_implies, not_true_eq_false, not_false_eq_true, Nat.reduceAdd, Nat.reduceLeDiff, Nat.le_add_left, Nat.zero_le, Nat.le_refl, znew, true_or, or_true, b01_t, b01_f, b01_ok, bool_ft, vp_b01, vp_b0, vp_b1, b01_eq0, b01_eq1, implies_true, nI_add, nI_clamp, zi_in, zi_le_t, zi_le_f, zi_lt_t, zi_lt_f, zi_eq_t, zi_eq_f, nI_leI, nI_ltI, nI_eq, z_in, pk_mul, zu_same, zu_rw, zu_ix, zi_ne0, zi_sub, zi_m1, Nat.add_sub_cancel, Nat.reduceMul, Nat.reduceSub]
        exact loopS (mayR t T j) hR 0 (by omega) _ _
      · refine sX10_moves_35 _ _ _ _ _ ?_
        simp (disch := omega) only [oAld, oAld1, oBin, oCV, oGI, oGR, oIf, oIfc, oIld, oInc, oIst, oNop, oPush, hM.1, hM.r28, hM.t28, hM.n28, hM.r54, hM.t54, hM.n54, hl, hny, hr, List.getElem?_cons_zero, List.getElem?_cons_succ, List.set_cons_zero, List.set_cons_succ, List.drop_succ_cons, List.drop_zero, List.take_succ_cons, List.take_zero, List.length_cons, List.length_nil, List.reverse_cons, List.reverse_nil, List.nil_append, List.cons_append, Option.toList_some, Option.toList_none, va_rf_s, true_and, and_true, true_implies, false_implies, not_true_eq_false, not_false_eq_true, Nat.reduceAdd, Nat.reduceLeDiff, Nat.le_add_left, Nat.zero_le, Nat.le_refl, znew, true_or, or_true, b01_t, b01_f, b01_ok, bool_ft, vp_b01, vp_b0, vp_b1, b01_eq0, b01_eq1, implies_true, nI_add, nI_clamp, zi_in, zi_le_t, zi_le_f, zi_lt_t, zi_lt_f, zi_eq_t, zi_eq_f, nI_leI, nI_ltI, nI_eq, z_in, pk_mul, zu_same, zu_rw, zu_ix, zi_ne0, zi_sub, zi_m1, Nat.add_sub_cancel, Nat.reduceMul, Nat.reduceSub]
        refine ⟨fun h0 => ?_, fun h0 => ?_⟩
        · refine zC.of0 (zX10_isEnd hM hX1.1 hX1.2.1 hj _) (by omega) (Nat.zero_le _) (Nat.zero_le _) ?_
          rintro _ _ ⟨e, rfl, he, rfl⟩
          refine sX10_moves_74 _ _ _ _ _ ?_
          simp (disch := omega) only [oBin, oIf, oIld, oInc, oIst, oNop, oPush, List.getElem?_cons_zero, List.getElem?_cons_succ, List.set_cons_zero, List.set_cons_succ, List.drop_succ_cons, List.drop_zero, List.take_succ_cons, List.take_zero, List.length_cons, List.length_nil, List.reverse_cons, List.reverse_nil, List.nil_append, List.cons_append, Option.toList_some, Option.toList_none, va_rf_s, true_and, and_true, true_implies, false_implies, not_true_eq_false, not_false_eq_true, Nat.reduceAdd, Nat.reduceLeDiff, Nat.le_add_left, Nat.zero_le, Nat.le_refl, znew, true_or, or_true, b01_t, b01_f, b01_ok, bool_ft, vp_b01, vp_b0, vp_b1, b01_eq0, b01_eq1, implies_true, nI_add, nI_clamp, zi_in, zi_le_t, zi_le_f, zi_lt_t, zi_lt_f, zi_eq_t, zi_eq_f, nI_leI, nI_ltI, nI_eq, z_in, pk_mul, zu_same, zu_rw, zu_ix, zi_ne0, zi_sub, zi_m1, Nat.add_sub_cancel, Nat.reduceMul, Nat.reduceSub]
          refine ⟨fun h1 => ?_, fun h1 => ?_⟩
          · have hn : ¬ (nI (tone t j) = T y ∨ nI (toth t j) = T y) := fun q => by rw [he.mpr q] at h1; cases h1
            have hn1 : ¬ nI (tone t j) = T y := fun q => hn (Or.inl q)
            have hn2 : ¬ nI (toth t j) = T y := fun q => hn (Or.inr q)
            rw [setF_t (by rw [mayB, decide_eq_true h0, decide_eq_false hn1, decide_eq_false hn2]; rfl)] at ih; exact ih
          · have hn : nI (tone t j) = T y ∨ nI (toth t j) = T y := he.mp (by simpa using h1)
            rw [setF_f (by rw [mayB, decide_eq_true h0]; rcases hn with q | q <;> simp [q])] at ih; exact ih
        · rw [setF_f (by rw [mayB, decide_eq_false h0, Bool.false_and]; decide)] at ih; exact ih
    refine sX10_moves_28 _ _ _ _ _ ?_
    simp (disch := omega) only [oIst, oPush, List.getElem?_cons_zero, List.getElem?_cons_succ, List.set_cons_zero, List.set_cons_succ, List.drop_succ_cons, List.drop_zero, List.take_succ_cons, List.take_zero, List.length_cons, List.length_nil, List.reverse_cons, List.reverse_nil, List.nil_append, List.cons_append, Option.toList_some, Option.toList_none, va_rf_s, true_and, and_true, true_implies, false_implies, not_true_eq_false, not_false_eq_true, Nat.reduceAdd, Nat.reduceLeDiff, Nat.le_add_left, Nat.zero_le, Nat.le_refl, znew, true_or, or_true, b01_t, b01_f, b01_ok, bool_ft, vp_b01, vp_b0, vp_b1, b01_eq0, b01_eq1, implies_true, nI_add, nI_clamp, zi_in, zi_le_t, zi_le_f, zi_lt_t, zi_lt_f, zi_eq_t, zi_eq_f, nI_leI, nI_ltI, nI_eq, z_in, pk_mul, zu_same, zu_rw, zu_ix, zi_ne0, zi_sub, zi_m1, Nat.add_sub_cancel, Nat.reduceMul, Nat.reduceSub]
    exact loopM 0 (by omega)
theorem zX10_tree (hM : isM h b) (hX : mX b S lv t) :
    zM l E 0 YX10_tree [.ref b] (z, h, S, L) 0 0 (fun r X => r = some (.int (treeR t)) ∧ X = (z, h, S, L)) (fun _ _ => False) := by
  obtain ⟨⟨hl, hlv⟩, ⟨hnc, hnc7⟩, ⟨hns, hns10⟩, -⟩ := id hX.1
  refine zM.go rfl rfl (Nat.le_of_ble_eq_true rfl) (ls := [some (.ref b), none, none, none, none, none, none]) rfl ?_
  intro V hVl hVE hVd hVc hVs hVQ hVX
  by_cases h0 : tnc t = 0
  · have hz : nI 1 <<< (nI 0 &&& 31) - nI 1 = nI 0 := by decide
    rw [h0] at hnc
    refine sX10_tree_0 _ _ _ _ _ ?_
    simp (disch := omega) only [oAld, oAld1, oBin, oGI, oGR, oIf, oIld, oIst, oPush, oRI, hM.1, hM.r23, hM.t23, hM.n23, hl, hnc, hz, List.getElem?_cons_zero, List.getElem?_cons_succ, List.set_cons_zero, List.set_cons_succ, List.drop_succ_cons, List.drop_zero, List.take_succ_cons, List.take_zero, List.length_cons, List.length_nil, List.reverse_cons, List.reverse_nil, List.nil_append, List.cons_append, Option.toList_some, Option.toList_none, va_rf_s, true_and, and_true, true_implies, false_implies, not_true_eq_false, not_false_eq_true, Nat.reduceAdd, Nat.reduceLeDiff, Nat.le_add_left, Nat.zero_le, Nat.le_refl, znew, true_or, or_true, b01_t, b01_f, b01_ok, bool_ft, vp_b01, vp_b0, vp_b1, b01_eq0, b01_eq1, implies_true, nI_add, nI_clamp, zi_in, zi_le_t, zi_le_f, zi_lt_t, zi_lt_f, zi_eq_t, zi_eq_f, nI_leI, nI_ltI, nI_eq, z_in, pk_mul, zu_same, zu_rw, zu_ix, zi_ne0, zi_sub, zi_m1, Nat.add_sub_cancel, Nat.reduceMul, Nat.reduceSub]
    exact hVQ _ _ ⟨by rw [treeR, if_pos h0], rfl⟩
  have hne : (bitF (tnc t) - nI 1 = nI 0) = False := by
    rw [bitF_N (by omega)]
    refine eq_false (fun q => ?_)
    have hp : 2 ≤ 2 ^ tnc t := by
      calc 2 = 2 ^ 1 := rfl
        _ ≤ 2 ^ tnc t := Nat.pow_le_pow_right (by omega) (by omega)
    have hp2 : 2 ^ tnc t ≤ 2 ^ 7 := Nat.pow_le_pow_right (by omega) (by omega)
    rw [zi_sub (by omega), nI_eq (by omega) (by omega)] at q
    omega
  have hbf : nI 1 <<< (nI (tnc t) &&& 31) = bitF (tnc t) := rfl
  have hR : treeR t = trF t 9 (nI 1) (nI 0) := by rw [treeR, if_neg h0]
  rw [hR] at hVQ
  generalize hall : bitF (tnc t) - nI 1 = all at hne
  have loop : ∀ f inn sum, tnc t - cntN (bt inn) (tnc t) < f → trF t f inn sum = trF t 9 (nI 1) (nI 0) → ∀ x4 x5 x6, zW V YX10_tree 25 [some (.ref b), some (.int all), some (.int inn), some (.int sum), x4, x5, x6] [] (z, h, S, L) 0 0 := by
    intro f
    induction f with
    | zero => intro inn sum hf; exact absurd hf (by omega)
    | succ f ih =>
      intro inn sum hf hT x4 x5 x6
      rw [trF, hall] at hT
      refine sX10_tree_25 _ _ _ _ _ ?_
      simp (disch := omega) only [oIfc, oIld, oIst, oPush, oRI, List.getElem?_cons_zero, List.getElem?_cons_succ, List.set_cons_zero, List.set_cons_succ, List.drop_succ_cons, List.drop_zero, List.take_succ_cons, List.take_zero, List.length_cons, List.length_nil, List.reverse_cons, List.reverse_nil, List.nil_append, List.cons_append, Option.toList_some, Option.toList_none, va_rf_s, true_and, and_true, true_implies, false_implies, not_true_eq_false, not_false_eq_true, Nat.reduceAdd, Nat.reduceLeDiff, Nat.le_add_left, Nat.zero_le, Nat.le_refl, znew, true_or, or_true, b01_t, b01_f, b01_ok, bool_ft, vp_b01, vp_b0, vp_b1, b01_eq0, b01_eq1, implies_true, nI_add, nI_clamp, zi_in, zi_le_t, zi_le_f, zi_lt_t, zi_lt_f, zi_eq_t, zi_eq_f, nI_leI, nI_ltI, nI_eq, z_in, pk_mul, zu_same, zu_rw, zu_ix, zi_ne0, zi_sub, zi_m1, Nat.add_sub_cancel, Nat.reduceMul, Nat.reduceSub]
      refine ⟨fun he => hVQ _ _ ⟨by rw [← hT, if_pos he], rfl⟩, fun he => ?_⟩
      rw [if_neg he] at hT
      have loopS : ∀ s, s ≤ tns t → ∀ x6, zW V YX10_tree 36 [some (.ref b), some (.int all), some (.int inn), some (.int sum), some (.int (oK lv (shO t inn s))), some (.int (nI s)), x6] [] (z, h, S, L) 0 0 := by
        refine z_down ?_ (fun s hs ihs => ?_)
        · intro x6
          cases ha : shO t inn (tns t) with
          | none =>
            rw [ha] at hT
            rw [show oK lv none = -1 from rfl]
            refine sX10_tree_36 _ _ _ _ _ ?_
            simp (disch := omega) only [oAld, oAld1, oBin, oGI, oGR, oIf, oIfc, oIld, oInc, oIst, oNop, oPush, oRI, hM.1, hM.r24, hM.t24, hM.n24, hM.r25, hM.t25, hM.n25, hM.r26, hM.t26, hM.n26, hM.r27, hM.t27, hM.n27, hl, hns, m1nle, List.getElem?_cons_zero, List.getElem?_cons_succ, List.set_cons_zero, List.set_cons_succ, List.drop_succ_cons, List.drop_zero, List.take_succ_cons, List.take_zero, List.length_cons, List.length_nil, List.reverse_cons, List.reverse_nil, List.nil_append, List.cons_append, Option.toList_some, Option.toList_none, va_rf_s, true_and, and_true, true_implies, false_implies, not_true_eq_false, not_false_eq_true, Nat.reduceAdd, Nat.reduceLeDiff, Nat.le_add_left, Nat.zero_le, Nat.le_refl, znew, true_or, or_true, b01_t, b01_f, b01_ok, bool_ft, vp_b01, vp_b0, vp_b1, b01_eq0, b01_eq1, implies_true, nI_add, nI_clamp, zi_in, zi_le_t, zi_le_f, zi_lt_t, zi_lt_f, zi_eq_t, zi_eq_f, nI_leI, nI_ltI, nI_eq, z_in, pk_mul, zu_same, zu_rw, zu_ix, zi_ne0, zi_sub, zi_m1, Nat.add_sub_cancel, Nat.reduceMul, Nat.reduceSub]
            exact hVQ _ _ ⟨by rw [← hT], rfl⟩
          | some k =>
            rw [ha] at hT
            obtain ⟨hk, hkn⟩ := shO_lt ha
            obtain ⟨⟨h1, h1'⟩, ⟨h2, h2'⟩, h12⟩ := hX.2.1 k hk
            have h3 := hX.2.2.2.2.1 k hk
            rw [show oK lv (some k) = nI (10 * lv + k) from rfl]
            refine sX10_tree_36 _ _ _ _ _ ?_
            simp (disch := omega) only [oAld, oAld1, oBin, oGI, oGR, oIf, oIfc, oIld, oInc, oIst, oNop, oPush, oRI, hM.1, hM.r24, hM.t24, hM.n24, hM.r25, hM.t25, hM.n25, hM.r26, hM.t26, hM.n26, hM.r27, hM.t27, hM.n27, hl, hns, h1, h2, h3, List.getElem?_cons_zero, List.getElem?_cons_succ, List.set_cons_zero, List.set_cons_succ, List.drop_succ_cons, List.drop_zero, List.take_succ_cons, List.take_zero, List.length_cons, List.length_nil, List.reverse_cons, List.reverse_nil, List.nil_append, List.cons_append, Option.toList_some, Option.toList_none, va_rf_s, true_and, and_true, true_implies, false_implies, not_true_eq_false, not_false_eq_true, Nat.reduceAdd, Nat.reduceLeDiff, Nat.le_add_left, Nat.zero_le, Nat.le_refl, znew, true_or, or_true, b01_t, b01_f, b01_ok, bool_ft, vp_b01, vp_b0, vp_b1, b01_eq0, b01_eq1, implies_true, nI_add, nI_clamp, zi_in, zi_le_t, zi_le_f, zi_lt_t, zi_lt_f, zi_eq_t, zi_eq_f, nI_leI, nI_ltI, nI_eq, z_in, pk_mul, zu_same, zu_rw, zu_ix, zi_ne0, zi_sub, zi_m1, Nat.add_sub_cancel, Nat.reduceMul, Nat.reduceSub]
            have hm := tr_more hnc7 h1' h2' hkn
            exact ih (inn ||| (bitF (tone t k) ||| bitF (toth t k))) (sum + tlo t k) (by have := cntN_le (bt (inn ||| (bitF (tone t k) ||| bitF (toth t k)))) (tnc t); omega) hT _ _ _
        · intro x6
          obtain ⟨⟨h1, h1'⟩, ⟨h2, h2'⟩, h12⟩ := hX.2.1 s hs
          have h3 := hX.2.2.2.2.1 s hs
          have hst : shO t inn (s + 1) = if bt inn (tone t s) = bt inn (toth t s) then shO t inn s else (match shO t inn s with
            | none => some s
            | some b => if tlo t s < tlo t b then some s else some b) := rfl
          rw [hst] at ihs
          cases ha : shO t inn s with
          | none =>
            rw [ha] at ihs
            rw [show oK lv none = -1 from rfl]
            refine sX10_tree_36 _ _ _ _ _ ?_
            simp (disch := omega) only [oAld, oAld1, oBin, oGI, oGR, oIf, oIfc, oIld, oInc, oIst, oNop, oPush, oRI, hM.1, hM.r24, hM.t24, hM.n24, hM.r25, hM.t25, hM.n25, hM.r26, hM.t26, hM.n26, hM.r27, hM.t27, hM.n27, hl, hns, h1, h2, m1lt, b_oneq, List.getElem?_cons_zero, List.getElem?_cons_succ, List.set_cons_zero, List.set_cons_succ, List.drop_succ_cons, List.drop_zero, List.take_succ_cons, List.take_zero, List.length_cons, List.length_nil, List.reverse_cons, List.reverse_nil, List.nil_append, List.cons_append, Option.toList_some, Option.toList_none, va_rf_s, true_and, and_true, true_implies, false_implies, not_true_eq_false, not_false_eq_true, Nat.reduceAdd, Nat.reduceLeDiff, Nat.le_add_left, Nat.zero_le, Nat.le_refl, znew, true_or, or_true, b01_t, b01_f, b01_ok, bool_ft, vp_b01, vp_b0, vp_b1, b01_eq0, b01_eq1, implies_true, nI_add, nI_clamp, zi_in, zi_le_t, zi_le_f, zi_lt_t, zi_lt_f, zi_eq_t, zi_eq_f, nI_leI, nI_ltI, nI_eq, z_in, pk_mul, zu_same, zu_rw, zu_ix, zi_ne0, zi_sub, zi_m1, Nat.add_sub_cancel, Nat.reduceMul, Nat.reduceSub]
            refine ⟨fun hc => ?_, fun hc => ?_⟩
            · rw [if_pos hc] at ihs; exact ihs _
            · rw [if_neg hc] at ihs; exact ihs _
          | some k =>
            rw [ha] at ihs
            have hk := (shO_lt ha).1
            have h4 := hX.2.2.2.2.1 k (by omega)
            rw [show oK lv (some k) = nI (10 * lv + k) from rfl]
            refine sX10_tree_36 _ _ _ _ _ ?_
            simp (disch := omega) only [oAld, oAld1, oBin, oGI, oGR, oIf, oIfc, oIld, oInc, oIst, oNop, oPush, oRI, hM.1, hM.r24, hM.t24, hM.n24, hM.r25, hM.t25, hM.n25, hM.r26, hM.t26, hM.n26, hM.r27, hM.t27, hM.n27, hl, hns, h1, h2, b_oneq, h3, h4, List.getElem?_cons_zero, List.getElem?_cons_succ, List.set_cons_zero, List.set_cons_succ, List.drop_succ_cons, List.drop_zero, List.take_succ_cons, List.take_zero, List.length_cons, List.length_nil, List.reverse_cons, List.reverse_nil, List.nil_append, List.cons_append, Option.toList_some, Option.toList_none, va_rf_s, true_and, and_true, true_implies, false_implies, not_true_eq_false, not_false_eq_true, Nat.reduceAdd, Nat.reduceLeDiff, Nat.le_add_left, Nat.zero_le, Nat.le_refl, znew, true_or, or_true, b01_t, b01_f, b01_ok, bool_ft, vp_b01, vp_b0, vp_b1, b01_eq0, b01_eq1, implies_true, nI_add, nI_clamp, zi_in, zi_le_t, zi_le_f, zi_lt_t, zi_lt_f, zi_eq_t, zi_eq_f, nI_leI, nI_ltI, nI_eq, z_in, pk_mul, zu_same, zu_rw, zu_ix, zi_ne0, zi_sub, zi_m1, Nat.add_sub_cancel, Nat.reduceMul, Nat.reduceSub]
            refine ⟨fun hc => ?_, fun hc => ⟨fun hc2 => ?_, fun hc2 => ?_⟩⟩
            · rw [if_pos hc] at ihs; exact ihs _
            · rw [if_neg hc] at ihs; simp only [if_neg (i_nle hc2)] at ihs; exact ihs _
            · rw [if_neg hc] at ihs; simp only [if_pos (i_lt hc2)] at ihs; exact ihs _
      exact loopS 0 (by omega) _
  refine sX10_tree_0 _ _ _ _ _ ?_
  simp (disch := omega) only [oAld, oAld1, oBin, oGI, oGR, oIf, oIld, oIst, oPush, oRI, hM.1, hM.r23, hM.t23, hM.n23, hl, hnc, hbf, hall, hne, List.getElem?_cons_zero, List.getElem?_cons_succ, List.set_cons_zero, List.set_cons_succ, List.drop_succ_cons, List.drop_zero, List.take_succ_cons, List.take_zero, List.length_cons, List.length_nil, List.reverse_cons, List.reverse_nil, List.nil_append, List.cons_append, Option.toList_some, Option.toList_none, va_rf_s, true_and, and_true, true_implies, false_implies, not_true_eq_false, not_false_eq_true, Nat.reduceAdd, Nat.reduceLeDiff, Nat.le_add_left, Nat.zero_le, Nat.le_refl, znew, true_or, or_true, b01_t, b01_f, b01_ok, bool_ft, vp_b01, vp_b0, vp_b1, b01_eq0, b01_eq1, implies_true, nI_add, nI_clamp, zi_in, zi_le_t, zi_le_f, zi_lt_t, zi_lt_f, zi_eq_t, zi_eq_f, nI_leI, nI_ltI, nI_eq, z_in, pk_mul, zu_same, zu_rw, zu_ix, zi_ne0, zi_sub, zi_m1, Nat.add_sub_cancel, Nat.reduceMul, Nat.reduceSub]
  exact loop 9 (nI 1) (nI 0) (by omega) rfl _ _ _
end MP
